set_option maxRecDepth 100000
/-! THE COMPONENT's STATE: the object a, its lists Z 0 .. Z 2, their arrays Z 3 .. Z 5, its ships gs, lamps gl, requests gr; what is its own lies from lo on -/
abbrev stF (Z : Nat → Nat) (S : aS) : List Value := [.ref (Z 0), .ref (Z 1), .ref (Z 2), .int S.oil, .int S.hour, .int S.office, .int S.refused]
def sDis (G : wdG) (x y : Nat) : Prop := x = G.2.2.2.1 0 ∨ x ≠ y
def isS (G : wdG) (w : wdW) (lo a : Nat) (Z gs gl gr : Nat → Nat) (S : aS) : Prop :=
  (w.1 1 a = some (.inl (stF Z S)) ∧ lo ≤ a) ∧
  (isL G w (Z 0) (Z 3) S.ns gs ∧ isL G w (Z 1) (Z 4) S.nl gl ∧ isL G w (Z 2) (Z 5) S.nr gr) ∧
  ((lo ≤ Z 0 ∧ lo ≤ Z 1 ∧ lo ≤ Z 2) ∧ (Z 0 ≠ Z 1 ∧ Z 0 ≠ Z 2 ∧ Z 1 ≠ Z 2) ∧ (Z 3 = G.2.2.2.1 0 ∨ lo ≤ Z 3) ∧ (Z 4 = G.2.2.2.1 0 ∨ lo ≤ Z 4) ∧ (Z 5 = G.2.2.2.1 0 ∨ lo ≤ Z 5) ∧ sDis G (Z 3) (Z 4) ∧ sDis G (Z 3) (Z 5) ∧ sDis G (Z 4) (Z 5)) ∧
  ((∀ i, i < S.ns → w.1 3 (gs i) = some (.inl (shF (S.sh i))) ∧ lo ≤ gs i) ∧ ∀ i j, i < S.ns → j < S.ns → gs i = gs j → i = j) ∧
  ((∀ i, i < S.nl → w.1 4 (gl i) = some (.inl (laF (S.la i))) ∧ lo ≤ gl i) ∧ ∀ i j, i < S.nl → j < S.nl → gl i = gl j → i = j) ∧
  (∀ k, k < S.nr → w.1 6 (gr k) = some (.inl (rqF (S.rq k))))
abbrev nP : Nat → Prop := fun _ => False
theorem wFr.at {P : Nat → Prop} {G : wdG} {w w' : wdW} (h : wFr P w w') (ok : wdOk G w) {k a : Nat} {p : wdPay} (hp : w.1 k a = some p) (hn : ¬ P a) : w'.1 k a = some p := h.eq hp (ok.1 _ _ _ hp).2 hn
theorem isL.fr {G : wdG} {w w' : wdW} {L arr n : Nat} {g : Nat → Nat} (h : isL G w L arr n g) (ok : wdOk G w) (e : wFr nP w w') : isL G w' L arr n g := h.to (fun _ hp => e.at ok hp (fun q => q)) (fun _ hp => e.at ok hp (fun q => q))
theorem isS.fr {G : wdG} {w w' : wdW} {lo a : Nat} {Z gs gl gr : Nat → Nat} {S : aS} (h : isS G w lo a Z gs gl gr S) (ok : wdOk G w) (e : wFr nP w w') : isS G w' lo a Z gs gl gr S := by
  obtain ⟨⟨a1, a2⟩, ⟨b1, b2, b3⟩, c, ⟨d1, d2⟩, ⟨e1, e2⟩, f⟩ := h
  exact ⟨⟨e.at ok a1 (fun q => q), a2⟩, ⟨b1.fr ok e, b2.fr ok e, b3.fr ok e⟩, c, ⟨fun i hi => ⟨e.at ok (d1 i hi).1 (fun q => q), (d1 i hi).2⟩, d2⟩, ⟨fun i hi => ⟨e.at ok (e1 i hi).1 (fun q => q), (e1 i hi).2⟩, e2⟩, fun k hk => e.at ok (f k hk) (fun q => q)⟩
/-- an iterator of L at place i -/
def isIt (u : wdW) (it L i : Nat) (mc : Int32) : Prop := ∃ lr, u.1 11 it = some (.inl [.int (nI i), .int lr, .int mc, .ref L])
theorem isIt.put {u : wdW} {it L i : Nat} {mc : Int32} (h : isIt u it L i mc) {k a : Nat} {p : wdPay} (hk : 11 ≠ k) : isIt (wPut u k a p) it L i mc := by
  obtain ⟨lr, h⟩ := h
  exact ⟨lr, (wPut_k hk).trans h⟩
set_option maxHeartbeats 4000000 in
/-- for (C x : list) -/
theorem WW.each {X : wdX} {it L arr n : Nat} {mc : Int32} {g : Nat → Nat} {r : vw_C} {idxH idxN idxC cH cN : Nat} {off : Int} {p1 p2 : Nat} (ci pc pB tEnd : Nat) (kc ks : Nat → Nat) (lv lvB : Nat → List (Nat × Value)) (Inv : Nat → wdW → Prop)
    (hInv : ∀ i u, Inv i u → isL X.G u L arr n g ∧ u.1 10 L = some (.inl [.int mc, .ref arr, .int (nI n)])) (hel : ∀ i u, i < n → Inv i u → ∃ fs, u.1 ci (g i) = some (.inl fs)) (hput : ∀ i u p, Inv i u → Inv i (wPut u 11 it p))
    (r1 : ∀ i, wdRun X.M.nL X.M.tab 1 pc (lv i) [] = some (p1, lv i, [.ref it])) (t1 : X.M.tab p1 = some (.invokeinterface idxH cH, 5)) (m1 : wdLF X.M.y.cls RJ7 idxH ({ cls := "java/util/Iterator", name := "hasNext", desc := "()Z" } : Jvm.MethodName) MJ7_hasNext 0)
    (t2 : X.M.tab (p1 + 5) = some (.ifCond .eq off, 3)) (g2 : ((p1 + 5 : Nat) : Int) + off = (tEnd : Int)) (r2 : ∀ i, wdRun X.M.nL X.M.tab 1 (p1 + 5 + 3) (lv i) [] = some (p2, lv i, [.ref it])) (t3 : X.M.tab p2 = some (.invokeinterface idxN cN, 5)) (m2 : wdLF X.M.y.cls RJ7 idxN ({ cls := "java/util/Iterator", name := "next", desc := "()Ljava/lang/Object;" } : Jvm.MethodName) MJ7_next 0)
    (t4 : X.M.tab (p2 + 5) = some (.checkcast idxC, 3)) (hr : wdCl[ci]? = some r) (l4 : (Cond.classLink X.M.y.cls idxC r.1) ∈ lw_all) (r3 : ∀ i, wdRun X.M.nL X.M.tab 1 (p2 + 5 + 3) (lv i) [.ref (g i)] = some (pB, lvB i, [])) (hd : 2 ≤ X.d)
    (body : ∀ i u, i < n → Inv i u → isIt u it L (i + 1) mc → (∀ u', Inv (i + 1) u' → isIt u' it L (i + 1) mc → WW X (kc (i + 1)) (ks (i + 1)) pc (lv (i + 1)) [] u') → WW X (kc i) (ks i) pB (lvB i) [] u)
    (fin : ∀ u, Inv n u → WW X (kc n) (ks n) tEnd (lv n) [] u) {w : wdW} (h0 : Inv 0 w) (hi0 : isIt w it L 0 mc) : WW X (kc 0) (ks 0) pc (lv 0) [] w := by
  refine WW.upW n kc ks lv (fun i u => Inv i u ∧ isIt u it L i mc) (fun i u hi hI ih => ?_) (fun u hI => ?_) ⟨h0, hi0⟩
  · obtain ⟨hI, lr, hit⟩ := hI
    obtain ⟨hL, hm⟩ := hInv i u hI
    refine WW.run 1 (r1 i) ?_
    refine WW.callF [] it [] t1 m1 (sI_hasNext (l := X.l) hit hL (Nat.le_of_lt hi)) hit rfl rfl rfl (wd_le rfl) (by omega) (Nat.zero_le _) (Nat.zero_le _) (fun o w' hq => ?_)
    obtain ⟨rfl, hw9⟩ := hq
    show WW X (kc i) (ks i) (p1 + 5) (lv i) [.int (bI (Nat.blt i n))] w'
    rw [hw9, show Nat.blt i n = true from Nat.ble_eq_true_of_le hi]
    refine WW.if_eq t2 g2 (fun hno => absurd hno (by decide)) (fun _ => ?_)
    refine WW.run 1 (r2 i) ?_
    refine WW.callF [] it [] t3 m2 (sI_next (l := X.l) hit hm hL hi) hit rfl rfl rfl (wd_le rfl) (by omega) (Nat.zero_le _) (Nat.zero_le _) (fun o w' hq => ?_)
    obtain ⟨rfl, hw8⟩ := hq
    show WW X (kc i) (ks i) (p2 + 5) (lv i) [.ref (g i)] w'
    have hI2 : Inv i w' := by rw [hw8]; exact hput i u _ hI
    obtain ⟨fs, hg⟩ := hel i w' hi hI2
    refine WW.castY t4 hg hr l4 (Or.inl rfl) ?_
    refine WW.run 1 (r3 i) ?_
    exact body i w' hi hI2 ⟨_, by rw [hw8]; exact wPut_same _ _ _ _⟩ (fun u' h1 h2 => ih u' ⟨h1, h2⟩)
  · obtain ⟨hI, lr, hit⟩ := hI
    obtain ⟨hL, hm⟩ := hInv n u hI
    refine WW.run 1 (r1 n) ?_
    refine WW.callF [] it [] t1 m1 (sI_hasNext (l := X.l) hit hL (Nat.le_refl _)) hit rfl rfl rfl (wd_le rfl) (by omega) (Nat.zero_le _) (Nat.zero_le _) (fun o w' hq => ?_)
    obtain ⟨rfl, hw9⟩ := hq
    show WW X (kc n) (ks n) (p1 + 5) (lv n) [.int (bI (Nat.blt n n))] w'
    rw [hw9, show Nat.blt n n = false from Bool.eq_false_iff.mpr (fun q => absurd (Nat.le_of_ble_eq_true q) (Nat.not_succ_le_self n))]
    exact WW.if_eq t2 g2 (fun _ => fin u hI) (fun hno => absurd rfl hno)
/-- what a question's loop over a list knows: nothing of before has changed -/
def qInv (G : wdG) (w : wdW) (L arr n : Nat) (g : Nat → Nat) (mc : Int32) (u : wdW) : Prop := wFr nP w u ∧ isL G u L arr n g ∧ u.1 10 L = some (.inl [.int mc, .ref arr, .int (nI n)])
theorem qInv.put {G : wdG} {w : wdW} {L arr n : Nat} {g : Nat → Nat} {mc : Int32} {u : wdW} (h : qInv G w L arr n g mc u) {it : Nat} (hit : w.2 ≤ it) (p : wdPay) : qInv G w L arr n g mc (wPut u 11 it p) := ⟨h.1.put (Or.inr hit), h.2.1.to (fun _ hp => (wPut_k (by decide)).trans hp) (fun _ hp => (wPut_k (by decide)).trans hp), (wPut_k (by decide)).trans h.2.2⟩
theorem qInv.start {G : wdG} {w : wdW} {L arr n : Nat} {g : Nat → Nat} {mc : Int32} (ok : wdOk G w) (h : isL G w L arr n g) (hm : w.1 10 L = some (.inl [.int mc, .ref arr, .int (nI n)])) {q : Nat} (hq : w.2 ≤ q) (p : wdPay) : qInv G w L arr n g mc (wNew w 11 q p) := by
  have fr : wFr nP w (wNew w 11 q p) := (wFr.refl _ _).new hq
  exact ⟨fr, h.fr ok fr, fr.at ok hm (fun q => q)⟩
section
variable {l : Launch} {G : wdG} {w : wdW} {lo a : Nat} {Z gs gl gr : Nat → Nat} {S : aS}
theorem cS_leased (hS : isS G w lo a Z gs gl gr S) (hW : aWf S) : Sp l G MX2_leased 3 1 4 [.ref a] w (fun o w' => o = .inl (some (.int S.leased)) ∧ wFr nP w w') := by
  refine Sp.of rfl (by decide +kernel) kX2_leased (wd_le rfl) ?_
  refine WW.ok fun ok => ?_
  replace ok : wdOk G w := ok
  have h1 := hS.1.1
  refine WW.run (pc' := 3) (lv' := [(1, .int (nI 0)), (0, .ref a)]) (st' := [.ref a]) 3 rfl ?_
  refine WW.get rfl fX2_18 h1 (show _ = some (.ref (Z 1)) from rfl) ?_
  have hl := hS.2.1.2.1
  obtain ⟨mc0, hl0⟩ := hl.1
  refine WW.callV [] (Z 1) [] rfl mX2_25 (sL_iterator hl) (wdRecv.obj hl0 rfl) rfl rfl (wd_le rfl) (wd_le rfl) (wd_le rfl) (wd_le rfl) (fun o w' hq => ?_)
  obtain ⟨it, mc, hit, rfl, hw, hmc⟩ := hq
  show WW _ _ _ 9 _ [.ref it] _
  refine WW.run (pc' := 10) (lv' := [(2, .ref it), (1, .int (nI 0)), (0, .ref a)]) (st' := []) 1 rfl ?_
  have hq0 := qInv.start ok hl hmc hit (.inl [.int (nI 0), .int (-1), .int mc, .ref (Z 1)])
  rw [← hw] at hq0
  refine WW.each 4 10 29 47 (fun _ => 0) (fun _ => 0) (fun i => [(2, .ref it), (1, .int (aSum (fun z => bI (Nat.blt 0 (S.la z).le)) i)), (0, .ref a)]) (fun i => [(3, .ref (gl i)), (2, .ref it), (1, .int (aSum (fun z => bI (Nat.blt 0 (S.la z).le)) i)), (0, .ref a)]) (fun _ u => qInv G w (Z 1) (Z 4) S.nl gl mc u) (fun _ _ h => h.2) (fun i u hi h => ⟨_, ((hS.fr ok h.1).2.2.2.2.1.1 i hi).1⟩) (fun _ _ p h => h.put hit p) (fun _ => rfl) rfl mX2_29 rfl rfl (fun _ => rfl) rfl mX2_35 rfl rfl lX2_49 (fun _ => rfl) (wd_le rfl) (fun i u hi hI hIt ih => ?_) (fun u hI => ?_) hq0 ⟨-1, by rw [hw]; exact wNew_same _ _ _ _⟩
  · skip
    have hla := ((hS.fr ok hI.1).2.2.2.2.1.1 i hi).1
    refine WW.run (pc' := 31) (lv' := [(3, .ref (gl i)), (2, .ref it), (1, .int (aSum (fun z => bI (Nat.blt 0 (S.la z).le)) i)), (0, .ref a)]) (st' := [.ref (gl i), .int (aSum (fun z => bI (Nat.blt 0 (S.la z).le)) i)]) 2 rfl ?_
    refine WW.callV [] (gl i) [.int (aSum (fun z => bI (Nat.blt 0 (S.la z).le)) i)] rfl mX2_89 (sP_isLeased hla (hW.le hi)) (wdRecv.obj hla rfl) rfl rfl (wd_le rfl) (wd_le rfl) (wd_le rfl) (wd_le rfl) (fun o w' hq => ?_)
    obtain ⟨rfl, hw9⟩ := hq
    show WW _ _ _ 34 _ [.int (bI (Nat.blt 0 (S.la i).le)), .int (aSum (fun z => bI (Nat.blt 0 (S.la z).le)) i)] _
    rw [hw9]
    clear hw9 w'
    refine WW.join (pc' := 42) (lv' := [(3, .ref (gl i)), (2, .ref it), (1, .int (aSum (fun z => bI (Nat.blt 0 (S.la z).le)) i)), (0, .ref a)]) (st' := [.int (bI (Nat.blt 0 (S.la i).le)), .int (aSum (fun z => bI (Nat.blt 0 (S.la z).le)) i)]) ?_ ?_
    rotate_left
    · cases hb : (Nat.blt 0 (S.la i).le) with
      | false =>
        intro H
        refine WW.if_eq (tgt := 41) rfl rfl (fun _ => ?_) (fun hno => absurd rfl hno)
        refine WW.run (pc' := 42) (lv' := [(3, .ref (gl i)), (2, .ref it), (1, .int (aSum (fun z => bI (Nat.blt 0 (S.la z).le)) i)), (0, .ref a)]) (st' := [.int (nI 0), .int (aSum (fun z => bI (Nat.blt 0 (S.la z).le)) i)]) 1 rfl ?_
        exact H
      | true =>
        intro H
        refine WW.if_eq (tgt := 41) rfl rfl (fun hno => absurd hno (by decide)) (fun _ => ?_)
        refine WW.run (pc' := 42) (lv' := [(3, .ref (gl i)), (2, .ref it), (1, .int (aSum (fun z => bI (Nat.blt 0 (S.la z).le)) i)), (0, .ref a)]) (st' := [.int (nI 1), .int (aSum (fun z => bI (Nat.blt 0 (S.la z).le)) i)]) 2 rfl ?_
        exact H
    refine WW.run (pc' := 10) (lv' := [(1, .int ((aSum (fun z => bI (Nat.blt 0 (S.la z).le)) i) + (bI (Nat.blt 0 (S.la i).le)))), (3, .ref (gl i)), (2, .ref it), (0, .ref a)]) (st' := []) 3 rfl ?_
    refine WW.pick (lv' := [(2, .ref it), (1, .int ((aSum (fun z => bI (Nat.blt 0 (S.la z).le)) i) + (bI (Nat.blt 0 (S.la i).le)))), (0, .ref a)]) [2, 0, 3] rfl ?_
    exact ih _ hI hIt
  refine WW.run (pc' := 48) (lv' := [(2, .ref it), (1, .int (aSum (fun z => bI (Nat.blt 0 (S.la z).le)) S.nl)), (0, .ref a)]) (st' := [.int (aSum (fun z => bI (Nat.blt 0 (S.la z).le)) S.nl)]) 1 rfl ?_
  exact WW.iret rfl rfl rfl ⟨rfl, hI.1⟩
end
