set_option maxRecDepth 100000
/-! THE COMPONENT's CHANGES OF A STATE -/
/-- the classes that are thrown, by number -/
abbrev eN (ci : Nat) : String := match ci with
  | 13 => "java/lang/IndexOutOfBoundsException"
  | 14 => "java/lang/IllegalArgumentException"
  | 15 => "java/lang/IllegalStateException"
  | 16 => "java/util/NoSuchElementException"
  | 17 => "java/lang/UnsupportedOperationException"
  | _ => "java/lang/ArithmeticException"
/-- thrown: an object of class ci; what lies in P may have changed -/
def tQ (P : Nat → Prop) (ci : Nat) (w : wdW) : wdO → wdW → Prop := fun o w' => ∃ q, w.2 ≤ q ∧ o = .inr (eN ci, q) ∧ wFr P w w' ∧ w'.1 ci q = some (.inl [])
theorem isS.lP0 {G : wdG} {w : wdW} {lo a : Nat} {Z gs gl gr : Nat → Nat} {S : aS} (h : isS G w lo a Z gs gl gr S) {b : Nat} (hb : lP G (Z 0) (Z 3) b) : lo ≤ b := by
  obtain ⟨-, -, ⟨⟨c1, c2, c3⟩, -, c5, c6, c7, -⟩, -⟩ := h
  rcases hb with rfl | ⟨rfl, hb⟩
  · exact c1
  · exact c5.resolve_left hb
theorem isS.lP1 {G : wdG} {w : wdW} {lo a : Nat} {Z gs gl gr : Nat → Nat} {S : aS} (h : isS G w lo a Z gs gl gr S) {b : Nat} (hb : lP G (Z 1) (Z 4) b) : lo ≤ b := by
  obtain ⟨-, -, ⟨⟨c1, c2, c3⟩, -, c5, c6, c7, -⟩, -⟩ := h
  rcases hb with rfl | ⟨rfl, hb⟩
  · exact c2
  · exact c6.resolve_left hb
theorem isS.lP2 {G : wdG} {w : wdW} {lo a : Nat} {Z gs gl gr : Nat → Nat} {S : aS} (h : isS G w lo a Z gs gl gr S) {b : Nat} (hb : lP G (Z 2) (Z 5) b) : lo ≤ b := by
  obtain ⟨-, -, ⟨⟨c1, c2, c3⟩, -, c5, c6, c7, -⟩, -⟩ := h
  rcases hb with rfl | ⟨rfl, hb⟩
  · exact c3
  · exact c7.resolve_left hb
theorem wFr.thn {P P' : Nat → Prop} {w w1 w2 : wdW} (h : wFr P' w w1) (h' : wFr P w1 w2) (hp : ∀ b, b < w.2 → P b → P' b) : wFr P' w w2 := ⟨⟨fun b hb hn k => (h'.1.1 b (Nat.lt_of_lt_of_le hb h.2) (fun q => hn (hp b hb q)) k).trans (h.1.1 b hb hn k), h'.1.2.trans h.1.2⟩, Nat.le_trans h.2 h'.2⟩
theorem wFr.thn0 {P : Nat → Prop} {w w1 w2 : wdW} (h : wFr P w w1) (h' : wFr nP w1 w2) : wFr P w w2 := h.thn h' (fun _ _ q => absurd q (fun z => z))
theorem tQ.thn {P P' : Nat → Prop} {ci : Nat} {w0 w : wdW} {o : wdO} {w' : wdW} (h : tQ P ci w o w') (e : wFr P' w0 w) (hp : ∀ b, b < w0.2 → P b → P' b) : tQ P' ci w0 o w' := by
  obtain ⟨q, h1, h2, h3, h4⟩ := h
  exact ⟨q, Nat.le_trans e.2 h1, h2, e.thn h3 hp, h4⟩
/-- a command's end: the exception of its place in the list, or the answer and the new state -/
def cQ (G : wdG) (lo a : Nat) (es : List Nat) (r : aR) (w : wdW) : wdO → wdW → Prop := fun o w' => match r with
  | .inl p => ∃ ci, es[p - 1]? = some ci ∧ tQ (hP lo) ci w o w'
  | .inr q => o = .inl (some (.int q.1)) ∧ (∃ Z gs gl gr, isS G w' lo a Z gs gl gr q.2) ∧ wFr (hP lo) w w'
section
variable {l : Launch} {G : wdG} {w : wdW} {lo a : Nat} {Z gs gl gr : Nat → Nat} {S : aS}
theorem cS_ship (hS : isS G w lo a Z gs gl gr S) (hW : aWf S) (x : Int32) : Sp l G MX2_ship 7 1 6 [.ref a, .int x] w (fun o w' => bif S.ixS x then o = .inl (some (.ref (gs (tn x)))) ∧ w' = w else tQ nP 13 w o w') := by
  refine Sp.of rfl (by decide +kernel) kX2_ship (wd_le rfl) ?_
  have h1 := hS.1.1
  have hl := hS.2.1.1
  obtain ⟨mc0, hl0⟩ := hl.1
  refine WW.run (pc' := 3) (lv' := [(0, .ref a), (1, .int x)]) (st' := [.ref a, .int (nI 0), .int x]) 3 rfl ?_
  refine WW.get rfl fX2_12 h1 (show _ = some (.ref (Z 0)) from rfl) ?_
  refine WW.callV [] (Z 0) [.int (nI 0), .int x] rfl mX2_69 (sL_size hl) (wdRecv.obj hl0 rfl) rfl rfl (wd_le rfl) (wd_le rfl) (wd_le rfl) (wd_le rfl) (fun o w' hq => ?_)
  obtain ⟨rfl, hw9⟩ := hq
  show WW _ _ _ 9 _ [.int (nI S.ns), .int (nI 0), .int x] _
  rw [hw9]
  clear hw9 w'
  refine WW.run (pc' := 11) (lv' := [(0, .ref a), (1, .int x)]) (st' := [.int ((nI S.ns) - (nI 1)), .int (nI 0), .int x]) 2 rfl ?_
  refine WW.callSN [.int x, .int (nI 0), .int ((nI S.ns) - (nI 1))] [] rfl mX2_73 (sO_between x (nI 0) (nI S.ns - nI 1)) rfl rfl (wd_le rfl) (wd_le rfl) (wd_le rfl) (wd_le rfl) (fun o w' hq => ?_)
  obtain ⟨rfl, hw9⟩ := hq
  show WW _ _ _ 14 _ [.int (bI (S.ixS x))] _
  rw [hw9]
  clear hw9 w'
  refine WW.callSN [.int (bI (S.ixS x))] [] rfl mX2_77 (sO_requireIndex (S.ixS x)) rfl rfl (wd_le rfl) (wd_le rfl) (wd_le rfl) (wd_le rfl) (fun o w' hq => ?_)
  cases hx : S.ixS x with
  | false =>
    rw [hx] at hq
    obtain ⟨q, h2, rfl, h3, h4⟩ := hq
    show WX _ _ _ 14 _ [] _ _ _
    exact WX.out (fun _ h => nomatch h) ⟨q, h2, rfl, h3, h4⟩
  | true =>
    rw [hx] at hq
    obtain ⟨rfl, hw9⟩ := hq
    show WW _ _ _ 17 _ [] _
    rw [hw9]
    obtain ⟨j, hj, rfl, tx⟩ := hW.ixS hx
    have hsh := (hS.2.2.2.1.1 j hj).1
    have h1 := hS.1.1
    refine WW.run (pc' := 18) (lv' := [(0, .ref a), (1, .int (nI j))]) (st' := [.ref a]) 1 rfl ?_
    refine WW.get rfl fX2_12 h1 (show _ = some (.ref (Z 0)) from rfl) ?_
    refine WW.run (pc' := 22) (lv' := [(0, .ref a), (1, .int (nI j))]) (st' := [.int (nI j), .ref (Z 0)]) 1 rfl ?_
    refine WW.callV [.int (nI j)] (Z 0) [] rfl mX2_81 (sL_get hl hj) (wdRecv.obj hl0 rfl) rfl rfl (wd_le rfl) (wd_le rfl) (wd_le rfl) (wd_le rfl) (fun o w' hq => ?_)
    obtain ⟨rfl, hw9⟩ := hq
    show WW _ _ _ 25 _ [.ref (gs j)] _
    rw [hw9]
    clear hw9 w'
    refine WW.castY rfl hsh rfl lX2_39 (Or.inl rfl) ?_
    exact WW.aret rfl rfl (Or.inl ⟨_, rfl⟩) (Or.inr ⟨_, rfl⟩) ⟨by rw [tx], rfl⟩
theorem cS_lamp (hS : isS G w lo a Z gs gl gr S) (hW : aWf S) (x : Int32) : Sp l G MX2_lamp 7 1 6 [.ref a, .int x] w (fun o w' => bif S.ixL x then o = .inl (some (.ref (gl (tn x)))) ∧ w' = w else tQ nP 13 w o w') := by
  refine Sp.of rfl (by decide +kernel) kX2_lamp (wd_le rfl) ?_
  have h1 := hS.1.1
  have hl := hS.2.1.2.1
  obtain ⟨mc0, hl0⟩ := hl.1
  refine WW.run (pc' := 3) (lv' := [(0, .ref a), (1, .int x)]) (st' := [.ref a, .int (nI 0), .int x]) 3 rfl ?_
  refine WW.get rfl fX2_18 h1 (show _ = some (.ref (Z 1)) from rfl) ?_
  refine WW.callV [] (Z 1) [.int (nI 0), .int x] rfl mX2_69 (sL_size hl) (wdRecv.obj hl0 rfl) rfl rfl (wd_le rfl) (wd_le rfl) (wd_le rfl) (wd_le rfl) (fun o w' hq => ?_)
  obtain ⟨rfl, hw9⟩ := hq
  show WW _ _ _ 9 _ [.int (nI S.nl), .int (nI 0), .int x] _
  rw [hw9]
  clear hw9 w'
  refine WW.run (pc' := 11) (lv' := [(0, .ref a), (1, .int x)]) (st' := [.int ((nI S.nl) - (nI 1)), .int (nI 0), .int x]) 2 rfl ?_
  refine WW.callSN [.int x, .int (nI 0), .int ((nI S.nl) - (nI 1))] [] rfl mX2_73 (sO_between x (nI 0) (nI S.nl - nI 1)) rfl rfl (wd_le rfl) (wd_le rfl) (wd_le rfl) (wd_le rfl) (fun o w' hq => ?_)
  obtain ⟨rfl, hw9⟩ := hq
  show WW _ _ _ 14 _ [.int (bI (S.ixL x))] _
  rw [hw9]
  clear hw9 w'
  refine WW.callSN [.int (bI (S.ixL x))] [] rfl mX2_77 (sO_requireIndex (S.ixL x)) rfl rfl (wd_le rfl) (wd_le rfl) (wd_le rfl) (wd_le rfl) (fun o w' hq => ?_)
  cases hx : S.ixL x with
  | false =>
    rw [hx] at hq
    obtain ⟨q, h2, rfl, h3, h4⟩ := hq
    show WX _ _ _ 14 _ [] _ _ _
    exact WX.out (fun _ h => nomatch h) ⟨q, h2, rfl, h3, h4⟩
  | true =>
    rw [hx] at hq
    obtain ⟨rfl, hw9⟩ := hq
    show WW _ _ _ 17 _ [] _
    rw [hw9]
    obtain ⟨j, hj, rfl, tx⟩ := hW.ixL hx
    have hla := (hS.2.2.2.2.1.1 j hj).1
    have h1 := hS.1.1
    refine WW.run (pc' := 18) (lv' := [(0, .ref a), (1, .int (nI j))]) (st' := [.ref a]) 1 rfl ?_
    refine WW.get rfl fX2_18 h1 (show _ = some (.ref (Z 1)) from rfl) ?_
    refine WW.run (pc' := 22) (lv' := [(0, .ref a), (1, .int (nI j))]) (st' := [.int (nI j), .ref (Z 1)]) 1 rfl ?_
    refine WW.callV [.int (nI j)] (Z 1) [] rfl mX2_81 (sL_get hl hj) (wdRecv.obj hl0 rfl) rfl rfl (wd_le rfl) (wd_le rfl) (wd_le rfl) (wd_le rfl) (fun o w' hq => ?_)
    obtain ⟨rfl, hw9⟩ := hq
    show WW _ _ _ 25 _ [.ref (gl j)] _
    rw [hw9]
    clear hw9 w'
    refine WW.castY rfl hla rfl lX2_49 (Or.inl rfl) ?_
    exact WW.aret rfl rfl (Or.inl ⟨_, rfl⟩) (Or.inr ⟨_, rfl⟩) ⟨by rw [tx], rfl⟩
theorem cS_leasedLamp (hS : isS G w lo a Z gs gl gr S) (hW : aWf S) (x : Int32) : Sp l G MX2_leasedLamp 8 2 12 [.ref a, .int x] w (fun o w' => bif S.ixL x then (bif Nat.blt 0 (S.la (tn x)).le then o = .inl (some (.ref (gl (tn x)))) ∧ w' = w else tQ nP 16 w o w') else tQ nP 13 w o w') := by
  refine Sp.of rfl (by decide +kernel) kX2_leasedLamp (wd_le rfl) ?_
  have h1 := hS.1.1
  refine WW.run (pc' := 2) (lv' := [(0, .ref a), (1, .int x)]) (st' := [.int x, .ref a]) 2 rfl ?_
  refine WW.callV [.int x] a [] rfl mX2_85 (cS_lamp hS hW x) (wdRecv.obj h1 rfl) rfl rfl (wd_le rfl) (wd_le rfl) (wd_le rfl) (wd_le rfl) (fun o w' hq => ?_)
  cases hx : S.ixL x with
  | false =>
    rw [hx] at hq
    obtain ⟨q, h2, rfl, h3, h4⟩ := hq
    show WX _ _ _ 2 _ [] _ _ _
    exact WX.out (fun _ h => nomatch h) ⟨q, h2, rfl, h3, h4⟩
  | true =>
    rw [hx] at hq
    obtain ⟨rfl, hw9⟩ := hq
    obtain ⟨j, hj, rfl, tx⟩ := hW.ixL hx
    rw [tx]
    show WW _ _ _ 5 _ [.ref (gl j)] _
    rw [hw9]
    have hla := (hS.2.2.2.2.1.1 j hj).1
    refine WW.run (pc' := 7) (lv' := [(2, .ref (gl j)), (0, .ref a), (1, .int (nI j))]) (st' := [.ref (gl j)]) 2 rfl ?_
    refine WW.callV [] (gl j) [] rfl mX2_89 (sP_isLeased hla (hW.le hj)) (wdRecv.obj hla rfl) rfl rfl (wd_le rfl) (wd_le rfl) (wd_le rfl) (wd_le rfl) (fun o w' hq => ?_)
    obtain ⟨rfl, hw9⟩ := hq
    show WW _ _ _ 10 _ [.int (bI (Nat.blt 0 (S.la j).le))] _
    rw [hw9]
    clear hw9 w'
    refine WW.callSN [.int (bI (Nat.blt 0 (S.la j).le))] [] rfl mX2_92 (sO_requireElement (Nat.blt 0 (S.la j).le)) rfl rfl (wd_le rfl) (wd_le rfl) (wd_le rfl) (wd_le rfl) (fun o w' hq => ?_)
    cases hb : Nat.blt 0 (S.la j).le with
    | false =>
      rw [hb] at hq
      obtain ⟨q, h2, rfl, h3, h4⟩ := hq
      show WX _ _ _ 10 _ [] _ _ _
      exact WX.out (fun _ h => nomatch h) ⟨q, h2, rfl, h3, h4⟩
    | true =>
      rw [hb] at hq
      obtain ⟨rfl, hw8⟩ := hq
      show WW _ _ _ 13 _ [] _
      rw [hw8]
      refine WW.run (pc' := 14) (lv' := [(2, .ref (gl j)), (0, .ref a), (1, .int (nI j))]) (st' := [.ref (gl j)]) 1 rfl ?_
      exact WW.aret rfl rfl (Or.inl ⟨_, rfl⟩) (Or.inr ⟨_, rfl⟩) ⟨rfl, rfl⟩
/-- a check passes on, or throws -/
theorem cS_addShip (hS : isS G w lo a Z gs gl gr S) (hW : aWf S) (hlw : lo ≤ w.2) : Sp l G MX2_addShip 7 3 20 [.ref a] w (cQ G lo a [15] S.doShip w) := by
  refine Sp.of rfl (by decide +kernel) kX2_addShip (wd_le rfl) ?_
  refine WW.ok fun ok => ?_
  replace ok : wdOk G w := ok
  have h1 := hS.1.1
  have hl := hS.2.1.1
  have h6 := hW.1
  obtain ⟨mc0, hl0⟩ := hl.1
  obtain ⟨r, hr⟩ : ∃ r, r = S.doShip := ⟨_, rfl⟩
  rw [← hr]
  unfold aS.doShip at hr
  refine WW.run (pc' := 1) (lv' := [(0, .ref a)]) (st' := [.ref a]) 1 rfl ?_
  refine WW.get rfl fX2_12 h1 (show _ = some (.ref (Z 0)) from rfl) ?_
  refine WW.callV [] (Z 0) [] rfl mX2_69 (sL_size hl) (wdRecv.obj hl0 rfl) rfl rfl (wd_le rfl) (wd_le rfl) (wd_le rfl) (wd_le rfl) (fun o w' hq => ?_)
  obtain ⟨rfl, hw9⟩ := hq
  show WW _ _ _ 7 _ [.int (nI S.ns)] _
  rw [hw9]
  clear hw9 w'
  refine WW.run (pc' := 9) (lv' := [(0, .ref a)]) (st' := [.int (nI 6), .int (nI S.ns)]) 1 rfl ?_
  refine WW.join (pc' := 17) (lv' := [(0, .ref a)]) (st' := [.int (bI (decide (S.ns < 6)))]) ?_ (fun H => ?_)
  rotate_left
  · skip
    by_cases e : S.ns < 6
    · skip
      refine WW.icmp_ge (tgt := 16) rfl rfl (fun hno => absurd hno (nI_ge e (by decide))) (fun _ => ?_)
      refine WW.run (pc' := 17) (lv' := [(0, .ref a)]) (st' := [.int (nI 1)]) 2 rfl ?_
      rw [decide_eq_true e] at H
      exact H
    · skip
      refine WW.icmp_ge (tgt := 16) rfl rfl (fun _ => ?_) (fun hno => absurd (nI_le (by omega) (by omega)) hno)
      refine WW.run (pc' := 17) (lv' := [(0, .ref a)]) (st' := [.int (nI 0)]) 1 rfl ?_
      rw [decide_eq_false e] at H
      exact H
  refine WW.callSN [.int (bI (decide (S.ns < 6)))] [] rfl mX2_104 (sO_requireState (decide (S.ns < 6))) rfl rfl (wd_le rfl) (wd_le rfl) (wd_le rfl) (wd_le rfl) (fun o w' hq => ?_)
  by_cases e : S.ns < 6
  · skip
    rw [if_neg (by omega)] at hr
    subst hr
    rw [decide_eq_true e] at hq
    obtain ⟨rfl, hw9⟩ := hq
    show WW _ _ _ 20 _ [] _
    rw [hw9]
    have h1 := hS.1.1
    refine WW.run (pc' := 21) (lv' := [(0, .ref a)]) (st' := [.ref a]) 1 rfl ?_
    refine WW.get rfl fX2_12 h1 (show _ = some (.ref (Z 0)) from rfl) ?_
    refine WW.new (fs := [.int 0, .int 0, .int 0]) rfl kX2_39 wdBl3 (wd_le rfl) (wd_le rfl) (fun q hq => ?_)
    have ha : (wNew w 3 q (.inl [.int 0, .int 0, .int 0])).1 3 q = some (.inl [.int 0, .int 0, .int 0]) := wNew_same _ _ _ _
    refine WW.run (pc' := 28) (lv' := [(0, .ref a)]) (st' := [.ref q, .ref q, .ref (Z 0)]) 1 rfl ?_
    refine WW.callIN [] q [.ref q, .ref (Z 0)] rfl mX2_107 (sH_init ha) rfl rfl (wd_le rfl) (wd_le rfl) (wd_le rfl) (wd_le rfl) (fun o w1 hq => ?_)
    obtain ⟨rfl, hw8⟩ := hq
    show WW _ _ _ 31 _ [.ref q, .ref (Z 0)] _
    rw [wNew_put] at hw8
    have hq2 : w.2 ≤ q := ‹_›
    have fr1 : wFr nP w w1 := by rw [hw8]; exact (wFr.refl _ _).new hq2
    have hS1 := hS.fr ok fr1
    have hq1 : w1.1 3 q = some (.inl (shF (nI 100, nI 0, nI 0))) := by rw [hw8]; exact wNew_same _ _ _ _
    have hl1 := hS1.2.1.1
    obtain ⟨mc1, hl01⟩ := hl1.1
    have ok0 := ok
    refine WW.ok fun ok => ?_
    replace ok : wdOk G w1 := ok
    refine WW.callV [.ref q] (Z 0) [] rfl mX2_45 (sL_add (x := q) ⟨3, _, _, hq1, rfl, by decide, by decide, nq2211⟩ hl1 (by omega)) (wdRecv.obj hl01 rfl) rfl rfl (wd_le rfl) (wd_le rfl) (wd_le rfl) (wd_le rfl) (fun o w' hq => ?_)
    obtain ⟨arr', rfl, hz, hz0, hL, fr2⟩ := hq
    show WW _ _ _ 34 _ [.int 1] _
    have hq3 := fr2.keepO ok hl1 hq1 (by decide) (by decide)
    have hS2 := hS1.pushSh ok hL hz hz0 fr2 hq3 (by omega) (Nat.le_trans hlw fr1.2) (fun i hi e2 => by
      have h9 := (ok0.1 _ _ _ (hS.2.2.2.1.1 i hi).1).2
      omega)
    have hl2 := hS2.2.1.1
    obtain ⟨mc2, hl02⟩ := hl2.1
    have h1 := hS2.1.1
    refine WW.run (pc' := 36) (lv' := [(0, .ref a)]) (st' := [.ref a]) 2 rfl ?_
    refine WW.get rfl fX2_12 h1 (show _ = some (.ref (Z 0)) from rfl) ?_
    refine WW.callV [] (Z 0) [] rfl mX2_69 (sL_size hl2) (wdRecv.obj hl02 rfl) rfl rfl (wd_le rfl) (wd_le rfl) (wd_le rfl) (wd_le rfl) (fun o w' hq => ?_)
    obtain ⟨rfl, hw7⟩ := hq
    show WW _ _ _ 42 _ [.int (nI (S.ns + 1))] _
    rw [hw7]
    refine WW.run (pc' := 44) (lv' := [(0, .ref a)]) (st' := [.int ((nI (S.ns + 1)) - (nI 1))]) 2 rfl ?_
    rw [(wn_sub rfl rfl (by omega) : nI (S.ns + 1) - nI 1 = nI (S.ns + 1 - 1))]
    exact WW.iret rfl rfl rfl ⟨rfl, ⟨_, _, _, _, hS2⟩, ((fr1.mono (fun _ _ z => absurd z (fun z => z))).thn fr2 (fun b _ hb => hS.lP0 hb) : wFr (hP lo) w _)⟩
  · skip
    rw [if_pos (by omega)] at hr
    subst hr
    rw [decide_eq_false e] at hq
    obtain ⟨q, h2, rfl, h3, h4⟩ := hq
    show WX _ _ _ 17 _ [] _ _ _
    exact WX.out (fun _ h => nomatch h) ⟨15, rfl, q, h2, rfl, h3.mono (fun _ _ z => absurd z (fun z => z)), h4⟩
theorem cQ.thr {es : List Nat} {p ci : Nat} {o : wdO} {w' : wdW} (he : es[p - 1]? = some ci) (h : tQ nP ci w o w') : cQ G lo a es (.inl p) w o w' := ⟨ci, he, h.thn (wFr.refl _ _) (fun _ _ z => absurd z (fun z => z))⟩
theorem cS_addLamp (hS : isS G w lo a Z gs gl gr S) (hW : aWf S) (hlw : lo ≤ w.2) (x : Int32) : Sp l G MX2_addLamp 7 4 30 [.ref a, .int x] w (cQ G lo a [14, 15] (S.doLamp x) w) := by
  refine Sp.of rfl (by decide +kernel) kX2_addLamp (wd_le rfl) ?_
  refine WW.ok fun ok => ?_
  replace ok : wdOk G w := ok
  have h1 := hS.1.1
  have hl := hS.2.1.2.1
  have h6 := hW.2.1
  obtain ⟨mc0, hl0⟩ := hl.1
  obtain ⟨r, hr⟩ : ∃ r, r = S.doLamp x := ⟨_, rfl⟩
  rw [← hr]
  unfold aS.doLamp at hr
  refine WW.run (pc' := 3) (lv' := [(0, .ref a), (1, .int x)]) (st' := [.int (nI 3), .int (nI 1), .int x]) 3 rfl ?_
  refine WW.callSN [.int x, .int (nI 1), .int (nI 3)] [] rfl mX2_73 (sO_between x (nI 1) (nI 3)) rfl rfl (wd_le rfl) (wd_le rfl) (wd_le rfl) (wd_le rfl) (fun o w' hq => ?_)
  obtain ⟨rfl, hw9⟩ := hq
  show WW _ _ _ 6 _ [.int (bI (inR x (nI 1) (nI 3)))] _
  rw [hw9]
  clear hw9 w'
  refine WW.callSN [.int (bI (inR x (nI 1) (nI 3)))] [] rfl mX2_108 (sO_requireArgument (inR x (nI 1) (nI 3))) rfl rfl (wd_le rfl) (wd_le rfl) (wd_le rfl) (wd_le rfl) (fun o w' hq => ?_)
  cases hc : (inR x (nI 1) (nI 3)) with
  | false =>
    rw [hc] at hq
    try rw [hc] at hr
    try subst hr
    obtain ⟨q, g2, rfl, g3, g4⟩ := hq
    show WX _ _ _ 6 _ [] _ _ _
    exact WX.out (fun _ h => nomatch h) (cQ.thr (G := G) (a := a) rfl ⟨q, g2, rfl, g3, g4⟩)
  | true =>
  rw [hc] at hq
  try rw [hc] at hr
  obtain ⟨rfl, hw9⟩ := hq
  show WW _ _ _ 9 _ [] _
  rw [hw9]
  clear hw9 w'
  refine WW.run (pc' := 10) (lv' := [(0, .ref a), (1, .int x)]) (st' := [.ref a]) 1 rfl ?_
  refine WW.get rfl fX2_18 h1 (show _ = some (.ref (Z 1)) from rfl) ?_
  refine WW.callV [] (Z 1) [] rfl mX2_69 (sL_size hl) (wdRecv.obj hl0 rfl) rfl rfl (wd_le rfl) (wd_le rfl) (wd_le rfl) (wd_le rfl) (fun o w' hq => ?_)
  obtain ⟨rfl, hw9⟩ := hq
  show WW _ _ _ 16 _ [.int (nI S.nl)] _
  rw [hw9]
  clear hw9 w'
  refine WW.run (pc' := 18) (lv' := [(0, .ref a), (1, .int x)]) (st' := [.int (nI 8), .int (nI S.nl)]) 1 rfl ?_
  refine WW.join (pc' := 26) (lv' := [(0, .ref a), (1, .int x)]) (st' := [.int (bI (decide (S.nl < 8)))]) ?_ (fun H => ?_)
  rotate_left
  · skip
    by_cases e : S.nl < 8
    · skip
      refine WW.icmp_ge (tgt := 25) rfl rfl (fun hno => absurd hno (nI_ge e (by decide))) (fun _ => ?_)
      refine WW.run (pc' := 26) (lv' := [(0, .ref a), (1, .int x)]) (st' := [.int (nI 1)]) 2 rfl ?_
      rw [decide_eq_true e] at H
      exact H
    · skip
      refine WW.icmp_ge (tgt := 25) rfl rfl (fun _ => ?_) (fun hno => absurd (nI_le (by omega) (by omega)) hno)
      refine WW.run (pc' := 26) (lv' := [(0, .ref a), (1, .int x)]) (st' := [.int (nI 0)]) 1 rfl ?_
      rw [decide_eq_false e] at H
      exact H
  replace hr : r = bif decide (S.nl < 8) then .inr (nI S.nl, (S.1, (S.nl + 1, va_up S.la S.nl (x, 0, nI 0, nI 0, false)), S.2.2)) else .inl 2 := by
    rw [hr]
    by_cases e : S.nl < 8
    · rw [decide_eq_true e]; exact if_neg (by omega)
    · rw [decide_eq_false e]; exact if_pos (by omega)
  refine WW.callSN [.int (bI (decide (S.nl < 8)))] [] rfl mX2_104 (sO_requireState (decide (S.nl < 8))) rfl rfl (wd_le rfl) (wd_le rfl) (wd_le rfl) (wd_le rfl) (fun o w' hq => ?_)
  cases hc : (decide (S.nl < 8)) with
  | false =>
    rw [hc] at hq
    try rw [hc] at hr
    try subst hr
    obtain ⟨q, g2, rfl, g3, g4⟩ := hq
    show WX _ _ _ 26 _ [] _ _ _
    exact WX.out (fun _ h => nomatch h) (cQ.thr (G := G) (a := a) rfl ⟨q, g2, rfl, g3, g4⟩)
  | true =>
  rw [hc] at hq
  try rw [hc] at hr
  obtain ⟨rfl, hw9⟩ := hq
  show WW _ _ _ 29 _ [] _
  rw [hw9]
  clear hw9 w'
  have e : S.nl < 8 := of_decide_eq_true hc
  subst hr
  have h1 := hS.1.1
  refine WW.run (pc' := 30) (lv' := [(0, .ref a), (1, .int x)]) (st' := [.ref a]) 1 rfl ?_
  refine WW.get rfl fX2_18 h1 (show _ = some (.ref (Z 1)) from rfl) ?_
  refine WW.new (fs := [.int 0, .int 0, .int 0, .int 0, .int 0]) rfl kX2_49 wdBl4 (wd_le rfl) (wd_le rfl) (fun q hq => ?_)
  have ha : (wNew w 4 q (.inl [.int 0, .int 0, .int 0, .int 0, .int 0])).1 4 q = some (.inl [.int 0, .int 0, .int 0, .int 0, .int 0]) := wNew_same _ _ _ _
  refine WW.run (pc' := 38) (lv' := [(0, .ref a), (1, .int x)]) (st' := [.int x, .ref q, .ref q, .ref (Z 1)]) 2 rfl ?_
  refine WW.callI [.int x] q [.ref q, .ref (Z 1)] rfl mX2_111 (sLa_init ha x) rfl rfl (wd_le rfl) (wd_le rfl) (wd_le rfl) (wd_le rfl) (fun o w1 hq => ?_)
  obtain ⟨rfl, hw8⟩ := hq
  show WW _ _ _ 41 _ [.ref q, .ref (Z 1)] _
  rw [wNew_put] at hw8
  have hq2 : w.2 ≤ q := ‹_›
  have fr1 : wFr nP w w1 := by rw [hw8]; exact (wFr.refl _ _).new hq2
  have hS1 := hS.fr ok fr1
  have hq1 : w1.1 4 q = some (.inl (laF (x, 0, nI 0, nI 0, false))) := by rw [hw8]; exact wNew_same _ _ _ _
  have hl1 := hS1.2.1.2.1
  obtain ⟨mc1, hl01⟩ := hl1.1
  have ok0 := ok
  refine WW.ok fun ok => ?_
  replace ok : wdOk G w1 := ok
  refine WW.callV [.ref q] (Z 1) [] rfl mX2_45 (sL_add (x := q) ⟨4, _, _, hq1, rfl, by decide, by decide, nq2212⟩ hl1 (by omega)) (wdRecv.obj hl01 rfl) rfl rfl (wd_le rfl) (wd_le rfl) (wd_le rfl) (wd_le rfl) (fun o w' hq => ?_)
  obtain ⟨arr', rfl, hz, hz0, hL, fr2⟩ := hq
  show WW _ _ _ 44 _ [.int 1] _
  have hq3 := fr2.keepO ok hl1 hq1 (by decide) (by decide)
  have hS2 := hS1.pushLa ok hL hz hz0 fr2 hq3 (by omega) (Nat.le_trans hlw fr1.2) (fun i hi e2 => by
    have h9 := (ok0.1 _ _ _ (hS.2.2.2.2.1.1 i hi).1).2
    omega)
  have hl2 := hS2.2.1.2.1
  obtain ⟨mc2, hl02⟩ := hl2.1
  have h1 := hS2.1.1
  refine WW.run (pc' := 46) (lv' := [(0, .ref a), (1, .int x)]) (st' := [.ref a]) 2 rfl ?_
  refine WW.get rfl fX2_18 h1 (show _ = some (.ref (Z 1)) from rfl) ?_
  refine WW.callV [] (Z 1) [] rfl mX2_69 (sL_size hl2) (wdRecv.obj hl02 rfl) rfl rfl (wd_le rfl) (wd_le rfl) (wd_le rfl) (wd_le rfl) (fun o w' hq => ?_)
  obtain ⟨rfl, hw7⟩ := hq
  show WW _ _ _ 52 _ [.int (nI (S.nl + 1))] _
  rw [hw7]
  refine WW.run (pc' := 54) (lv' := [(0, .ref a), (1, .int x)]) (st' := [.int ((nI (S.nl + 1)) - (nI 1))]) 2 rfl ?_
  rw [(wn_sub rfl rfl (by omega) : nI (S.nl + 1) - nI 1 = nI (S.nl + 1 - 1))]
  exact WW.iret rfl rfl rfl ⟨rfl, ⟨_, _, _, _, hS2⟩, ((fr1.mono (fun _ _ z => absurd z (fun z => z))).thn fr2 (fun b _ hb => hS.lP1 hb) : wFr (hP lo) w _)⟩
theorem cS_addOil (hS : isS G w lo a Z gs gl gr S) (hlw : lo ≤ w.2) (x : Int32) : Sp l G MX2_addOil 7 2 20 [.ref a, .int x] w (cQ G lo a [14, 15] (S.doOil x) w) := by
  refine Sp.of rfl (by decide +kernel) kX2_addOil (wd_le rfl) ?_
  have h1 := hS.1.1
  obtain ⟨r, hr⟩ : ∃ r, r = S.doOil x := ⟨_, rfl⟩
  rw [← hr]
  unfold aS.doOil at hr
  refine WW.run (pc' := 5) (lv' := [(0, .ref a), (1, .int x)]) (st' := [.int (nI 200), .int (nI 1), .int x]) 3 rfl ?_
  refine WW.callSN [.int x, .int (nI 1), .int (nI 200)] [] rfl mX2_73 (sO_between x (nI 1) (nI 200)) rfl rfl (wd_le rfl) (wd_le rfl) (wd_le rfl) (wd_le rfl) (fun o w' hq => ?_)
  obtain ⟨rfl, hw9⟩ := hq
  show WW _ _ _ 8 _ [.int (bI (inR x (nI 1) (nI 200)))] _
  rw [hw9]
  clear hw9 w'
  refine WW.callSN [.int (bI (inR x (nI 1) (nI 200)))] [] rfl mX2_108 (sO_requireArgument (inR x (nI 1) (nI 200))) rfl rfl (wd_le rfl) (wd_le rfl) (wd_le rfl) (wd_le rfl) (fun o w' hq => ?_)
  cases hc : (inR x (nI 1) (nI 200)) with
  | false =>
    rw [hc] at hq
    try rw [hc] at hr
    try subst hr
    obtain ⟨q, g2, rfl, g3, g4⟩ := hq
    show WX _ _ _ 8 _ [] _ _ _
    exact WX.out (fun _ h => nomatch h) (cQ.thr (G := G) (a := a) rfl ⟨q, g2, rfl, g3, g4⟩)
  | true =>
  rw [hc] at hq
  try rw [hc] at hr
  obtain ⟨rfl, hw9⟩ := hq
  show WW _ _ _ 11 _ [] _
  rw [hw9]
  clear hw9 w'
  refine WW.run (pc' := 12) (lv' := [(0, .ref a), (1, .int x)]) (st' := [.ref a]) 1 rfl ?_
  refine WW.get rfl fX2_56 h1 (show _ = some (.int S.oil) from rfl) ?_
  refine WW.run (pc' := 20) (lv' := [(0, .ref a), (1, .int x)]) (st' := [.int (nI 500), .int (S.oil + x)]) 3 rfl ?_
  refine WW.join (pc' := 28) (lv' := [(0, .ref a), (1, .int x)]) (st' := [.int (bI (decide (S.oil + x ≤ nI 500)))]) ?_ (fun H => ?_)
  rotate_left
  · skip
    by_cases e : S.oil + x ≤ nI 500
    · skip
      refine WW.icmp_gt (tgt := 27) rfl rfl (fun hno => absurd hno (Int32.not_lt.mpr e)) (fun _ => ?_)
      refine WW.run (pc' := 28) (lv' := [(0, .ref a), (1, .int x)]) (st' := [.int (nI 1)]) 2 rfl ?_
      rw [decide_eq_true e] at H
      exact H
    · skip
      refine WW.icmp_gt (tgt := 27) rfl rfl (fun _ => ?_) (fun hno => absurd (Int32.not_le.mp e) hno)
      refine WW.run (pc' := 28) (lv' := [(0, .ref a), (1, .int x)]) (st' := [.int (nI 0)]) 1 rfl ?_
      rw [decide_eq_false e] at H
      exact H
  replace hr : r = bif decide (S.oil + x ≤ nI 500) then .inr (S.oil + x, S.wOil (S.oil + x)) else .inl 2 := by
    rw [hr]
    by_cases e : S.oil + x ≤ nI 500
    · rw [decide_eq_true e]; exact if_neg (Int32.not_lt.mpr e)
    · rw [decide_eq_false e]; exact if_pos (Int32.not_le.mp e)
  refine WW.callSN [.int (bI (decide (S.oil + x ≤ nI 500)))] [] rfl mX2_104 (sO_requireState (decide (S.oil + x ≤ nI 500))) rfl rfl (wd_le rfl) (wd_le rfl) (wd_le rfl) (wd_le rfl) (fun o w' hq => ?_)
  cases hc : (decide (S.oil + x ≤ nI 500)) with
  | false =>
    rw [hc] at hq
    try rw [hc] at hr
    try subst hr
    obtain ⟨q, g2, rfl, g3, g4⟩ := hq
    show WX _ _ _ 28 _ [] _ _ _
    exact WX.out (fun _ h => nomatch h) (cQ.thr (G := G) (a := a) rfl ⟨q, g2, rfl, g3, g4⟩)
  | true =>
  rw [hc] at hq
  try rw [hc] at hr
  obtain ⟨rfl, hw9⟩ := hq
  show WW _ _ _ 31 _ [] _
  rw [hw9]
  clear hw9 w'
  subst hr
  have h1 := hS.1.1
  refine WW.run (pc' := 33) (lv' := [(0, .ref a), (1, .int x)]) (st' := [.ref a, .ref a]) 2 rfl ?_
  refine WW.get rfl fX2_56 h1 (show _ = some (.int S.oil) from rfl) ?_
  refine WW.run (pc' := 38) (lv' := [(0, .ref a), (1, .int x)]) (st' := [.int (S.oil + x), .ref a]) 2 rfl ?_
  refine WW.put [.ref (Z 0), .ref (Z 1), .ref (Z 2), .int (S.oil + x), .int S.hour, .int S.office, .int S.refused] rfl pfX2_56 h1 (wd_le rfl) rfl rfl rfl ?_
  have h2 : (wPut w 1 a (.inl [.ref (Z 0), .ref (Z 1), .ref (Z 2), .int (S.oil + x), .int S.hour, .int S.office, .int S.refused])).1 1 a = some (.inl [.ref (Z 0), .ref (Z 1), .ref (Z 2), .int (S.oil + x), .int S.hour, .int S.office, .int S.refused]) := wPut_same _ _ _ _
  refine WW.run (pc' := 42) (lv' := [(0, .ref a), (1, .int x)]) (st' := [.ref a]) 1 rfl ?_
  refine WW.get rfl fX2_56 h2 (show _ = some (.int (S.oil + x)) from rfl) ?_
  have hS2 := hS.putO (S.wOil (S.oil + x)) rfl rfl rfl
  exact WW.iret rfl rfl rfl ⟨rfl, ⟨_, _, _, _, hS2⟩, (wFr.refl _ _).put (Or.inl hS.1.2)⟩
end
