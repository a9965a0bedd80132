set_option maxRecDepth 100000
/-! THE MODEL's HOUR -/
theorem aSum_bI (p : Nat → Bool) : ∀ n, ∃ c, aSum (fun z => bI (p z)) n = nI c ∧ c ≤ n ∧ ((c = 0) ↔ aAny p n = false)
  | 0 => ⟨0, rfl, Nat.le_refl _, by simp [aAny]⟩
  | n + 1 => by
    obtain ⟨c, h1, h2, h3⟩ := aSum_bI p n
    cases hp : p n with
    | false =>
      refine ⟨c, ?_, by omega, ?_⟩
      · show aSum _ n + bI (p n) = _
        rw [h1, hp, show bI false = nI 0 from rfl, nI_add]; rfl
      · rw [h3]; simp [aAny, hp]
    | true =>
      refine ⟨c + 1, ?_, by omega, ?_⟩
      · show aSum _ n + bI (p n) = _
        rw [h1, hp, show bI true = nI 1 from rfl, nI_add]
      · simp [aAny, hp]
theorem aSum_ext {g g' : Nat → Int32} : ∀ {n : Nat}, (∀ i, i < n → g i = g' i) → aSum g n = aSum g' n
  | 0, _ => rfl
  | n + 1, h => by
    show aSum g n + g n = aSum g' n + g' n
    rw [aSum_ext (fun i hi => h i (by omega)), h n (by omega)]
theorem lampsOf_false (S : aS) (j : Nat) : S.lampsOf j false = S.leasesOf j := aSum_ext (fun i _ => by simp)
theorem lampsOf_true (S : aS) (j : Nat) (h : S.nl ≤ 8) : (S.lampsOf j true = 0) = (S.lit j = false) := by
  obtain ⟨c, h1, h2, h3⟩ := aSum_bI (fun i => (S.la i).le == j + 1 && (S.la i).was) S.nl
  have e : S.lampsOf j true = nI c := by rw [← h1]; exact aSum_ext (fun i _ => by simp)
  rw [e, ← nI_0]
  have := nI_eq (a := c) (b := 0) (by omega) (by decide)
  rw [this, h3]
  rfl
theorem wSh_le (S : aS) (j : Nat) (x : aSh) (z : Nat) : ((S.wSh j x).la z).le = (S.la z).le := rfl
theorem fine1_same (S : aS) (j : Nat) : (S.fine1 j).ns = S.ns ∧ (S.fine1 j).nl = S.nl ∧ (S.fine1 j).nr = S.nr ∧ (S.fine1 j).rq = S.rq ∧ ∀ z, ((S.fine1 j).la z).le = (S.la z).le := by
  unfold aS.fine1
  cases decide (nI 0 < S.leasesOf j) && !(S.lit j) <;> exact ⟨rfl, rfl, rfl, rfl, fun _ => rfl⟩
theorem fineTo_same (S : aS) : ∀ j, (S.fineTo j).ns = S.ns ∧ (S.fineTo j).nl = S.nl ∧ (S.fineTo j).nr = S.nr ∧ (S.fineTo j).rq = S.rq ∧ ∀ z, ((S.fineTo j).la z).le = (S.la z).le
  | 0 => ⟨rfl, rfl, rfl, rfl, fun _ => rfl⟩
  | j + 1 => by
    obtain ⟨a1, a2, a3, a4, a5⟩ := fineTo_same S j
    obtain ⟨b1, b2, b3, b4, b5⟩ := fine1_same (S.fineTo j) j
    exact ⟨b1.trans a1, b2.trans a2, b3.trans a3, b4.trans a4, fun z => (b5 z).trans (a5 z)⟩
theorem aWf.fineTo {S : aS} (h : aWf S) (i : Nat) : aWf (S.fineTo i) := by
  obtain ⟨a1, a2, a3, a4, a5⟩ := fineTo_same S i
  exact h.same a1 a2 a3 a4 a5
section
variable {l : Launch} {G : wdG} {w : wdW} {m : Nat} {A : Nat → Nat} {I : Nat → Int32} {F : Nat → Nat → Int32} {f : Nat → Int32} {S : aS}
theorem sS_fines (hM : isM w m A I (va_up F 0 f)) (hS : fS f S) (hW : aWf S) : SpS l G MX3_fines 3 m A I F [] w none S.fine := by
  have hn : S.ns < 2 ^ 31 := by have := hW.1; omega
  refine Sp.of rfl (by decide +kernel) kX3_fines (wd_le rfl) ?_
  refine WW.run (pc' := 2) (lv' := [(1, .int (nI 0)), (0, .ref m)]) (st' := []) 2 rfl ?_
  refine WW.upW S.ns (fun _ => 0) (fun _ => 0) (fun i => [(1, .int (nI i)), (0, .ref m)]) (fun i w' => ∃ f', isM w' m A I (va_up F 0 f') ∧ fS f' (S.fineTo i) ∧ mFr m A w w') (fun j wi hi hInv ih => ?_) (fun wi hInv => ?_) ⟨f, hM, hS, mFr.refl _ _ _⟩
  · skip
    obtain ⟨f1, hM1, hS1, fr0⟩ := hInv
    have hW1 := hW.fineTo j
    have hns : (S.fineTo j).ns = S.ns := (fineTo_same S j).1
    replace ih : ∀ w' f', isM w' m A I (va_up F 0 f') → fS f' ((S.fineTo j).fine1 j) → mFr m A w w' → WW _ 0 0 2 [(1, .int (nI (j + 1))), (0, .ref m)] [] w' := fun w' f' h1 h2 h3 => ih w' ⟨f', h1, h2, h3⟩
    generalize hT : S.fineTo j = T at hS1 hW1 hns ih
    have h6 := hW1.1
    have h8 := hW1.2.1
    have hj : j < T.ns := by omega
    refine WW.run (pc' := 4) (lv' := [(1, .int (nI j)), (0, .ref m)]) (st' := [.ref m, .int (nI j)]) 2 rfl ?_
    refine WW.get rfl fX3_9 hM1.1 (show _ = some (.ref (A 0)) from rfl) ?_
    refine WW.run (pc' := 8) (lv' := [(1, .int (nI j)), (0, .ref m)]) (st' := [.int (nI 0), .ref (A 0), .int (nI j)]) 1 rfl ?_
    refine WW.mald 0 0 rfl hM1 (by decide) rfl rfl (by decide) (by decide) (hS1.1.1.trans (by rw [hns])) ?_
    refine WW.icmp_ge (tgt := 91) rfl rfl (fun hno => absurd hno (nI_ge hi hn)) (fun _ => ?_)
    refine WW.run (pc' := 15) (lv' := [(1, .int (nI j)), (0, .ref m)]) (st' := [.int (nI 0), .int (nI j), .ref m]) 3 rfl ?_
    refine WW.callV [.int (nI j), .int (nI 0)] m [] rfl mX3_120 (sM_lampsOf hM1 hS1 hW1 (j := j) (by omega) false) (wdRecv.obj hM1.1 rfl) rfl rfl (wd_le rfl) (wd_le rfl) (wd_le rfl) (wd_le rfl) (fun o w' hq => ?_)
    obtain ⟨rfl, rfl⟩ := hq
    show WW _ _ _ 18 _ [.int (T.lampsOf j false)] _
    rw [lampsOf_false]
    refine WW.run (pc' := 20) (lv' := [(2, .int (T.leasesOf j)), (1, .int (nI j)), (0, .ref m)]) (st' := [.int (T.leasesOf j)]) 2 rfl ?_
    refine WW.if_le (tgt := 85) rfl rfl (fun h1 => ?_) (fun h1 => ?_)
    · skip
      refine WW.run (pc' := 2) (lv' := [(1, .int ((nI j) + nI 1)), (2, .int (T.leasesOf j)), (0, .ref m)]) (st' := []) 2 rfl ?_
      refine WW.pick (lv' := [(1, .int ((nI j) + nI 1)), (0, .ref m)]) [0, 2] rfl ?_
      rw [nI_add]
      refine ih _ f1 hM1 ?_ fr0
      unfold aS.fine1
      rw [show decide (nI 0 < T.leasesOf j) = false from decide_eq_false (Int32.not_lt.mpr h1)]
      exact hS1
    have h1' : nI 0 < T.leasesOf j := Int32.not_le.mp h1
    refine WW.run (pc' := 26) (lv' := [(2, .int (T.leasesOf j)), (1, .int (nI j)), (0, .ref m)]) (st' := [.int (nI 1), .int (nI j), .ref m]) 3 rfl ?_
    refine WW.callV [.int (nI j), .int (nI 1)] m [] rfl mX3_120 (sM_lampsOf hM1 hS1 hW1 (j := j) (by omega) true) (wdRecv.obj hM1.1 rfl) rfl rfl (wd_le rfl) (wd_le rfl) (wd_le rfl) (wd_le rfl) (fun o w' hq => ?_)
    obtain ⟨rfl, rfl⟩ := hq
    show WW _ _ _ 29 _ [.int (T.lampsOf j true)] _
    refine WW.if_ne (tgt := 85) rfl rfl (fun h2 => ?_) (fun h2 => ?_)
    · skip
      refine WW.run (pc' := 2) (lv' := [(1, .int ((nI j) + nI 1)), (2, .int (T.leasesOf j)), (0, .ref m)]) (st' := []) 2 rfl ?_
      refine WW.pick (lv' := [(1, .int ((nI j) + nI 1)), (0, .ref m)]) [0, 2] rfl ?_
      rw [nI_add]
      refine ih _ f1 hM1 ?_ fr0
      unfold aS.fine1
      have h3 : T.lit j = true := by
        cases hl : T.lit j with
        | true => rfl
        | false => exact absurd (by rw [lampsOf_true _ _ h8]; exact hl) h2
      rw [show decide (nI 0 < T.leasesOf j) = true from decide_eq_true h1', h3]
      exact hS1
    have h3 : T.lit j = false := by rw [← lampsOf_true _ _ h8]; exact h2
    refine WW.run (pc' := 38) (lv' := [(2, .int (T.leasesOf j)), (1, .int (nI j)), (0, .ref m)]) (st' := [.int (nI 0), .int (nI j), .ref m, .int ((nI 2) * (T.leasesOf j))]) 6 rfl ?_
    refine WW.callV [.int (nI j), .int (nI 0)] m [.int ((nI 2) * (T.leasesOf j))] rfl mX3_99 (sM_co hM1 hS1 hW1 hj) (wdRecv.obj hM1.1 rfl) rfl rfl (wd_le rfl) (wd_le rfl) (wd_le rfl) (wd_le rfl) (fun o w' hq => ?_)
    obtain ⟨rfl, rfl⟩ := hq
    show WW _ _ _ 41 _ [.int ((T.sh j).1), .int ((nI 2) * (T.leasesOf j))] _
    refine WW.mmin rfl q1924 q498 q82 q499 (wd_le rfl) (wd_le rfl) ?_
    generalize hx : (if ((T.sh j).1) < ((nI 2) * (T.leasesOf j)) then (T.sh j).1 else (nI 2) * (T.leasesOf j)) = x
    have hx' : x = iMin (T.sh j).1 (nI 2 * T.leasesOf j) := by
      rw [← hx]
      unfold iMin
      by_cases e1 : (T.sh j).1 < nI 2 * T.leasesOf j
      · rw [if_pos e1, if_pos (Int32.le_of_lt e1)]
      · rw [if_neg e1]
        by_cases e2 : (T.sh j).1 ≤ nI 2 * T.leasesOf j
        · rw [if_pos e2]; exact Int32.le_antisymm (Int32.not_lt.mp e1) e2
        · rw [if_neg e2]
    refine WW.run (pc' := 48) (lv' := [(3, .int x), (2, .int (T.leasesOf j)), (1, .int (nI j)), (0, .ref m)]) (st' := [.int x, .int (nI j), .ref m]) 4 rfl ?_
    refine WW.callV [.int (nI j), .int x] m [] rfl mX3_102 (sS_pays hM1 hS1 hW1 hj x) (wdRecv.obj hM1.1 rfl) rfl rfl (wd_le rfl) (wd_le rfl) (wd_le rfl) (wd_le rfl) (fun o wa hq => ?_)
    obtain ⟨fa, rfl, hSa, hMa, fra⟩ := hq
    show WW _ _ _ 51 _ [] _
    have c := hSa.2.1 j hj
    have e0 : (T.pays j x).sh j = ((T.sh j).1 - x, (T.sh j).2.1, (T.sh j).2.2) := va_up_self _ _ _
    rw [e0] at c
    refine WW.run (pc' := 52) (lv' := [(3, .int x), (2, .int (T.leasesOf j)), (1, .int (nI j)), (0, .ref m)]) (st' := [.ref m]) 1 rfl ?_
    refine WW.get rfl fX3_9 hMa.1 (show _ = some (.ref (A 0)) from rfl) ?_
    refine WW.run (pc' := 64) (lv' := [(3, .int x), (2, .int (T.leasesOf j)), (1, .int (nI j)), (0, .ref m)]) (st' := [.int (((nI 7) + ((nI 3) * (nI j))) + (nI 1)), .ref (A 0), .int (((nI 7) + ((nI 3) * (nI j))) + (nI 1)), .ref (A 0)]) 8 rfl ?_
    refine WW.mald 0 ((7 + (3 * j)) + 1) rfl hMa (by decide) rfl (wn_add (wn_add rfl (wn_mul rfl rfl)) rfl) (by show _ < 81; omega) (by decide) c.2.1 ?_
    refine WW.run (pc' := 67) (lv' := [(3, .int x), (2, .int (T.leasesOf j)), (1, .int (nI j)), (0, .ref m)]) (st' := [.int (((T.sh j).2.1) + x), .int (((nI 7) + ((nI 3) * (nI j))) + (nI 1)), .ref (A 0)]) 2 rfl ?_
    refine WW.sast ((7 + (3 * j)) + 1) rfl hMa (wn_add (wn_add rfl (wn_mul rfl rfl)) rfl) (by show _ < 81; omega) (fun w1 hM1 fr1 => ?_)
    refine WW.run (pc' := 69) (lv' := [(3, .int x), (2, .int (T.leasesOf j)), (1, .int (nI j)), (0, .ref m)]) (st' := [.ref m]) 1 rfl ?_
    refine WW.get rfl fX3_9 hM1.1 (show _ = some (.ref (A 0)) from rfl) ?_
    refine WW.run (pc' := 80) (lv' := [(3, .int x), (2, .int (T.leasesOf j)), (1, .int (nI j)), (0, .ref m)]) (st' := [.int (((nI 7) + ((nI 3) * (nI j))) + (nI 2)), .ref (A 0)]) 7 rfl ?_
    refine WW.run (pc' := 81) (lv' := [(3, .int x), (2, .int (T.leasesOf j)), (1, .int (nI j)), (0, .ref m)]) (st' := [.int (((nI 7) + ((nI 3) * (nI j))) + (nI 2)), .ref (A 0), .int (((nI 7) + ((nI 3) * (nI j))) + (nI 2)), .ref (A 0)]) 1 rfl ?_
    refine WW.mald 0 ((7 + (3 * j)) + 2) rfl hM1 (by decide) rfl (wn_add (wn_add rfl (wn_mul rfl rfl)) rfl) (by show _ < 81; omega) (by decide) ((va_up_ne _ _ (by omega)).trans c.2.2) ?_
    refine WW.run (pc' := 84) (lv' := [(3, .int x), (2, .int (T.leasesOf j)), (1, .int (nI j)), (0, .ref m)]) (st' := [.int (((T.sh j).2.2) + (nI 1)), .int (((nI 7) + ((nI 3) * (nI j))) + (nI 2)), .ref (A 0)]) 2 rfl ?_
    refine WW.sast ((7 + (3 * j)) + 2) rfl hM1 (wn_add (wn_add rfl (wn_mul rfl rfl)) rfl) (by show _ < 81; omega) (fun w2 hM2 fr2 => ?_)
    refine WW.run (pc' := 2) (lv' := [(1, .int ((nI j) + nI 1)), (3, .int x), (2, .int (T.leasesOf j)), (0, .ref m)]) (st' := []) 2 rfl ?_
    refine WW.pick (lv' := [(1, .int ((nI j) + nI 1)), (0, .ref m)]) [0, 3] rfl ?_
    rw [nI_add]
    refine ih _ _ hM2 ?_ (((fr0.trans fra).trans fr1).trans fr2)
    have h9 : fS (va_up (va_up fa ((7 + (3 * j)) + 1) (((T.sh j).2.1) + x)) ((7 + (3 * j)) + 2) (((T.sh j).2.2) + (nI 1))) ((T.pays j x).wSh j ((T.sh j).1 - x, (T.sh j).2.1 + x, (T.sh j).2.2 + nI 1)) := hSa.ship _ (fun z hz => (va_up_ne _ _ (by omega)).trans (va_up_ne _ _ (by omega))) (by omega) ((va_up_ne _ _ (by omega)).trans ((va_up_ne _ _ (by omega)).trans c.1)) ((va_up_ne _ _ (by omega)).trans (va_up_self _ _ _)) (va_up_self _ _ _)
    refine h9.to ?_
    unfold aS.fine1 aS.pays
    rw [decide_eq_true h1', h3, hx']
    show ((T.ns, va_up (va_up T.sh j _) j _), _) = _
    rw [va_up_up]
    rfl
  · skip
    obtain ⟨f1, hM1, hS1, fr0⟩ := hInv
    have hns : (S.fineTo S.ns).ns = S.ns := (fineTo_same S _).1
    refine WW.run (pc' := 4) (lv' := [(1, .int (nI S.ns)), (0, .ref m)]) (st' := [.ref m, .int (nI S.ns)]) 2 rfl ?_
    refine WW.get rfl fX3_9 hM1.1 (show _ = some (.ref (A 0)) from rfl) ?_
    refine WW.run (pc' := 8) (lv' := [(1, .int (nI S.ns)), (0, .ref m)]) (st' := [.int (nI 0), .ref (A 0), .int (nI S.ns)]) 1 rfl ?_
    refine WW.mald 0 0 rfl hM1 (by decide) rfl rfl (by decide) (by decide) (hS1.1.1.trans (by rw [hns])) ?_
    refine WW.icmp_ge (tgt := 91) rfl rfl (fun _ => ?_) (fun hno => absurd (nI_le (Nat.le_refl _) hn) hno)
    exact WW.vret rfl rfl ⟨_, rfl, hS1, hM1, fr0⟩
/-! requests -/
theorem Int32.sub_n0 (x : Int32) : x - nI 0 = x := by rw [nI_0]; exact Int32.sub_zero x
theorem Int32.add_n0 (x : Int32) : x + nI 0 = x := by rw [nI_0]; exact Int32.add_zero x
theorem pays0 (S : aS) (j : Nat) : S.pays j (nI 0) = S := by
  unfold aS.pays
  show ((S.ns, va_up S.sh j ((S.sh j).1 - nI 0, (S.sh j).2.1, (S.sh j).2.2)), S.2.1, S.2.2.1, S.oil, S.hour, S.office + nI 0, S.refused) = _
  rw [Int32.sub_n0, Int32.add_n0]
  show ((S.ns, va_up S.sh j (S.sh j)), _) = _
  rw [va_up_id]
theorem wLa_id (S : aS) (i : Nat) : S.wLa i (S.la i) = S := by
  show (S.1, (S.nl, va_up S.la i (S.la i)), S.2.2) = _
  rw [va_up_id]
theorem renew1_same (S : aS) (k : Nat) : (S.renew1 k).ns = S.ns ∧ (S.renew1 k).nl = S.nl ∧ (S.renew1 k).nr = S.nr ∧ (S.renew1 k).rq = S.rq ∧ ∀ z, ((S.renew1 k).la z).le = (S.la z).le := by
  unfold aS.renew1
  dsimp only
  cases decide ((S.la (S.rq k).1).lv * (S.rq k).2 ≤ (S.sh ((S.la (S.rq k).1).le - 1)).1) with
  | false => exact ⟨rfl, rfl, rfl, rfl, fun _ => rfl⟩
  | true => exact ⟨rfl, rfl, rfl, rfl, fun z => wLa_le (S.pays _ _) _ _ _ _ _ z⟩
theorem renewTo_same (S : aS) : ∀ k, (S.renewTo k).ns = S.ns ∧ (S.renewTo k).nl = S.nl ∧ (S.renewTo k).nr = S.nr ∧ (S.renewTo k).rq = S.rq ∧ ∀ z, ((S.renewTo k).la z).le = (S.la z).le
  | 0 => ⟨rfl, rfl, rfl, rfl, fun _ => rfl⟩
  | j + 1 => by
    obtain ⟨a1, a2, a3, a4, a5⟩ := renewTo_same S j
    obtain ⟨b1, b2, b3, b4, b5⟩ := renew1_same (S.renewTo j) j
    exact ⟨b1.trans a1, b2.trans a2, b3.trans a3, b4.trans a4, fun z => (b5 z).trans (a5 z)⟩
theorem aWf.renewTo {S : aS} (h : aWf S) (i : Nat) : aWf (S.renewTo i) := by
  obtain ⟨a1, a2, a3, a4, a5⟩ := renewTo_same S i
  exact h.same a1 a2 a3 a4 a5
theorem aWf.noReq {S : aS} (h : aWf S) (g : Nat → aRe) : aWf (S.wRq 0 g) := ⟨h.1, h.2.1, Nat.zero_le _, h.2.2.2.1, fun k hk => absurd hk (Nat.not_lt_zero k), fun k k' hk => absurd hk (Nat.not_lt_zero k)⟩
theorem aWf.renew {S : aS} (h : aWf S) : aWf S.renew := (h.renewTo S.nr).noReq _
theorem fS.noReq {f : Nat → Int32} {S : aS} (h : fS f S) (hs : S.ns ≤ 6) (hn : S.nl ≤ 8) (g : Nat → aRe) : fS (va_up f 6 (nI 0)) (S.wRq 0 g) := by
  obtain ⟨⟨a0, a1, a2, a3, a4, a5, a6⟩, b, c, d⟩ := h
  refine ⟨⟨(va_up_ne _ _ (by omega)).trans a0, (va_up_ne _ _ (by omega)).trans a1, (va_up_ne _ _ (by omega)).trans a2, (va_up_ne _ _ (by omega)).trans a3, (va_up_ne _ _ (by omega)).trans a4, (va_up_ne _ _ (by omega)).trans a5, va_up_self _ _ _⟩, fun k hk => ?_, fun k hk => ?_, fun k hk => absurd hk (Nat.not_lt_zero k)⟩
  · obtain ⟨b0, b1, b2⟩ := b k hk
    exact ⟨(va_up_ne _ _ (by omega)).trans b0, (va_up_ne _ _ (by omega)).trans b1, (va_up_ne _ _ (by omega)).trans b2⟩
  · obtain ⟨c0, c1, c2, c3, c4⟩ := c k hk
    exact ⟨(va_up_ne _ _ (by omega)).trans c0, (va_up_ne _ _ (by omega)).trans c1, (va_up_ne _ _ (by omega)).trans c2, (va_up_ne _ _ (by omega)).trans c3, (va_up_ne _ _ (by omega)).trans c4⟩
theorem sS_renews (hM : isM w m A I (va_up F 0 f)) (hS : fS f S) (hW : aWf S) : SpS l G MX3_renews 1 m A I F [] w none S.renew := by
  have hn : S.nr < 2 ^ 31 := by have := hW.2.2.1; omega
  refine Sp.of rfl (by decide +kernel) kX3_renews (wd_le rfl) ?_
  refine WW.run (pc' := 2) (lv' := [(1, .int (nI 0)), (0, .ref m)]) (st' := []) 2 rfl ?_
  refine WW.upW S.nr (fun _ => 0) (fun _ => 0) (fun i => [(1, .int (nI i)), (0, .ref m)]) (fun i w' => ∃ f', isM w' m A I (va_up F 0 f') ∧ fS f' (S.renewTo i) ∧ mFr m A w w') (fun k wi hi hInv ih => ?_) (fun wi hInv => ?_) ⟨f, hM, hS, mFr.refl _ _ _⟩
  · skip
    obtain ⟨f1, hM1, hS1, fr0⟩ := hInv
    have hW1 := hW.renewTo k
    obtain ⟨hns, hnl, hnr, hrq, -⟩ := renewTo_same S k
    replace ih : ∀ w' f', isM w' m A I (va_up F 0 f') → fS f' ((S.renewTo k).renew1 k) → mFr m A w w' → WW _ 0 0 2 [(1, .int (nI (k + 1))), (0, .ref m)] [] w' := fun w' f' h1 h2 h3 => ih w' ⟨f', h1, h2, h3⟩
    generalize hT : S.renewTo k = T at hS1 hW1 hns hnl hnr hrq ih
    have h6 := hW1.1
    have h8 := hW1.2.1
    have h9 := hW1.2.2.1
    have hk : k < T.nr := by omega
    obtain ⟨hx, hl0⟩ := hW1.2.2.2.2.1 k hk
    obtain ⟨d0, d1⟩ := hS1.2.2.2 k hk
    have hle := hW1.2.2.2.1 _ hx
    obtain ⟨e0, hr1⟩ : ∃ r, r = T.renew1 k := ⟨_, rfl⟩
    have hren := hr1
    unfold aS.renew1 at hren
    dsimp only at hren
    rw [← hr1] at ih
    generalize hxx : (T.rq k).1 = x at hx hl0 hle d0 hren
    generalize hhh : (T.rq k).2 = h at d1 hren
    have hj : (T.la x).le - 1 < T.ns := by omega
    refine WW.run (pc' := 4) (lv' := [(1, .int (nI k)), (0, .ref m)]) (st' := [.ref m, .int (nI k)]) 2 rfl ?_
    refine WW.get rfl fX3_9 hM1.1 (show _ = some (.ref (A 0)) from rfl) ?_
    refine WW.run (pc' := 9) (lv' := [(1, .int (nI k)), (0, .ref m)]) (st' := [.int (nI 6), .ref (A 0), .int (nI k)]) 1 rfl ?_
    refine WW.mald 0 6 rfl hM1 (by decide) rfl rfl (by decide) (by decide) (hS1.1.2.2.2.2.2.2.trans (by rw [hnr])) ?_
    refine WW.icmp_ge (tgt := 143) rfl rfl (fun hno => absurd hno (nI_ge hi hn)) (fun _ => ?_)
    refine WW.run (pc' := 14) (lv' := [(1, .int (nI k)), (0, .ref m)]) (st' := [.ref m]) 1 rfl ?_
    refine WW.get rfl fX3_9 hM1.1 (show _ = some (.ref (A 0)) from rfl) ?_
    refine WW.run (pc' := 23) (lv' := [(1, .int (nI k)), (0, .ref m)]) (st' := [.int ((nI 65) + ((nI 2) * (nI k))), .ref (A 0)]) 5 rfl ?_
    refine WW.mald 0 (65 + (2 * k)) rfl hM1 (by decide) rfl (wn_add rfl (wn_mul rfl rfl)) (by show _ < 81; omega) (by decide) d0 ?_
    refine WW.run (pc' := 26) (lv' := [(2, .int (nI x)), (1, .int (nI k)), (0, .ref m)]) (st' := [.ref m]) 2 rfl ?_
    refine WW.get rfl fX3_9 hM1.1 (show _ = some (.ref (A 0)) from rfl) ?_
    refine WW.run (pc' := 37) (lv' := [(2, .int (nI x)), (1, .int (nI k)), (0, .ref m)]) (st' := [.int (((nI 65) + ((nI 2) * (nI k))) + (nI 1)), .ref (A 0)]) 7 rfl ?_
    refine WW.mald 0 ((65 + (2 * k)) + 1) rfl hM1 (by decide) rfl (wn_add (wn_add rfl (wn_mul rfl rfl)) rfl) (by show _ < 81; omega) (by decide) d1 ?_
    refine WW.run (pc' := 42) (lv' := [(3, .int h), (2, .int (nI x)), (1, .int (nI k)), (0, .ref m)]) (st' := [.int (nI 1), .int (nI x), .ref m]) 4 rfl ?_
    refine WW.callV [.int (nI x), .int (nI 1)] m [] rfl mX3_58 (sM_le hM1 hS1 hW1 hx) (wdRecv.obj hM1.1 rfl) rfl rfl (wd_le rfl) (wd_le rfl) (wd_le rfl) (wd_le rfl) (fun o w' hq => ?_)
    obtain ⟨rfl, rfl⟩ := hq
    show WW _ _ _ 45 _ [.int (nI ((T.la x).le))] _
    refine WW.run (pc' := 47) (lv' := [(3, .int h), (2, .int (nI x)), (1, .int (nI k)), (0, .ref m)]) (st' := [.int ((nI ((T.la x).le)) - (nI 1))]) 2 rfl ?_
    rw [(wn_sub rfl rfl (by omega) : nI (T.la x).le - nI 1 = nI ((T.la x).le - 1))]
    refine WW.run (pc' := 52) (lv' := [(4, .int (nI ((T.la x).le - 1))), (3, .int h), (2, .int (nI x)), (1, .int (nI k)), (0, .ref m)]) (st' := [.int (nI 0), .int (nI x), .ref m]) 4 rfl ?_
    refine WW.callV [.int (nI x), .int (nI 0)] m [] rfl mX3_58 (sM_lv hM1 hS1 hW1 hx) (wdRecv.obj hM1.1 rfl) rfl rfl (wd_le rfl) (wd_le rfl) (wd_le rfl) (wd_le rfl) (fun o w' hq => ?_)
    obtain ⟨rfl, rfl⟩ := hq
    show WW _ _ _ 55 _ [.int ((T.la x).lv)] _
    refine WW.run (pc' := 59) (lv' := [(5, .int (((T.la x).lv) * h)), (4, .int (nI ((T.la x).le - 1))), (3, .int h), (2, .int (nI x)), (1, .int (nI k)), (0, .ref m)]) (st' := []) 3 rfl ?_
    generalize hc : (T.la x).lv * h = c at hren
    refine WW.run (pc' := 63) (lv' := [(5, .int c), (4, .int (nI ((T.la x).le - 1))), (3, .int h), (2, .int (nI x)), (1, .int (nI k)), (0, .ref m)]) (st' := [.int (nI 0), .int (nI ((T.la x).le - 1)), .ref m]) 3 rfl ?_
    refine WW.callV [.int (nI ((T.la x).le - 1)), .int (nI 0)] m [] rfl mX3_99 (sM_co hM1 hS1 hW1 hj) (wdRecv.obj hM1.1 rfl) rfl rfl (wd_le rfl) (wd_le rfl) (wd_le rfl) (wd_le rfl) (fun o w' hq => ?_)
    obtain ⟨rfl, rfl⟩ := hq
    show WW _ _ _ 66 _ [.int ((T.sh ((T.la x).le - 1)).1)] _
    refine WW.run (pc' := 68) (lv' := [(5, .int c), (4, .int (nI ((T.la x).le - 1))), (3, .int h), (2, .int (nI x)), (1, .int (nI k)), (0, .ref m)]) (st' := [.int c, .int ((T.sh ((T.la x).le - 1)).1)]) 1 rfl ?_
    generalize hj2 : (T.la x).le - 1 = j at hj hren
    refine WW.join (pc' := 76) (lv' := [(5, .int c), (4, .int (nI (j))), (3, .int h), (2, .int (nI x)), (1, .int (nI k)), (0, .ref m)]) (st' := [.int (bI (decide (c ≤ (T.sh j).1)))]) ?_ ?_
    rotate_left
    · cases hb : (decide (c ≤ (T.sh j).1)) with
      | false =>
        intro H
        refine WW.icmp_lt (tgt := 75) rfl rfl (fun _ => ?_) (fun hno => absurd (Int32.not_le.mp (of_decide_eq_false hb)) hno)
        refine WW.run (pc' := 76) (lv' := [(5, .int c), (4, .int (nI (j))), (3, .int h), (2, .int (nI x)), (1, .int (nI k)), (0, .ref m)]) (st' := [.int (nI 0)]) 1 rfl ?_
        exact H
      | true =>
        intro H
        refine WW.icmp_lt (tgt := 75) rfl rfl (fun hno => absurd hno (Int32.not_lt.mpr (of_decide_eq_true hb))) (fun _ => ?_)
        refine WW.run (pc' := 76) (lv' := [(5, .int c), (4, .int (nI (j))), (3, .int h), (2, .int (nI x)), (1, .int (nI k)), (0, .ref m)]) (st' := [.int (nI 1)]) 2 rfl ?_
        exact H
    generalize hg : decide (c ≤ (T.sh j).1) = g at hren
    refine WW.run (pc' := 83) (lv' := [(6, .int (bI (g))), (5, .int c), (4, .int (nI (j))), (3, .int h), (2, .int (nI x)), (1, .int (nI k)), (0, .ref m)]) (st' := [.int (bI (g)), .int (nI (j)), .ref m]) 4 rfl ?_
    refine WW.join (pc' := 92) (lv' := [(6, .int (bI (g))), (5, .int c), (4, .int (nI (j))), (3, .int h), (2, .int (nI x)), (1, .int (nI k)), (0, .ref m)]) (st' := [.int (bif g then c else nI 0), .int (nI (j)), .ref m]) ?_ ?_
    rotate_left
    · cases hb : g with
      | false =>
        intro H
        refine WW.if_eq (tgt := 91) rfl rfl (fun _ => ?_) (fun hno => absurd rfl hno)
        refine WW.run (pc' := 92) (lv' := [(6, .int (bI (false))), (5, .int c), (4, .int (nI (j))), (3, .int h), (2, .int (nI x)), (1, .int (nI k)), (0, .ref m)]) (st' := [.int (nI 0), .int (nI (j)), .ref m]) 1 rfl ?_
        exact H
      | true =>
        intro H
        refine WW.if_eq (tgt := 91) rfl rfl (fun hno => absurd hno (by decide)) (fun _ => ?_)
        refine WW.run (pc' := 92) (lv' := [(6, .int (bI (true))), (5, .int c), (4, .int (nI (j))), (3, .int h), (2, .int (nI x)), (1, .int (nI k)), (0, .ref m)]) (st' := [.int c, .int (nI (j)), .ref m]) 2 rfl ?_
        exact H
    refine WW.callV [.int (nI (j)), .int (bif g then c else nI 0)] m [] rfl mX3_102 (sS_pays hM1 hS1 hW1 hj (bif g then c else nI 0)) (wdRecv.obj hM1.1 rfl) rfl rfl (wd_le rfl) (wd_le rfl) (wd_le rfl) (wd_le rfl) (fun o wa hq => ?_)
    obtain ⟨fa, rfl, hSa, hMa, fra⟩ := hq
    show WW _ _ _ 95 _ [] _
    have hWa : aWf (T.pays j (bif g then c else nI 0)) := hW1.same rfl rfl rfl rfl (fun _ => rfl)
    refine WW.run (pc' := 101) (lv' := [(6, .int (bI (g))), (5, .int c), (4, .int (nI (j))), (3, .int h), (2, .int (nI x)), (1, .int (nI k)), (0, .ref m)]) (st' := [.int (nI 2), .int (nI x), .ref m, .int (nI 2), .int (nI x), .ref m]) 6 rfl ?_
    have hen := sM_en (l := l) (G := G) hMa hSa hWa (i := x) hx
    rw [if_neg (show ¬ ((T.pays j (bif g then c else nI 0)).la x).le = 0 by show ¬ (T.la x).le = 0; omega)] at hen
    refine WW.callV [.int (nI x), .int (nI 2)] m [.int (nI 2), .int (nI x), .ref m] rfl mX3_58 hen (wdRecv.obj hMa.1 rfl) rfl rfl (wd_le rfl) (wd_le rfl) (wd_le rfl) (wd_le rfl) (fun o w' hq => ?_)
    obtain ⟨rfl, rfl⟩ := hq
    show WW _ _ _ 104 _ [.int ((T.la x).en), .int (nI 2), .int (nI x), .ref m] _
    refine WW.run (pc' := 106) (lv' := [(6, .int (bI (g))), (5, .int c), (4, .int (nI (j))), (3, .int h), (2, .int (nI x)), (1, .int (nI k)), (0, .ref m)]) (st' := [.int (bI (g)), .int ((T.la x).en), .int (nI 2), .int (nI x), .ref m]) 1 rfl ?_
    refine WW.join (pc' := 114) (lv' := [(6, .int (bI (g))), (5, .int c), (4, .int (nI (j))), (3, .int h), (2, .int (nI x)), (1, .int (nI k)), (0, .ref m)]) (st' := [.int (bif g then h else nI 0), .int ((T.la x).en), .int (nI 2), .int (nI x), .ref m]) ?_ ?_
    rotate_left
    · cases hb : g with
      | false =>
        intro H
        refine WW.if_eq (tgt := 113) rfl rfl (fun _ => ?_) (fun hno => absurd rfl hno)
        refine WW.run (pc' := 114) (lv' := [(6, .int (bI (false))), (5, .int c), (4, .int (nI (j))), (3, .int h), (2, .int (nI x)), (1, .int (nI k)), (0, .ref m)]) (st' := [.int (nI 0), .int ((T.la x).en), .int (nI 2), .int (nI x), .ref m]) 1 rfl ?_
        exact H
      | true =>
        intro H
        refine WW.if_eq (tgt := 113) rfl rfl (fun hno => absurd hno (by decide)) (fun _ => ?_)
        refine WW.run (pc' := 114) (lv' := [(6, .int (bI (true))), (5, .int c), (4, .int (nI (j))), (3, .int h), (2, .int (nI x)), (1, .int (nI k)), (0, .ref m)]) (st' := [.int h, .int ((T.la x).en), .int (nI 2), .int (nI x), .ref m]) 2 rfl ?_
        exact H
    refine WW.run (pc' := 115) (lv' := [(6, .int (bI (g))), (5, .int c), (4, .int (nI (j))), (3, .int h), (2, .int (nI x)), (1, .int (nI k)), (0, .ref m)]) (st' := [.int (((T.la x).en) + (bif g then h else nI 0)), .int (nI 2), .int (nI x), .ref m]) 1 rfl ?_
    refine WW.callV [.int (nI x), .int (nI 2), .int (((T.la x).en) + (bif g then h else nI 0))] m [] rfl mX3_66 (sS_sets hMa x 2 (((T.la x).en) + (bif g then h else nI 0)) (by omega)) (wdRecv.obj hMa.1 rfl) rfl rfl (wd_le rfl) (wd_le rfl) (wd_le rfl) (wd_le rfl) (fun o w3 hq => ?_)
    obtain ⟨rfl, hM3, fr3⟩ := hq
    show WW _ _ _ 118 _ [] _
    have hS2 := hSa.lamp2 h8 h6 (i := x) hx hl0 ((T.la x).en + (bif g then h else nI 0))
    refine WW.run (pc' := 119) (lv' := [(6, .int (bI (g))), (5, .int c), (4, .int (nI (j))), (3, .int h), (2, .int (nI x)), (1, .int (nI k)), (0, .ref m)]) (st' := [.ref m]) 1 rfl ?_
    refine WW.get rfl fX3_9 hM3.1 (show _ = some (.ref (A 0)) from rfl) ?_
    refine WW.run (pc' := 124) (lv' := [(6, .int (bI (g))), (5, .int c), (4, .int (nI (j))), (3, .int h), (2, .int (nI x)), (1, .int (nI k)), (0, .ref m)]) (st' := [.int (nI 4), .ref (A 0), .int (nI 4), .ref (A 0)]) 2 rfl ?_
    refine WW.mald 0 4 rfl hM3 (by decide) rfl rfl (by decide) (by decide) hS2.1.2.2.2.2.1 ?_
    refine WW.run (pc' := 127) (lv' := [(6, .int (bI (g))), (5, .int c), (4, .int (nI (j))), (3, .int h), (2, .int (nI x)), (1, .int (nI k)), (0, .ref m)]) (st' := [.int (bI (g)), .int T.refused, .int (nI 4), .ref (A 0)]) 1 rfl ?_
    refine WW.join (pc' := 135) (lv' := [(6, .int (bI (g))), (5, .int c), (4, .int (nI (j))), (3, .int h), (2, .int (nI x)), (1, .int (nI k)), (0, .ref m)]) (st' := [.int (bif g then nI 0 else nI 1), .int T.refused, .int (nI 4), .ref (A 0)]) ?_ ?_
    rotate_left
    · cases hb : g with
      | false =>
        intro H
        refine WW.if_eq (tgt := 134) rfl rfl (fun _ => ?_) (fun hno => absurd rfl hno)
        refine WW.run (pc' := 135) (lv' := [(6, .int (bI (false))), (5, .int c), (4, .int (nI (j))), (3, .int h), (2, .int (nI x)), (1, .int (nI k)), (0, .ref m)]) (st' := [.int (nI 1), .int T.refused, .int (nI 4), .ref (A 0)]) 1 rfl ?_
        exact H
      | true =>
        intro H
        refine WW.if_eq (tgt := 134) rfl rfl (fun hno => absurd hno (by decide)) (fun _ => ?_)
        refine WW.run (pc' := 135) (lv' := [(6, .int (bI (true))), (5, .int c), (4, .int (nI (j))), (3, .int h), (2, .int (nI x)), (1, .int (nI k)), (0, .ref m)]) (st' := [.int (nI 0), .int T.refused, .int (nI 4), .ref (A 0)]) 2 rfl ?_
        exact H
    refine WW.run (pc' := 136) (lv' := [(6, .int (bI (g))), (5, .int c), (4, .int (nI (j))), (3, .int h), (2, .int (nI x)), (1, .int (nI k)), (0, .ref m)]) (st' := [.int (T.refused + (bif g then nI 0 else nI 1)), .int (nI 4), .ref (A 0)]) 1 rfl ?_
    refine WW.sast 4 rfl hM3 rfl (by decide) (fun w4 hM4 fr4 => ?_)
    have hS3 := hS2.refused (T.refused + (bif g then nI 0 else nI 1))
    refine WW.run (pc' := 2) (lv' := [(1, .int ((nI k) + nI 1)), (6, .int (bI (g))), (5, .int c), (4, .int (nI (j))), (3, .int h), (2, .int (nI x)), (0, .ref m)]) (st' := []) 2 rfl ?_
    refine WW.pick (lv' := [(1, .int ((nI k) + nI 1)), (0, .ref m)]) [0, 6] rfl ?_
    rw [nI_add]
    refine ih _ _ hM4 ?_ (((fr0.trans fra).trans fr3).trans fr4)
    refine hS3.to ?_
    rw [hren]
    cases g with
    | true =>
      show aS.wRef _ (T.refused + nI 0) = _
      rw [Int32.add_n0]
      rfl
    | false =>
      show aS.wRef (aS.wLa (T.pays j (nI 0)) x (_, _, (T.la x).en + nI 0, _, _)) (T.refused + nI 1) = _
      rw [Int32.add_n0, pays0]
      show aS.wRef (aS.wLa T x (T.la x)) _ = _
      rw [wLa_id]
      rfl
  · skip
    obtain ⟨f1, hM1, hS1, fr0⟩ := hInv
    have hW1 := hW.renewTo S.nr
    obtain ⟨hns, hnl, hnr, hrq, -⟩ := renewTo_same S S.nr
    refine WW.run (pc' := 4) (lv' := [(1, .int (nI S.nr)), (0, .ref m)]) (st' := [.ref m, .int (nI S.nr)]) 2 rfl ?_
    refine WW.get rfl fX3_9 hM1.1 (show _ = some (.ref (A 0)) from rfl) ?_
    refine WW.run (pc' := 9) (lv' := [(1, .int (nI S.nr)), (0, .ref m)]) (st' := [.int (nI 6), .ref (A 0), .int (nI S.nr)]) 1 rfl ?_
    refine WW.mald 0 6 rfl hM1 (by decide) rfl rfl (by decide) (by decide) (hS1.1.2.2.2.2.2.2.trans (by rw [hnr])) ?_
    refine WW.icmp_ge (tgt := 143) rfl rfl (fun _ => ?_) (fun hno => absurd (nI_le (Nat.le_refl _) hn) hno)
    refine WW.run (pc' := 144) (lv' := [(1, .int (nI S.nr)), (0, .ref m)]) (st' := [.ref m]) 1 rfl ?_
    refine WW.get rfl fX3_9 hM1.1 (show _ = some (.ref (A 0)) from rfl) ?_
    refine WW.run (pc' := 150) (lv' := [(1, .int (nI S.nr)), (0, .ref m)]) (st' := [.int (nI 0), .int (nI 6), .ref (A 0)]) 2 rfl ?_
    refine WW.sast 6 rfl hM1 rfl (by decide) (fun w5 hM5 fr5 => ?_)
    exact WW.vret rfl rfl ⟨_, rfl, hS1.noReq hW1.1 hW1.2.1 S.rq, hM5, (fr0.trans fr5)⟩
end
