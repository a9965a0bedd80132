set_option maxRecDepth 100000
/-! THE MODEL's COMMANDS -/
theorem inR_at {x : Int32} {lo n : Nat} (hn : n < 2 ^ 31) (h : inR x (nI lo) (nI n) = true) (hlo : lo < 2 ^ 31) : ∃ j, lo ≤ j ∧ j ≤ n ∧ x = nI j ∧ tn x = j := by
  simp only [inR, Bool.and_eq_true, decide_eq_true_eq] at h
  obtain ⟨h1, h2⟩ := h
  have h0 : ¬ x < 0 := by
    intro e
    have h3 : nI lo < 0 := Int32.lt_of_le_of_lt h1 e
    exact nI_pos hlo h3
  obtain ⟨j, hj, rfl⟩ := nI_of h0
  exact ⟨j, (nI_leI hlo hj).mp h1, (nI_leI hj hn).mp h2, rfl, nI_clamp hj⟩
theorem ix_at {x : Int32} {n : Nat} (hn : n < 2 ^ 31) (h : inR x (nI 0) (nI n - nI 1) = true) : ∃ j, j < n ∧ x = nI j ∧ tn x = j := by
  cases n with
  | zero =>
    simp only [inR, Bool.and_eq_true, decide_eq_true_eq] at h
    have h3 : nI 0 ≤ nI 0 - nI 1 := Int32.le_trans h.1 h.2
    exact absurd h3 (by decide)
  | succ n =>
    rw [(wn_sub rfl rfl (by omega) : nI (n + 1) - nI 1 = nI (n + 1 - 1))] at h
    obtain ⟨j, -, h1, h2, h3⟩ := inR_at (by omega) h (by decide)
    exact ⟨j, by omega, h2, h3⟩
theorem aWf.ixS {S : aS} (hW : aWf S) {x : Int32} (h : S.ixS x = true) : ∃ j, j < S.ns ∧ x = nI j ∧ tn x = j := ix_at (by have := hW.1; omega) h
theorem aWf.ixL {S : aS} (hW : aWf S) {x : Int32} (h : S.ixL x = true) : ∃ j, j < S.nl ∧ x = nI j ∧ tn x = j := ix_at (by have := hW.2.1; omega) h
theorem aWf.ixR {S : aS} (hW : aWf S) {x : Int32} (h : S.ixR x = true) : ∃ j, j < S.nr ∧ x = nI j ∧ tn x = j := ix_at (by have := hW.2.2.1; omega) h
theorem pigeon : ∀ (m n : Nat) (g : Nat → Nat), (∀ k, k < n → g k < m) → (∀ k k', k < n → k' < n → g k = g k' → k = k') → n ≤ m
  | 0, n, g, h, _ => by
    by_cases e : n = 0
    · omega
    · exact absurd (h 0 (by omega)) (Nat.not_lt_zero _)
  | m + 1, 0, _, _, _ => Nat.zero_le _
  | m + 1, n + 1, g, h, hi => by
    have := pigeon m n (fun k => if g k = m then g n else g k) (fun k hk => by
      show (if g k = m then g n else g k) < m
      by_cases e : g k = m
      · rw [if_pos e]
        have h1 := h n (by omega)
        have h2 : g n ≠ m := fun q => by
          have := hi k n (by omega) (by omega) (e.trans q.symm)
          omega
        omega
      · rw [if_neg e]
        have h1 := h k (by omega)
        omega) (fun k k' hk hk' e => by
      replace e : (if g k = m then g n else g k) = (if g k' = m then g n else g k') := e
      by_cases e1 : g k = m <;> by_cases e2 : g k' = m
      · exact hi k k' (by omega) (by omega) (e1.trans e2.symm)
      · rw [if_pos e1, if_neg e2] at e
        have := hi n k' (by omega) (by omega) e
        omega
      · rw [if_neg e1, if_pos e2] at e
        have := hi k n (by omega) (by omega) e
        omega
      · rw [if_neg e1, if_neg e2] at e
        exact hi k k' (by omega) (by omega) e)
    omega
theorem aWf.few {S : aS} (hW : aWf S) {i : Nat} (hi : i < S.nl) (h : ∀ k, k < S.nr → (S.rq k).1 ≠ i) : S.nr < 8 := by
  obtain ⟨h1, h2, h3, h4, h5, h6⟩ := hW
  have := pigeon S.nl (S.nr + 1) (fun k => if k = S.nr then i else (S.rq k).1) (fun k hk => by
    show (if k = S.nr then i else (S.rq k).1) < S.nl
    by_cases e : k = S.nr
    · rw [if_pos e]; exact hi
    · rw [if_neg e]; exact (h5 k (by omega)).1) (fun k k' hk hk' e => by
    replace e : (if k = S.nr then i else (S.rq k).1) = (if k' = S.nr then i else (S.rq k').1) := e
    by_cases e1 : k = S.nr <;> by_cases e2 : k' = S.nr
    · omega
    · rw [if_pos e1, if_neg e2] at e
      exact absurd e.symm (h k' (by omega))
    · rw [if_neg e1, if_pos e2] at e
      exact absurd e (h k (by omega))
    · rw [if_neg e1, if_neg e2] at e
      exact h6 k k' (by omega) (by omega) e)
  omega
theorem find_isReq (S : aS) (x : Nat) : ∀ n, (S.find x n).isSome = aAny (fun k => (S.rq k).1 == x) n
  | 0 => rfl
  | n + 1 => by
    have ih := find_isReq S x n
    show ((bif (S.rq n).1 == x then some n else S.find x n).isSome) = (aAny _ n || ((S.rq n).1 == x))
    cases (S.rq n).1 == x with
    | true => simp
    | false => simpa using ih
theorem sS_newShip {f : Nat → Int32} {S : aS} (h : fS f S) (h6 : S.ns ≤ 6) (hlt : S.ns < 6) : fS (va_up (va_up (va_up (va_up f (7 + 3 * S.ns) (nI 100)) (7 + 3 * S.ns + 1) (nI 0)) (7 + 3 * S.ns + 2) (nI 0)) 0 (nI S.ns + nI 1)) ((S.ns + 1, va_up S.sh S.ns (nI 100, nI 0, nI 0)), S.2) := by
  have hz : ∀ z, z ≠ 0 → (z < 7 + 3 * S.ns ∨ 10 + 3 * S.ns ≤ z) → va_up (va_up (va_up (va_up f (7 + 3 * S.ns) (nI 100)) (7 + 3 * S.ns + 1) (nI 0)) (7 + 3 * S.ns + 2) (nI 0)) 0 (nI S.ns + nI 1) z = f z := fun z h1 h2 => (va_up_ne _ _ h1).trans ((va_up_ne _ _ (by omega)).trans ((va_up_ne _ _ (by omega)).trans (va_up_ne _ _ (by omega))))
  obtain ⟨⟨a0, a1, a2, a3, a4, a5, a6⟩, b, c, d⟩ := h
  refine ⟨⟨(va_up_self _ _ _).trans (nI_add _ _), (hz 1 (by omega) (by omega)).trans a1, (hz 2 (by omega) (by omega)).trans a2, (hz 3 (by omega) (by omega)).trans a3, (hz 4 (by omega) (by omega)).trans a4, (hz 5 (by omega) (by omega)).trans a5, (hz 6 (by omega) (by omega)).trans a6⟩, fun k hk => ?_, fun k hk => ?_, fun k hk => ?_⟩
  · by_cases e : k = S.ns
    · subst e
      show _ = ((va_up S.sh S.ns (nI 100, nI 0, nI 0)) S.ns).1 ∧ _ = ((va_up S.sh S.ns (nI 100, nI 0, nI 0)) S.ns).2.1 ∧ _ = ((va_up S.sh S.ns (nI 100, nI 0, nI 0)) S.ns).2.2
      rw [va_up_self]
      exact ⟨(va_up_ne _ _ (by omega)).trans ((va_up_ne _ _ (by omega)).trans ((va_up_ne _ _ (by omega)).trans (va_up_self _ _ _))), (va_up_ne _ _ (by omega)).trans ((va_up_ne _ _ (by omega)).trans (va_up_self _ _ _)), (va_up_ne _ _ (by omega)).trans (va_up_self _ _ _)⟩
    · have hk' : k < S.ns + 1 := hk
      show _ = ((va_up S.sh S.ns (nI 100, nI 0, nI 0)) k).1 ∧ _ = ((va_up S.sh S.ns (nI 100, nI 0, nI 0)) k).2.1 ∧ _ = ((va_up S.sh S.ns (nI 100, nI 0, nI 0)) k).2.2
      rw [va_up_ne _ _ e]
      obtain ⟨b0, b1, b2⟩ := b k (by omega)
      exact ⟨(hz _ (by omega) (by omega)).trans b0, (hz _ (by omega) (by omega)).trans b1, (hz _ (by omega) (by omega)).trans b2⟩
  · obtain ⟨c0, c1, c2, c3, c4⟩ := c k hk
    exact ⟨(hz _ (by omega) (by omega)).trans c0, (hz _ (by omega) (by omega)).trans c1, (hz _ (by omega) (by omega)).trans c2, (hz _ (by omega) (by omega)).trans c3, (hz _ (by omega) (by omega)).trans c4⟩
  · obtain ⟨d0, d1⟩ := d k hk
    exact ⟨(hz _ (by omega) (by omega)).trans d0, (hz _ (by omega) (by omega)).trans d1⟩
theorem sS_newLamp {f f' : Nat → Int32} {S : aS} (h : fS f S) (h6 : S.ns ≤ 6) (hlt : S.nl < 8) (x : Int32) (hz : ∀ z, z ≠ 1 → (z < 25 + 5 * S.nl ∨ 30 + 5 * S.nl ≤ z) → f' z = f z) (e0 : f' 1 = nI (S.nl + 1)) (g0 : f' (25 + 5 * S.nl + 0) = x) (g1 : f' (25 + 5 * S.nl + 1) = nI 0) (g2 : f' (25 + 5 * S.nl + 2) = nI 0) (g3 : f' (25 + 5 * S.nl + 3) = nI 0) (g4 : f' (25 + 5 * S.nl + 4) = nI 0) : fS f' (S.1, (S.nl + 1, va_up S.la S.nl (x, 0, nI 0, nI 0, false)), S.2.2) := by
  obtain ⟨⟨a0, a1, a2, a3, a4, a5, a6⟩, b, c, d⟩ := h
  refine ⟨⟨(hz 0 (by omega) (by omega)).trans a0, e0, (hz 2 (by omega) (by omega)).trans a2, (hz 3 (by omega) (by omega)).trans a3, (hz 4 (by omega) (by omega)).trans a4, (hz 5 (by omega) (by omega)).trans a5, (hz 6 (by omega) (by omega)).trans a6⟩, fun k hk => ?_, fun k hk => ?_, fun k hk => ?_⟩
  · have hk' : k < S.ns := hk
    obtain ⟨b0, b1, b2⟩ := b k hk
    exact ⟨(hz _ (by omega) (by omega)).trans b0, (hz _ (by omega) (by omega)).trans b1, (hz _ (by omega) (by omega)).trans b2⟩
  · have hk' : k < S.nl + 1 := hk
    generalize hL : va_up S.la S.nl (x, 0, nI 0, nI 0, false) = L
    show _ = (L k).lv ∧ _ = nI (L k).le ∧ _ = (if (L k).le = 0 then nI 0 else (L k).en) ∧ _ = (L k).br ∧ _ = bI (L k).was
    rw [← hL]
    by_cases e : k = S.nl
    · subst e
      rw [va_up_self]
      exact ⟨g0, g1, g2, g3, g4⟩
    · rw [va_up_ne _ _ e]
      obtain ⟨c0, c1, c2, c3, c4⟩ := c k (by omega)
      exact ⟨(hz _ (by omega) (by omega)).trans c0, (hz _ (by omega) (by omega)).trans c1, (hz _ (by omega) (by omega)).trans c2, (hz _ (by omega) (by omega)).trans c3, (hz _ (by omega) (by omega)).trans c4⟩
  · obtain ⟨d0, d1⟩ := d k hk
    exact ⟨(hz _ (by omega) (by omega)).trans d0, (hz _ (by omega) (by omega)).trans d1⟩
section
variable {l : Launch} {G : wdG} {w : wdW} {m : Nat} {A : Nat → Nat} {I : Nat → Int32} {F : Nat → Nat → Int32} {f : Nat → Int32} {S : aS}
theorem sS_fails (hM : isM w m A I (va_up F 0 f)) (p : Int32) : Sp l G MX3_fails 0 0 0 [.ref m, .int p] w (fun o w' => o = .inl (some (.int (nI 0))) ∧ isM w' m A (va_up I 2 p) (va_up F 0 f) ∧ mFr m A w w') := by
  refine Sp.of rfl (by decide +kernel) kX3_fails (wd_le rfl) ?_
  refine WW.run (pc' := 2) (lv' := [(0, .ref m), (1, .int p)]) (st' := [.int p, .ref m]) 2 rfl ?_
  refine WW.mputI 2 rfl pfX3_42 hM rfl rfl rfl rfl (fun w1 hM1 fr1 => ?_)
  refine WW.run (pc' := 6) (lv' := [(0, .ref m), (1, .int p)]) (st' := [.int (nI 0)]) 1 rfl ?_
  exact WW.iret rfl rfl rfl ⟨rfl, hM1, fr1⟩
theorem sS_doAddShip (hM : isM w m A I (va_up F 0 f)) (hS : fS f S) (hW : aWf S) : SpD l G MX3_doAddShip 1 m A I F [] w S S.doShip := by
  obtain ⟨r, hr⟩ : ∃ r, r = S.doShip := ⟨_, rfl⟩
  rw [← hr]
  unfold aS.doShip at hr
  have h6 := hW.1
  refine Sp.of rfl (by decide +kernel) kX3_doAddShip (wd_le rfl) ?_
  refine WW.run (pc' := 1) (lv' := [(0, .ref m)]) (st' := [.ref m]) 1 rfl ?_
  refine WW.get rfl fX3_9 hM.1 (show _ = some (.ref (A 0)) from rfl) ?_
  refine WW.run (pc' := 5) (lv' := [(0, .ref m)]) (st' := [.int (nI 0), .ref (A 0)]) 1 rfl ?_
  refine WW.mald 0 0 rfl hM (by decide) rfl rfl (by decide) (by decide) (show f 0 = nI S.ns from hS.1.1) ?_
  refine WW.run (pc' := 10) (lv' := [(1, .int (nI S.ns)), (0, .ref m)]) (st' := [.int (nI 6), .int (nI S.ns)]) 3 rfl ?_
  by_cases h : S.ns = 6
  · skip
    rw [if_pos h] at hr
    subst hr
    refine WW.icmp_ne (tgt := 19) rfl rfl (fun hno => absurd (by rw [h]) hno) (fun _ => ?_)
    refine WW.run (pc' := 15) (lv' := [(1, .int (nI S.ns)), (0, .ref m)]) (st' := [.int (nI 1), .ref m]) 2 rfl ?_
    refine WW.callV [.int (nI 1)] m [] rfl mX3_70 (sS_fails hM (nI 1)) (wdRecv.obj hM.1 rfl) rfl rfl (wd_le rfl) (wd_le rfl) (wd_le rfl) (wd_le rfl) (fun o w2 hq => ?_)
    obtain ⟨rfl, hM2, fr2⟩ := hq
    show WW _ _ _ 18 _ [.int (nI 0)] _
    exact WW.iret rfl rfl rfl ⟨_, rfl, hS, hM2, fr2⟩
  · skip
    rw [if_neg h] at hr
    subst hr
    refine WW.icmp_ne (tgt := 19) rfl rfl (fun _ => ?_) (fun hno => absurd hno (by rw [nI_eq (by omega) (by decide)]; exact h))
    refine WW.run (pc' := 20) (lv' := [(1, .int (nI S.ns)), (0, .ref m)]) (st' := [.ref m]) 1 rfl ?_
    refine WW.get rfl fX3_9 hM.1 (show _ = some (.ref (A 0)) from rfl) ?_
    refine WW.run (pc' := 31) (lv' := [(1, .int (nI S.ns)), (0, .ref m)]) (st' := [.int (nI 100), .int ((nI 7) + ((nI 3) * (nI S.ns))), .ref (A 0)]) 6 rfl ?_
    refine WW.sast (7 + (3 * S.ns)) rfl hM (wn_add rfl (wn_mul rfl rfl)) (by show _ < 81; omega) (fun w3 hM3 fr3 => ?_)
    refine WW.run (pc' := 33) (lv' := [(1, .int (nI S.ns)), (0, .ref m)]) (st' := [.ref m]) 1 rfl ?_
    refine WW.get rfl fX3_9 hM3.1 (show _ = some (.ref (A 0)) from rfl) ?_
    refine WW.run (pc' := 45) (lv' := [(1, .int (nI S.ns)), (0, .ref m)]) (st' := [.int (nI 0), .int (((nI 7) + ((nI 3) * (nI S.ns))) + (nI 1)), .ref (A 0)]) 8 rfl ?_
    refine WW.sast ((7 + (3 * S.ns)) + 1) rfl hM3 (wn_add (wn_add rfl (wn_mul rfl rfl)) rfl) (by show _ < 81; omega) (fun w4 hM4 fr4 => ?_)
    refine WW.run (pc' := 47) (lv' := [(1, .int (nI S.ns)), (0, .ref m)]) (st' := [.ref m]) 1 rfl ?_
    refine WW.get rfl fX3_9 hM4.1 (show _ = some (.ref (A 0)) from rfl) ?_
    refine WW.run (pc' := 59) (lv' := [(1, .int (nI S.ns)), (0, .ref m)]) (st' := [.int (nI 0), .int (((nI 7) + ((nI 3) * (nI S.ns))) + (nI 2)), .ref (A 0)]) 8 rfl ?_
    refine WW.sast ((7 + (3 * S.ns)) + 2) rfl hM4 (wn_add (wn_add rfl (wn_mul rfl rfl)) rfl) (by show _ < 81; omega) (fun w5 hM5 fr5 => ?_)
    refine WW.run (pc' := 61) (lv' := [(1, .int (nI S.ns)), (0, .ref m)]) (st' := [.ref m]) 1 rfl ?_
    refine WW.get rfl fX3_9 hM5.1 (show _ = some (.ref (A 0)) from rfl) ?_
    refine WW.run (pc' := 66) (lv' := [(1, .int (nI S.ns)), (0, .ref m)]) (st' := [.int (nI 0), .ref (A 0), .int (nI 0), .ref (A 0)]) 2 rfl ?_
    refine WW.mald 0 0 rfl hM5 (by decide) rfl rfl (by decide) (by decide) (show (va_up (va_up (va_up f (7 + (3 * S.ns)) (nI 100)) ((7 + (3 * S.ns)) + 1) (nI 0)) ((7 + (3 * S.ns)) + 2) (nI 0)) 0 = nI S.ns from ((va_up_ne _ _ (by omega)).trans ((va_up_ne _ _ (by omega)).trans ((va_up_ne _ _ (by omega)).trans hS.1.1)))) ?_
    refine WW.run (pc' := 69) (lv' := [(1, .int (nI S.ns)), (0, .ref m)]) (st' := [.int ((nI S.ns) + (nI 1)), .int (nI 0), .ref (A 0)]) 2 rfl ?_
    refine WW.sast 0 rfl hM5 rfl (by decide) (fun w6 hM6 fr6 => ?_)
    refine WW.run (pc' := 71) (lv' := [(1, .int (nI S.ns)), (0, .ref m)]) (st' := [.int (nI S.ns)]) 1 rfl ?_
    exact WW.iret rfl rfl rfl ⟨_, rfl, sS_newShip hS h6 (by omega), hM6, (((fr3.trans fr4).trans fr5).trans fr6)⟩
theorem sS_doAddLamp (hM : isM w m A I (va_up F 0 f)) (hS : fS f S) (hW : aWf S) (x : Int32) : SpD l G MX3_doAddLamp 1 m A I F [.int x] w S (S.doLamp x) := by
  obtain ⟨r, hr⟩ : ∃ r, r = S.doLamp x := ⟨_, rfl⟩
  rw [← hr]
  unfold aS.doLamp at hr
  have h6 := hW.1
  have h8 := hW.2.1
  refine Sp.of rfl (by decide +kernel) kX3_doAddLamp (wd_le rfl) ?_
  refine WW.run (pc' := 1) (lv' := [(0, .ref m), (1, .int x)]) (st' := [.ref m]) 1 rfl ?_
  refine WW.get rfl fX3_9 hM.1 (show _ = some (.ref (A 0)) from rfl) ?_
  refine WW.run (pc' := 5) (lv' := [(0, .ref m), (1, .int x)]) (st' := [.int (nI 1), .ref (A 0)]) 1 rfl ?_
  refine WW.mald 0 1 rfl hM (by decide) rfl rfl (by decide) (by decide) (show f 1 = nI S.nl from hS.1.2.1) ?_
  refine WW.run (pc' := 10) (lv' := [(2, .int (nI S.nl)), (0, .ref m), (1, .int x)]) (st' := [.int (nI 3), .int (nI 1), .int x]) 4 rfl ?_
  refine WW.callS [.int x, .int (nI 1), .int (nI 3)] [] rfl mX3_54 (sM_in x (nI 1) (nI 3)) rfl rfl (wd_le rfl) (wd_le rfl) (wd_le rfl) (wd_le rfl) (fun o w' hq => ?_)
  obtain ⟨rfl, rfl⟩ := hq
  show WW _ _ _ 13 _ [.int (bI (inR x (nI 1) (nI 3)))] _
  cases hin : inR x (nI 1) (nI 3) with
  | false =>
    rw [hin] at hr
    subst hr
    refine WW.if_ne (tgt := 22) rfl rfl (fun hno => absurd rfl hno) (fun _ => ?_)
    refine WW.run (pc' := 18) (lv' := [(2, .int (nI S.nl)), (0, .ref m), (1, .int x)]) (st' := [.int (nI 1), .ref m]) 2 rfl ?_
    refine WW.callV [.int (nI 1)] m [] rfl mX3_70 (sS_fails hM (nI 1)) (wdRecv.obj hM.1 rfl) rfl rfl (wd_le rfl) (wd_le rfl) (wd_le rfl) (wd_le rfl) (fun o w7 hq => ?_)
    obtain ⟨rfl, hM7, fr7⟩ := hq
    show WW _ _ _ 21 _ [.int (nI 0)] _
    exact WW.iret rfl rfl rfl ⟨_, rfl, hS, hM7, fr7⟩
  | true =>
    rw [hin] at hr
    refine WW.if_ne (tgt := 22) rfl rfl (fun _ => ?_) (fun hno => absurd hno (by decide))
    refine WW.run (pc' := 25) (lv' := [(2, .int (nI S.nl)), (0, .ref m), (1, .int x)]) (st' := [.int (nI 8), .int (nI S.nl)]) 2 rfl ?_
    by_cases h : S.nl = 8
    · skip
      rw [show (bif true then (if S.nl = 8 then (Sum.inl 2 : aR) else .inr (nI S.nl, (S.1, (S.nl + 1, va_up S.la S.nl (x, 0, nI 0, nI 0, false)), S.2.2))) else .inl 1) = .inl 2 from if_pos h] at hr
      subst hr
      refine WW.icmp_ne (tgt := 34) rfl rfl (fun hno => absurd (by rw [h]) hno) (fun _ => ?_)
      refine WW.run (pc' := 30) (lv' := [(2, .int (nI S.nl)), (0, .ref m), (1, .int x)]) (st' := [.int (nI 2), .ref m]) 2 rfl ?_
      refine WW.callV [.int (nI 2)] m [] rfl mX3_70 (sS_fails hM (nI 2)) (wdRecv.obj hM.1 rfl) rfl rfl (wd_le rfl) (wd_le rfl) (wd_le rfl) (wd_le rfl) (fun o w8 hq => ?_)
      obtain ⟨rfl, hM8, fr8⟩ := hq
      show WW _ _ _ 33 _ [.int (nI 0)] _
      exact WW.iret rfl rfl rfl ⟨_, rfl, hS, hM8, fr8⟩
    · skip
      rw [show (bif true then (if S.nl = 8 then (Sum.inl 2 : aR) else .inr (nI S.nl, (S.1, (S.nl + 1, va_up S.la S.nl (x, 0, nI 0, nI 0, false)), S.2.2))) else .inl 1) = .inr (nI S.nl, (S.1, (S.nl + 1, va_up S.la S.nl (x, 0, nI 0, nI 0, false)), S.2.2)) from if_neg h] at hr
      subst hr
      refine WW.icmp_ne (tgt := 34) rfl rfl (fun _ => ?_) (fun hno => absurd hno (by rw [nI_eq (by omega) (by decide)]; exact h))
      refine WW.run (pc' := 36) (lv' := [(3, .int (nI 0)), (2, .int (nI S.nl)), (0, .ref m), (1, .int x)]) (st' := []) 2 rfl ?_
      refine WW.upW 5 (fun _ => 0) (fun _ => 0) (fun i => [(3, .int (nI i)), (2, .int (nI S.nl)), (0, .ref m), (1, .int x)]) (fun i u => ∃ f', isM u m A I (va_up F 0 f') ∧ (∀ z, (z < 25 + 5 * S.nl ∨ 25 + 5 * S.nl + i ≤ z) → f' z = f z) ∧ (∀ j, j < i → f' (25 + 5 * S.nl + j) = nI 0) ∧ mFr m A w' u) (fun i wi hi hInv ih => ?_) (fun wi hInv => ?_) ⟨f, hM, fun _ _ => rfl, fun j hj => absurd hj (Nat.not_lt_zero j), mFr.refl _ _ _⟩
      · skip
        obtain ⟨f1, hM1, hz, hv, fr0⟩ := hInv
        refine WW.run (pc' := 38) (lv' := [(3, .int (nI i)), (2, .int (nI S.nl)), (0, .ref m), (1, .int x)]) (st' := [.int (nI 5), .int (nI i)]) 2 rfl ?_
        refine WW.icmp_ge (tgt := 54) rfl rfl (fun hno => absurd hno (nI_ge hi (by decide))) (fun _ => ?_)
        refine WW.run (pc' := 45) (lv' := [(3, .int (nI i)), (2, .int (nI S.nl)), (0, .ref m), (1, .int x)]) (st' := [.int (nI 0), .int (nI i), .int (nI S.nl), .ref m]) 4 rfl ?_
        refine WW.callV [.int (nI S.nl), .int (nI i), .int (nI 0)] m [] rfl mX3_66 (sS_sets hM1 S.nl i (nI 0) (by omega)) (wdRecv.obj hM1.1 rfl) rfl rfl (wd_le rfl) (wd_le rfl) (wd_le rfl) (wd_le rfl) (fun o w9 hq => ?_)
        obtain ⟨rfl, hM9, fr9⟩ := hq
        show WW _ _ _ 48 _ [] _
        refine WW.run (pc' := 36) (lv' := [(3, .int ((nI i) + nI 1)), (2, .int (nI S.nl)), (0, .ref m), (1, .int x)]) (st' := []) 2 rfl ?_
        rw [nI_add]
        refine ih _ ⟨_, hM9, fun z h1 => (va_up_ne _ _ (by omega)).trans (hz z (by omega)), fun j hj => ?_, (fr0.trans fr9)⟩
        by_cases e : j = i
        · rw [e]; exact va_up_self _ _ _
        · exact (va_up_ne _ _ (by omega)).trans (hv j (by omega))
      · skip
        obtain ⟨f1, hM1, hz, hv, fr0⟩ := hInv
        refine WW.run (pc' := 38) (lv' := [(3, .int (nI 5)), (2, .int (nI S.nl)), (0, .ref m), (1, .int x)]) (st' := [.int (nI 5), .int (nI 5)]) 2 rfl ?_
        refine WW.icmp_ge (tgt := 54) rfl rfl (fun _ => ?_) (fun hno => absurd (by decide) hno)
        refine WW.run (pc' := 58) (lv' := [(3, .int (nI 5)), (2, .int (nI S.nl)), (0, .ref m), (1, .int x)]) (st' := [.int x, .int (nI 0), .int (nI S.nl), .ref m]) 4 rfl ?_
        refine WW.callV [.int (nI S.nl), .int (nI 0), .int x] m [] rfl mX3_66 (sS_sets hM1 S.nl 0 x (by omega)) (wdRecv.obj hM1.1 rfl) rfl rfl (wd_le rfl) (wd_le rfl) (wd_le rfl) (wd_le rfl) (fun o w10 hq => ?_)
        obtain ⟨rfl, hM10, fr10⟩ := hq
        show WW _ _ _ 61 _ [] _
        refine WW.run (pc' := 62) (lv' := [(3, .int (nI 5)), (2, .int (nI S.nl)), (0, .ref m), (1, .int x)]) (st' := [.ref m]) 1 rfl ?_
        refine WW.get rfl fX3_9 hM10.1 (show _ = some (.ref (A 0)) from rfl) ?_
        refine WW.run (pc' := 67) (lv' := [(3, .int (nI 5)), (2, .int (nI S.nl)), (0, .ref m), (1, .int x)]) (st' := [.int (nI 1), .ref (A 0), .int (nI 1), .ref (A 0)]) 2 rfl ?_
        refine WW.mald 0 1 rfl hM10 (by decide) rfl rfl (by decide) (by decide) (show (va_up f1 (25 + 5 * S.nl + 0) x) 1 = nI S.nl from ((va_up_ne _ _ (by omega)).trans ((hz 1 (by omega)).trans hS.1.2.1))) ?_
        refine WW.run (pc' := 70) (lv' := [(3, .int (nI 5)), (2, .int (nI S.nl)), (0, .ref m), (1, .int x)]) (st' := [.int ((nI S.nl) + (nI 1)), .int (nI 1), .ref (A 0)]) 2 rfl ?_
        refine WW.sast 1 rfl hM10 rfl (by decide) (fun w11 hM11 fr11 => ?_)
        refine WW.run (pc' := 72) (lv' := [(3, .int (nI 5)), (2, .int (nI S.nl)), (0, .ref m), (1, .int x)]) (st' := [.int (nI S.nl)]) 1 rfl ?_
        exact WW.iret rfl rfl rfl ⟨_, rfl, (sS_newLamp hS h6 (by omega) x (fun z h1 h2 => (va_up_ne _ _ h1).trans ((va_up_ne _ _ (by omega)).trans (hz z (by omega)))) ((va_up_self _ _ _).trans (nI_add _ _)) ((va_up_ne _ _ (by omega)).trans (va_up_self _ _ _)) ((va_up_ne _ _ (by omega)).trans ((va_up_ne _ _ (by omega)).trans (hv 1 (by omega)))) ((va_up_ne _ _ (by omega)).trans ((va_up_ne _ _ (by omega)).trans (hv 2 (by omega)))) ((va_up_ne _ _ (by omega)).trans ((va_up_ne _ _ (by omega)).trans (hv 3 (by omega)))) ((va_up_ne _ _ (by omega)).trans ((va_up_ne _ _ (by omega)).trans (hv 4 (by omega))))), hM11, ((fr0.trans fr10).trans fr11)⟩
theorem sS_doAddOil (hM : isM w m A I (va_up F 0 f)) (hS : fS f S) (x : Int32) : SpD l G MX3_doAddOil 1 m A I F [.int x] w S (S.doOil x) := by
  obtain ⟨r, hr⟩ : ∃ r, r = S.doOil x := ⟨_, rfl⟩
  rw [← hr]
  unfold aS.doOil at hr
  refine Sp.of rfl (by decide +kernel) kX3_doAddOil (wd_le rfl) ?_
  refine WW.run (pc' := 5) (lv' := [(0, .ref m), (1, .int x)]) (st' := [.int (nI 200), .int (nI 1), .int x]) 3 rfl ?_
  refine WW.callS [.int x, .int (nI 1), .int (nI 200)] [] rfl mX3_54 (sM_in x (nI 1) (nI 200)) rfl rfl (wd_le rfl) (wd_le rfl) (wd_le rfl) (wd_le rfl) (fun o w' hq => ?_)
  obtain ⟨rfl, rfl⟩ := hq
  show WW _ _ _ 8 _ [.int (bI (inR x (nI 1) (nI 200)))] _
  cases hin : inR x (nI 1) (nI 200) with
  | false =>
    rw [hin] at hr
    subst hr
    refine WW.if_ne (tgt := 17) rfl rfl (fun hno => absurd rfl hno) (fun _ => ?_)
    refine WW.run (pc' := 13) (lv' := [(0, .ref m), (1, .int x)]) (st' := [.int (nI 1), .ref m]) 2 rfl ?_
    refine WW.callV [.int (nI 1)] m [] rfl mX3_70 (sS_fails hM (nI 1)) (wdRecv.obj hM.1 rfl) rfl rfl (wd_le rfl) (wd_le rfl) (wd_le rfl) (wd_le rfl) (fun o w12 hq => ?_)
    obtain ⟨rfl, hM12, fr12⟩ := hq
    show WW _ _ _ 16 _ [.int (nI 0)] _
    exact WW.iret rfl rfl rfl ⟨_, rfl, hS, hM12, fr12⟩
  | true =>
    rw [hin] at hr
    refine WW.if_ne (tgt := 17) rfl rfl (fun _ => ?_) (fun hno => absurd hno (by decide))
    refine WW.run (pc' := 18) (lv' := [(0, .ref m), (1, .int x)]) (st' := [.ref m]) 1 rfl ?_
    refine WW.get rfl fX3_9 hM.1 (show _ = some (.ref (A 0)) from rfl) ?_
    refine WW.run (pc' := 22) (lv' := [(0, .ref m), (1, .int x)]) (st' := [.int (nI 2), .ref (A 0)]) 1 rfl ?_
    refine WW.mald 0 2 rfl hM (by decide) rfl rfl (by decide) (by decide) (show f 2 = S.oil from hS.1.2.2.1) ?_
    refine WW.run (pc' := 28) (lv' := [(0, .ref m), (1, .int x)]) (st' := [.int (nI 500), .int (S.oil + x)]) 3 rfl ?_
    by_cases h : nI 500 < S.oil + x
    · skip
      replace hr : r = .inl 2 := hr.trans (if_pos h)
      subst hr
      refine WW.icmp_le (tgt := 37) rfl rfl (fun hno => absurd hno (Int32.not_le.mpr h)) (fun _ => ?_)
      refine WW.run (pc' := 33) (lv' := [(0, .ref m), (1, .int x)]) (st' := [.int (nI 2), .ref m]) 2 rfl ?_
      refine WW.callV [.int (nI 2)] m [] rfl mX3_70 (sS_fails hM (nI 2)) (wdRecv.obj hM.1 rfl) rfl rfl (wd_le rfl) (wd_le rfl) (wd_le rfl) (wd_le rfl) (fun o w13 hq => ?_)
      obtain ⟨rfl, hM13, fr13⟩ := hq
      show WW _ _ _ 36 _ [.int (nI 0)] _
      exact WW.iret rfl rfl rfl ⟨_, rfl, hS, hM13, fr13⟩
    · skip
      replace hr : r = .inr (S.oil + x, S.wOil (S.oil + x)) := hr.trans (if_neg h)
      subst hr
      refine WW.icmp_le (tgt := 37) rfl rfl (fun _ => ?_) (fun hno => absurd (Int32.not_lt.mp h) hno)
      refine WW.run (pc' := 38) (lv' := [(0, .ref m), (1, .int x)]) (st' := [.ref m]) 1 rfl ?_
      refine WW.get rfl fX3_9 hM.1 (show _ = some (.ref (A 0)) from rfl) ?_
      refine WW.run (pc' := 43) (lv' := [(0, .ref m), (1, .int x)]) (st' := [.int (nI 2), .ref (A 0), .int (nI 2), .ref (A 0)]) 2 rfl ?_
      refine WW.mald 0 2 rfl hM (by decide) rfl rfl (by decide) (by decide) (show f 2 = S.oil from hS.1.2.2.1) ?_
      refine WW.run (pc' := 46) (lv' := [(0, .ref m), (1, .int x)]) (st' := [.int (S.oil + x), .int (nI 2), .ref (A 0)]) 2 rfl ?_
      refine WW.sast 2 rfl hM rfl (by decide) (fun w14 hM14 fr14 => ?_)
      refine WW.run (pc' := 48) (lv' := [(0, .ref m), (1, .int x)]) (st' := [.ref m]) 1 rfl ?_
      refine WW.get rfl fX3_9 hM14.1 (show _ = some (.ref (A 0)) from rfl) ?_
      refine WW.run (pc' := 52) (lv' := [(0, .ref m), (1, .int x)]) (st' := [.int (nI 2), .ref (A 0)]) 1 rfl ?_
      refine WW.mald 0 2 rfl hM14 (by decide) rfl rfl (by decide) (by decide) (show (va_up f 2 (S.oil + x)) 2 = S.oil + x from (va_up_self _ _ _)) ?_
      exact WW.iret rfl rfl rfl ⟨_, rfl, hS.oil _, hM14, fr14⟩
theorem fS.newReq {f f' : Nat → Int32} {S : aS} (h : fS f S) (h6 : S.ns ≤ 6) (h8 : S.nl ≤ 8) (x : Nat) (y : Int32) (hz : ∀ z, z ≠ 6 → z < 65 + 2 * S.nr → f' z = f z) (e0 : f' 6 = nI (S.nr + 1)) (g0 : f' (65 + 2 * S.nr) = nI x) (g1 : f' (65 + 2 * S.nr + 1) = y) : fS f' (S.wRq (S.nr + 1) (va_up S.rq S.nr (x, y))) := by
  obtain ⟨⟨a0, a1, a2, a3, a4, a5, a6⟩, b, c, d⟩ := h
  refine ⟨⟨(hz 0 (by omega) (by omega)).trans a0, (hz 1 (by omega) (by omega)).trans a1, (hz 2 (by omega) (by omega)).trans a2, (hz 3 (by omega) (by omega)).trans a3, (hz 4 (by omega) (by omega)).trans a4, (hz 5 (by omega) (by omega)).trans a5, e0⟩, fun k hk => ?_, fun k hk => ?_, fun k hk => ?_⟩
  · have hk' : k < S.ns := hk
    obtain ⟨b0, b1, b2⟩ := b k hk
    exact ⟨(hz _ (by omega) (by omega)).trans b0, (hz _ (by omega) (by omega)).trans b1, (hz _ (by omega) (by omega)).trans b2⟩
  · have hk' : k < S.nl := hk
    obtain ⟨c0, c1, c2, c3, c4⟩ := c k hk
    exact ⟨(hz _ (by omega) (by omega)).trans c0, (hz _ (by omega) (by omega)).trans c1, (hz _ (by omega) (by omega)).trans c2, (hz _ (by omega) (by omega)).trans c3, (hz _ (by omega) (by omega)).trans c4⟩
  · have hk' : k < S.nr + 1 := hk
    show _ = nI (va_up S.rq S.nr (x, y) k).1 ∧ _ = (va_up S.rq S.nr (x, y) k).2
    by_cases e : k = S.nr
    · subst e
      rw [va_up_self]
      exact ⟨g0, g1⟩
    · rw [va_up_ne _ _ e]
      obtain ⟨d0, d1⟩ := d k (by omega)
      exact ⟨(hz _ (by omega) (by omega)).trans d0, (hz _ (by omega) (by omega)).trans d1⟩
theorem sS_doLease (hM : isM w m A I (va_up F 0 f)) (hS : fS f S) (hW : aWf S) (x y h : Int32) : SpD l G MX3_doLease 2 m A I F [.int x, .int y, .int h] w S (S.doLease x y h) := by
  obtain ⟨r, hr⟩ : ∃ r, r = S.doLease x y h := ⟨_, rfl⟩
  rw [← hr]
  unfold aS.doLease at hr
  have h6 := hW.1
  have h8 := hW.2.1
  refine Sp.of rfl (by decide +kernel) kX3_doLease (wd_le rfl) ?_
  refine WW.run (pc' := 2) (lv' := [(0, .ref m), (1, .int x), (2, .int y), (3, .int h)]) (st' := [.int x, .ref m]) 2 rfl ?_
  refine WW.callV [.int x] m [] rfl mX3_89 (sM_isShip hM hS x) (wdRecv.obj hM.1 rfl) rfl rfl (wd_le rfl) (wd_le rfl) (wd_le rfl) (wd_le rfl) (fun o w' hq => ?_)
  obtain ⟨rfl, rfl⟩ := hq
  show WW _ _ _ 5 _ [.int (bI (S.ixS x))] _
  cases h1 : S.ixS x with
  | false =>
    rw [h1] at hr
    subst hr
    refine WW.if_eq (tgt := 16) rfl rfl (fun _ => ?_) (fun hno => absurd rfl hno)
    refine WW.run (pc' := 18) (lv' := [(0, .ref m), (1, .int x), (2, .int y), (3, .int h)]) (st' := [.int (nI 1), .ref m]) 2 rfl ?_
    refine WW.callV [.int (nI 1)] m [] rfl mX3_70 (sS_fails hM (nI 1)) (wdRecv.obj hM.1 rfl) rfl rfl (wd_le rfl) (wd_le rfl) (wd_le rfl) (wd_le rfl) (fun o w15 hq => ?_)
    obtain ⟨rfl, hM15, fr15⟩ := hq
    show WW _ _ _ 21 _ [.int (nI 0)] _
    exact WW.iret rfl rfl rfl ⟨_, rfl, hS, hM15, fr15⟩
  | true =>
  rw [h1] at hr
  refine WW.if_eq (tgt := 16) rfl rfl (fun hno => absurd hno (by decide)) (fun _ => ?_)
  refine WW.run (pc' := 10) (lv' := [(0, .ref m), (1, .int x), (2, .int y), (3, .int h)]) (st' := [.int y, .ref m]) 2 rfl ?_
  refine WW.callV [.int y] m [] rfl mX3_93 (sM_isLamp hM hS y) (wdRecv.obj hM.1 rfl) rfl rfl (wd_le rfl) (wd_le rfl) (wd_le rfl) (wd_le rfl) (fun o w' hq => ?_)
  obtain ⟨rfl, rfl⟩ := hq
  show WW _ _ _ 13 _ [.int (bI (S.ixL y))] _
  cases h2 : S.ixL y with
  | false =>
    rw [h2] at hr
    subst hr
    refine WW.if_ne (tgt := 22) rfl rfl (fun hno => absurd rfl hno) (fun _ => ?_)
    refine WW.run (pc' := 18) (lv' := [(0, .ref m), (1, .int x), (2, .int y), (3, .int h)]) (st' := [.int (nI 1), .ref m]) 2 rfl ?_
    refine WW.callV [.int (nI 1)] m [] rfl mX3_70 (sS_fails hM (nI 1)) (wdRecv.obj hM.1 rfl) rfl rfl (wd_le rfl) (wd_le rfl) (wd_le rfl) (wd_le rfl) (fun o w16 hq => ?_)
    obtain ⟨rfl, hM16, fr16⟩ := hq
    show WW _ _ _ 21 _ [.int (nI 0)] _
    exact WW.iret rfl rfl rfl ⟨_, rfl, hS, hM16, fr16⟩
  | true =>
  rw [h2] at hr
  refine WW.if_ne (tgt := 22) rfl rfl (fun _ => ?_) (fun hno => absurd hno (by decide))
  refine WW.run (pc' := 26) (lv' := [(0, .ref m), (1, .int x), (2, .int y), (3, .int h)]) (st' := [.int (nI 24), .int (nI 1), .int h]) 3 rfl ?_
  refine WW.callS [.int h, .int (nI 1), .int (nI 24)] [] rfl mX3_54 (sM_in h (nI 1) (nI 24)) rfl rfl (wd_le rfl) (wd_le rfl) (wd_le rfl) (wd_le rfl) (fun o w' hq => ?_)
  obtain ⟨rfl, rfl⟩ := hq
  show WW _ _ _ 29 _ [.int (bI (inR h (nI 1) (nI 24)))] _
  cases h3 : inR h (nI 1) (nI 24) with
  | false =>
    rw [h3] at hr
    subst hr
    refine WW.if_ne (tgt := 38) rfl rfl (fun hno => absurd rfl hno) (fun _ => ?_)
    refine WW.run (pc' := 34) (lv' := [(0, .ref m), (1, .int x), (2, .int y), (3, .int h)]) (st' := [.int (nI 2), .ref m]) 2 rfl ?_
    refine WW.callV [.int (nI 2)] m [] rfl mX3_70 (sS_fails hM (nI 2)) (wdRecv.obj hM.1 rfl) rfl rfl (wd_le rfl) (wd_le rfl) (wd_le rfl) (wd_le rfl) (fun o w17 hq => ?_)
    obtain ⟨rfl, hM17, fr17⟩ := hq
    show WW _ _ _ 37 _ [.int (nI 0)] _
    exact WW.iret rfl rfl rfl ⟨_, rfl, hS, hM17, fr17⟩
  | true =>
  rw [h3] at hr
  refine WW.if_ne (tgt := 38) rfl rfl (fun _ => ?_) (fun hno => absurd hno (by decide))
  obtain ⟨j, hj, rfl, tx⟩ := hW.ixS h1
  obtain ⟨i, hi, rfl, ty⟩ := hW.ixL h2
  rw [tx, ty] at hr
  refine WW.run (pc' := 40) (lv' := [(0, .ref m), (1, .int (nI j)), (2, .int (nI i)), (3, .int h)]) (st' := [.int (nI i), .ref m]) 2 rfl ?_
  refine WW.callV [.int (nI i)] m [] rfl mX3_96 (sM_isOut hM hS hW hi) (wdRecv.obj hM.1 rfl) rfl rfl (wd_le rfl) (wd_le rfl) (wd_le rfl) (wd_le rfl) (fun o w' hq => ?_)
  obtain ⟨rfl, rfl⟩ := hq
  show WW _ _ _ 43 _ [.int (bI (Nat.blt 0 (S.la i).le))] _
  cases h4 : Nat.blt 0 (S.la i).le with
  | true =>
    rw [h4] at hr
    subst hr
    refine WW.if_eq (tgt := 52) rfl rfl (fun hno => absurd hno (by decide)) (fun _ => ?_)
    refine WW.run (pc' := 48) (lv' := [(0, .ref m), (1, .int (nI j)), (2, .int (nI i)), (3, .int h)]) (st' := [.int (nI 3), .ref m]) 2 rfl ?_
    refine WW.callV [.int (nI 3)] m [] rfl mX3_70 (sS_fails hM (nI 3)) (wdRecv.obj hM.1 rfl) rfl rfl (wd_le rfl) (wd_le rfl) (wd_le rfl) (wd_le rfl) (fun o w18 hq => ?_)
    obtain ⟨rfl, hM18, fr18⟩ := hq
    show WW _ _ _ 51 _ [.int (nI 0)] _
    exact WW.iret rfl rfl rfl ⟨_, rfl, hS, hM18, fr18⟩
  | false =>
  rw [h4] at hr
  refine WW.if_eq (tgt := 52) rfl rfl (fun _ => ?_) (fun hno => absurd rfl hno)
  refine WW.run (pc' := 55) (lv' := [(0, .ref m), (1, .int (nI j)), (2, .int (nI i)), (3, .int h)]) (st' := [.int (nI 0), .int (nI i), .ref m]) 3 rfl ?_
  refine WW.callV [.int (nI i), .int (nI 0)] m [] rfl mX3_58 (sM_lv hM hS hW hi) (wdRecv.obj hM.1 rfl) rfl rfl (wd_le rfl) (wd_le rfl) (wd_le rfl) (wd_le rfl) (fun o w' hq => ?_)
  obtain ⟨rfl, rfl⟩ := hq
  show WW _ _ _ 58 _ [.int ((S.la i).lv)] _
  refine WW.run (pc' := 62) (lv' := [(4, .int (((S.la i).lv) * h)), (0, .ref m), (1, .int (nI j)), (2, .int (nI i)), (3, .int h)]) (st' := []) 3 rfl ?_
  generalize hc : (S.la i).lv * h = c at hr
  refine WW.run (pc' := 65) (lv' := [(4, .int c), (0, .ref m), (1, .int (nI j)), (2, .int (nI i)), (3, .int h)]) (st' := [.int (nI 0), .int (nI j), .ref m]) 3 rfl ?_
  refine WW.callV [.int (nI j), .int (nI 0)] m [] rfl mX3_99 (sM_co hM hS hW hj) (wdRecv.obj hM.1 rfl) rfl rfl (wd_le rfl) (wd_le rfl) (wd_le rfl) (wd_le rfl) (fun o w' hq => ?_)
  obtain ⟨rfl, rfl⟩ := hq
  show WW _ _ _ 68 _ [.int ((S.sh j).1)] _
  refine WW.run (pc' := 70) (lv' := [(4, .int c), (0, .ref m), (1, .int (nI j)), (2, .int (nI i)), (3, .int h)]) (st' := [.int c, .int ((S.sh j).1)]) 1 rfl ?_
  by_cases h5 : (S.sh j).1 < c
  · skip
    replace hr : r = .inl 4 := hr.trans (if_pos h5)
    subst hr
    refine WW.icmp_ge (tgt := 79) rfl rfl (fun hno => absurd hno (Int32.not_le.mpr h5)) (fun _ => ?_)
    refine WW.run (pc' := 75) (lv' := [(4, .int c), (0, .ref m), (1, .int (nI j)), (2, .int (nI i)), (3, .int h)]) (st' := [.int (nI 4), .ref m]) 2 rfl ?_
    refine WW.callV [.int (nI 4)] m [] rfl mX3_70 (sS_fails hM (nI 4)) (wdRecv.obj hM.1 rfl) rfl rfl (wd_le rfl) (wd_le rfl) (wd_le rfl) (wd_le rfl) (fun o w19 hq => ?_)
    obtain ⟨rfl, hM19, fr19⟩ := hq
    show WW _ _ _ 78 _ [.int (nI 0)] _
    exact WW.iret rfl rfl rfl ⟨_, rfl, hS, hM19, fr19⟩
  · skip
    replace hr := hr.trans (if_neg h5)
    refine WW.icmp_ge (tgt := 79) rfl rfl (fun _ => ?_) (fun hno => absurd (Int32.not_lt.mp h5) hno)
    refine WW.run (pc' := 83) (lv' := [(4, .int c), (0, .ref m), (1, .int (nI j)), (2, .int (nI i)), (3, .int h)]) (st' := [.int c, .int (nI j), .ref m]) 3 rfl ?_
    refine WW.callV [.int (nI j), .int c] m [] rfl mX3_102 (sS_pays hM hS hW hj c) (wdRecv.obj hM.1 rfl) rfl rfl (wd_le rfl) (wd_le rfl) (wd_le rfl) (wd_le rfl) (fun o wc hq => ?_)
    obtain ⟨fc, rfl, hSc, hMc, frc⟩ := hq
    show WW _ _ _ 86 _ [] _
    refine WW.run (pc' := 92) (lv' := [(4, .int c), (0, .ref m), (1, .int (nI j)), (2, .int (nI i)), (3, .int h)]) (st' := [.int ((nI j) + (nI 1)), .int (nI 1), .int (nI i), .ref m]) 6 rfl ?_
    rw [nI_add]
    refine WW.callV [.int (nI i), .int (nI 1), .int (nI (j + 1))] m [] rfl mX3_66 (sS_sets hMc i 1 (nI (j + 1)) (by omega)) (wdRecv.obj hMc.1 rfl) rfl rfl (wd_le rfl) (wd_le rfl) (wd_le rfl) (wd_le rfl) (fun o w20 hq => ?_)
    obtain ⟨rfl, hM20, fr20⟩ := hq
    show WW _ _ _ 95 _ [] _
    refine WW.run (pc' := 99) (lv' := [(4, .int c), (0, .ref m), (1, .int (nI j)), (2, .int (nI i)), (3, .int h)]) (st' := [.ref m, .int (nI 2), .int (nI i), .ref m]) 4 rfl ?_
    refine WW.get rfl fX3_9 hM20.1 (show _ = some (.ref (A 0)) from rfl) ?_
    refine WW.run (pc' := 103) (lv' := [(4, .int c), (0, .ref m), (1, .int (nI j)), (2, .int (nI i)), (3, .int h)]) (st' := [.int (nI 3), .ref (A 0), .int (nI 2), .int (nI i), .ref m]) 1 rfl ?_
    refine WW.mald 0 3 rfl hM20 (by decide) rfl rfl (by decide) (by decide) (show (va_up fc (25 + 5 * i + 1) (nI (j + 1))) 3 = S.hour from ((va_up_ne _ _ (by omega)).trans hSc.1.2.2.2.1)) ?_
    refine WW.run (pc' := 106) (lv' := [(4, .int c), (0, .ref m), (1, .int (nI j)), (2, .int (nI i)), (3, .int h)]) (st' := [.int (S.hour + h), .int (nI 2), .int (nI i), .ref m]) 2 rfl ?_
    refine WW.callV [.int (nI i), .int (nI 2), .int (S.hour + h)] m [] rfl mX3_66 (sS_sets hM20 i 2 (S.hour + h) (by omega)) (wdRecv.obj hM20.1 rfl) rfl rfl (wd_le rfl) (wd_le rfl) (wd_le rfl) (wd_le rfl) (fun o w21 hq => ?_)
    obtain ⟨rfl, hM21, fr21⟩ := hq
    show WW _ _ _ 109 _ [] _
    refine WW.run (pc' := 110) (lv' := [(4, .int c), (0, .ref m), (1, .int (nI j)), (2, .int (nI i)), (3, .int h)]) (st' := [.ref m]) 1 rfl ?_
    refine WW.get rfl fX3_9 hM21.1 (show _ = some (.ref (A 0)) from rfl) ?_
    refine WW.run (pc' := 114) (lv' := [(4, .int c), (0, .ref m), (1, .int (nI j)), (2, .int (nI i)), (3, .int h)]) (st' := [.int (nI 3), .ref (A 0)]) 1 rfl ?_
    refine WW.mald 0 3 rfl hM21 (by decide) rfl rfl (by decide) (by decide) (show (va_up (va_up fc (25 + 5 * i + 1) (nI (j + 1))) (25 + 5 * i + 2) (S.hour + h)) 3 = S.hour from ((va_up_ne _ _ (by omega)).trans ((va_up_ne _ _ (by omega)).trans hSc.1.2.2.2.1))) ?_
    refine WW.run (pc' := 117) (lv' := [(4, .int c), (0, .ref m), (1, .int (nI j)), (2, .int (nI i)), (3, .int h)]) (st' := [.int (S.hour + h)]) 2 rfl ?_
    subst hr
    exact WW.iret rfl rfl rfl ⟨_, rfl, (hSc.lamp12 h8 h6 (i := i) hi (j + 1) (S.hour + h) (S.hour + h) (by rw [if_neg (by omega)])), hM21, ((frc.trans fr20).trans fr21)⟩
theorem sS_doReq (hM : isM w m A I (va_up F 0 f)) (hS : fS f S) (hW : aWf S) (y h : Int32) : SpD l G MX3_doRequestRenewal 2 m A I F [.int y, .int h] w S (S.doReq y h) := by
  obtain ⟨r, hr⟩ : ∃ r, r = S.doReq y h := ⟨_, rfl⟩
  rw [← hr]
  unfold aS.doReq at hr
  have h6 := hW.1
  have h8 := hW.2.1
  have h9 := hW.2.2.1
  refine Sp.of rfl (by decide +kernel) kX3_doRequestRenewal (wd_le rfl) ?_
  refine WW.run (pc' := 2) (lv' := [(0, .ref m), (1, .int y), (2, .int h)]) (st' := [.int y, .ref m]) 2 rfl ?_
  refine WW.callV [.int y] m [] rfl mX3_93 (sM_isLamp hM hS y) (wdRecv.obj hM.1 rfl) rfl rfl (wd_le rfl) (wd_le rfl) (wd_le rfl) (wd_le rfl) (fun o w' hq => ?_)
  obtain ⟨rfl, rfl⟩ := hq
  show WW _ _ _ 5 _ [.int (bI (S.ixL y))] _
  cases h2 : S.ixL y with
  | false =>
    rw [h2] at hr
    subst hr
    refine WW.if_ne (tgt := 14) rfl rfl (fun hno => absurd rfl hno) (fun _ => ?_)
    refine WW.run (pc' := 10) (lv' := [(0, .ref m), (1, .int y), (2, .int h)]) (st' := [.int (nI 1), .ref m]) 2 rfl ?_
    refine WW.callV [.int (nI 1)] m [] rfl mX3_70 (sS_fails hM (nI 1)) (wdRecv.obj hM.1 rfl) rfl rfl (wd_le rfl) (wd_le rfl) (wd_le rfl) (wd_le rfl) (fun o w22 hq => ?_)
    obtain ⟨rfl, hM22, fr22⟩ := hq
    show WW _ _ _ 13 _ [.int (nI 0)] _
    exact WW.iret rfl rfl rfl ⟨_, rfl, hS, hM22, fr22⟩
  | true =>
  rw [h2] at hr
  refine WW.if_ne (tgt := 14) rfl rfl (fun _ => ?_) (fun hno => absurd hno (by decide))
  refine WW.run (pc' := 18) (lv' := [(0, .ref m), (1, .int y), (2, .int h)]) (st' := [.int (nI 24), .int (nI 1), .int h]) 3 rfl ?_
  refine WW.callS [.int h, .int (nI 1), .int (nI 24)] [] rfl mX3_54 (sM_in h (nI 1) (nI 24)) rfl rfl (wd_le rfl) (wd_le rfl) (wd_le rfl) (wd_le rfl) (fun o w' hq => ?_)
  obtain ⟨rfl, rfl⟩ := hq
  show WW _ _ _ 21 _ [.int (bI (inR h (nI 1) (nI 24)))] _
  cases h3 : inR h (nI 1) (nI 24) with
  | false =>
    rw [h3] at hr
    subst hr
    refine WW.if_ne (tgt := 30) rfl rfl (fun hno => absurd rfl hno) (fun _ => ?_)
    refine WW.run (pc' := 26) (lv' := [(0, .ref m), (1, .int y), (2, .int h)]) (st' := [.int (nI 2), .ref m]) 2 rfl ?_
    refine WW.callV [.int (nI 2)] m [] rfl mX3_70 (sS_fails hM (nI 2)) (wdRecv.obj hM.1 rfl) rfl rfl (wd_le rfl) (wd_le rfl) (wd_le rfl) (wd_le rfl) (fun o w23 hq => ?_)
    obtain ⟨rfl, hM23, fr23⟩ := hq
    show WW _ _ _ 29 _ [.int (nI 0)] _
    exact WW.iret rfl rfl rfl ⟨_, rfl, hS, hM23, fr23⟩
  | true =>
  rw [h3] at hr
  refine WW.if_ne (tgt := 30) rfl rfl (fun _ => ?_) (fun hno => absurd hno (by decide))
  obtain ⟨i, hi, rfl, ty⟩ := hW.ixL h2
  rw [ty] at hr
  refine WW.run (pc' := 32) (lv' := [(0, .ref m), (1, .int (nI i)), (2, .int h)]) (st' := [.int (nI i), .ref m]) 2 rfl ?_
  refine WW.callV [.int (nI i)] m [] rfl mX3_96 (sM_isOut hM hS hW hi) (wdRecv.obj hM.1 rfl) rfl rfl (wd_le rfl) (wd_le rfl) (wd_le rfl) (wd_le rfl) (fun o w' hq => ?_)
  obtain ⟨rfl, rfl⟩ := hq
  show WW _ _ _ 35 _ [.int (bI (Nat.blt 0 (S.la i).le))] _
  cases h4 : Nat.blt 0 (S.la i).le with
  | false =>
    rw [h4] at hr
    subst hr
    refine WW.if_ne (tgt := 44) rfl rfl (fun hno => absurd rfl hno) (fun _ => ?_)
    refine WW.run (pc' := 40) (lv' := [(0, .ref m), (1, .int (nI i)), (2, .int h)]) (st' := [.int (nI 3), .ref m]) 2 rfl ?_
    refine WW.callV [.int (nI 3)] m [] rfl mX3_70 (sS_fails hM (nI 3)) (wdRecv.obj hM.1 rfl) rfl rfl (wd_le rfl) (wd_le rfl) (wd_le rfl) (wd_le rfl) (fun o w24 hq => ?_)
    obtain ⟨rfl, hM24, fr24⟩ := hq
    show WW _ _ _ 43 _ [.int (nI 0)] _
    exact WW.iret rfl rfl rfl ⟨_, rfl, hS, hM24, fr24⟩
  | true =>
  rw [h4] at hr
  refine WW.if_ne (tgt := 44) rfl rfl (fun _ => ?_) (fun hno => absurd hno (by decide))
  refine WW.run (pc' := 46) (lv' := [(0, .ref m), (1, .int (nI i)), (2, .int h)]) (st' := [.int (nI i), .ref m]) 2 rfl ?_
  refine WW.callV [.int (nI i)] m [] rfl mX3_62 (sM_requestFor hM hS hW (x := i) (by omega)) (wdRecv.obj hM.1 rfl) rfl rfl (wd_le rfl) (wd_le rfl) (wd_le rfl) (wd_le rfl) (fun o w' hq => ?_)
  obtain ⟨rfl, rfl⟩ := hq
  show WW _ _ _ 49 _ [.int (oI (S.find i S.nr))] _
  have hiff : S.isReq i = (S.find i S.nr).isSome := (find_isReq S i S.nr).symm
  cases hf : S.find i S.nr with
  | some k =>
    rw [hiff, hf] at hr
    subst hr
    obtain ⟨hk, -⟩ := find_some hf
    refine WW.if_lt (tgt := 58) rfl rfl (fun hno => absurd hno (show ¬ nI k < 0 from nI_pos (by omega))) (fun _ => ?_)
    refine WW.run (pc' := 54) (lv' := [(0, .ref m), (1, .int (nI i)), (2, .int h)]) (st' := [.int (nI 4), .ref m]) 2 rfl ?_
    refine WW.callV [.int (nI 4)] m [] rfl mX3_70 (sS_fails hM (nI 4)) (wdRecv.obj hM.1 rfl) rfl rfl (wd_le rfl) (wd_le rfl) (wd_le rfl) (wd_le rfl) (fun o w25 hq => ?_)
    obtain ⟨rfl, hM25, fr25⟩ := hq
    show WW _ _ _ 57 _ [.int (nI 0)] _
    exact WW.iret rfl rfl rfl ⟨_, rfl, hS, hM25, fr25⟩
  | none =>
    rw [hiff, hf] at hr
    refine WW.if_lt (tgt := 58) rfl rfl (fun _ => ?_) (fun hno => absurd (by decide) hno)
    have hlt : S.nr < 8 := hW.few hi (find_none hf)
    refine WW.run (pc' := 59) (lv' := [(0, .ref m), (1, .int (nI i)), (2, .int h)]) (st' := [.ref m]) 1 rfl ?_
    refine WW.get rfl fX3_9 hM.1 (show _ = some (.ref (A 0)) from rfl) ?_
    refine WW.run (pc' := 64) (lv' := [(0, .ref m), (1, .int (nI i)), (2, .int h)]) (st' := [.int (nI 6), .ref (A 0)]) 1 rfl ?_
    refine WW.mald 0 6 rfl hM (by decide) rfl rfl (by decide) (by decide) (show f 6 = nI S.nr from hS.1.2.2.2.2.2.2) ?_
    refine WW.run (pc' := 67) (lv' := [(3, .int (nI S.nr)), (0, .ref m), (1, .int (nI i)), (2, .int h)]) (st' := [.ref m]) 2 rfl ?_
    refine WW.get rfl fX3_9 hM.1 (show _ = some (.ref (A 0)) from rfl) ?_
    refine WW.run (pc' := 77) (lv' := [(3, .int (nI S.nr)), (0, .ref m), (1, .int (nI i)), (2, .int h)]) (st' := [.int (nI i), .int ((nI 65) + ((nI 2) * (nI S.nr))), .ref (A 0)]) 6 rfl ?_
    refine WW.sast (65 + (2 * S.nr)) rfl hM (wn_add rfl (wn_mul rfl rfl)) (by show _ < 81; omega) (fun w26 hM26 fr26 => ?_)
    refine WW.run (pc' := 79) (lv' := [(3, .int (nI S.nr)), (0, .ref m), (1, .int (nI i)), (2, .int h)]) (st' := [.ref m]) 1 rfl ?_
    refine WW.get rfl fX3_9 hM26.1 (show _ = some (.ref (A 0)) from rfl) ?_
    refine WW.run (pc' := 91) (lv' := [(3, .int (nI S.nr)), (0, .ref m), (1, .int (nI i)), (2, .int h)]) (st' := [.int h, .int (((nI 65) + ((nI 2) * (nI S.nr))) + (nI 1)), .ref (A 0)]) 8 rfl ?_
    refine WW.sast ((65 + (2 * S.nr)) + 1) rfl hM26 (wn_add (wn_add rfl (wn_mul rfl rfl)) rfl) (by show _ < 81; omega) (fun w27 hM27 fr27 => ?_)
    refine WW.run (pc' := 93) (lv' := [(3, .int (nI S.nr)), (0, .ref m), (1, .int (nI i)), (2, .int h)]) (st' := [.ref m]) 1 rfl ?_
    refine WW.get rfl fX3_9 hM27.1 (show _ = some (.ref (A 0)) from rfl) ?_
    refine WW.run (pc' := 99) (lv' := [(3, .int (nI S.nr)), (0, .ref m), (1, .int (nI i)), (2, .int h)]) (st' := [.int (nI 6), .ref (A 0), .int (nI 6), .ref (A 0)]) 2 rfl ?_
    refine WW.mald 0 6 rfl hM27 (by decide) rfl rfl (by decide) (by decide) (show (va_up (va_up f (65 + (2 * S.nr)) (nI i)) ((65 + (2 * S.nr)) + 1) h) 6 = nI S.nr from ((va_up_ne _ _ (by omega)).trans ((va_up_ne _ _ (by omega)).trans hS.1.2.2.2.2.2.2))) ?_
    refine WW.run (pc' := 102) (lv' := [(3, .int (nI S.nr)), (0, .ref m), (1, .int (nI i)), (2, .int h)]) (st' := [.int ((nI S.nr) + (nI 1)), .int (nI 6), .ref (A 0)]) 2 rfl ?_
    refine WW.sast 6 rfl hM27 rfl (by decide) (fun w28 hM28 fr28 => ?_)
    refine WW.run (pc' := 104) (lv' := [(3, .int (nI S.nr)), (0, .ref m), (1, .int (nI i)), (2, .int h)]) (st' := [.int (nI S.nr)]) 1 rfl ?_
    subst hr
    exact WW.iret rfl rfl rfl ⟨_, rfl, (hS.newReq h6 h8 i h (fun z h1 h2 => (va_up_ne _ _ h1).trans ((va_up_ne _ _ (by omega)).trans (va_up_ne _ _ (by omega)))) ((va_up_self _ _ _).trans (nI_add _ _)) ((va_up_ne _ _ (by omega)).trans ((va_up_ne _ _ (by omega)).trans (va_up_self _ _ _))) ((va_up_ne _ _ (by omega)).trans (va_up_self _ _ _))), hM28, ((fr26.trans fr27).trans fr28)⟩
theorem sS_doDrop (hM : isM w m A I (va_up F 0 f)) (hS : fS f S) (hW : aWf S) (y : Int32) : SpD l G MX3_doGiveUp 2 m A I F [.int y] w S (S.doDrop y) := by
  obtain ⟨r, hr⟩ : ∃ r, r = S.doDrop y := ⟨_, rfl⟩
  rw [← hr]
  unfold aS.doDrop at hr
  refine Sp.of rfl (by decide +kernel) kX3_doGiveUp (wd_le rfl) ?_
  refine WW.run (pc' := 2) (lv' := [(0, .ref m), (1, .int y)]) (st' := [.int y, .ref m]) 2 rfl ?_
  refine WW.callV [.int y] m [] rfl mX3_93 (sM_isLamp hM hS y) (wdRecv.obj hM.1 rfl) rfl rfl (wd_le rfl) (wd_le rfl) (wd_le rfl) (wd_le rfl) (fun o w' hq => ?_)
  obtain ⟨rfl, rfl⟩ := hq
  show WW _ _ _ 5 _ [.int (bI (S.ixL y))] _
  cases h2 : S.ixL y with
  | false =>
    rw [h2] at hr
    subst hr
    refine WW.if_ne (tgt := 14) rfl rfl (fun hno => absurd rfl hno) (fun _ => ?_)
    refine WW.run (pc' := 10) (lv' := [(0, .ref m), (1, .int y)]) (st' := [.int (nI 1), .ref m]) 2 rfl ?_
    refine WW.callV [.int (nI 1)] m [] rfl mX3_70 (sS_fails hM (nI 1)) (wdRecv.obj hM.1 rfl) rfl rfl (wd_le rfl) (wd_le rfl) (wd_le rfl) (wd_le rfl) (fun o w29 hq => ?_)
    obtain ⟨rfl, hM29, fr29⟩ := hq
    show WW _ _ _ 13 _ [.int (nI 0)] _
    exact WW.iret rfl rfl rfl ⟨_, rfl, hS, hM29, fr29⟩
  | true =>
  rw [h2] at hr
  refine WW.if_ne (tgt := 14) rfl rfl (fun _ => ?_) (fun hno => absurd hno (by decide))
  obtain ⟨i, hi, rfl, ty⟩ := hW.ixL h2
  rw [ty] at hr
  refine WW.run (pc' := 16) (lv' := [(0, .ref m), (1, .int (nI i))]) (st' := [.int (nI i), .ref m]) 2 rfl ?_
  refine WW.callV [.int (nI i)] m [] rfl mX3_96 (sM_isOut hM hS hW hi) (wdRecv.obj hM.1 rfl) rfl rfl (wd_le rfl) (wd_le rfl) (wd_le rfl) (wd_le rfl) (fun o w' hq => ?_)
  obtain ⟨rfl, rfl⟩ := hq
  show WW _ _ _ 19 _ [.int (bI (Nat.blt 0 (S.la i).le))] _
  cases h4 : Nat.blt 0 (S.la i).le with
  | false =>
    rw [h4] at hr
    subst hr
    refine WW.if_ne (tgt := 28) rfl rfl (fun hno => absurd rfl hno) (fun _ => ?_)
    refine WW.run (pc' := 24) (lv' := [(0, .ref m), (1, .int (nI i))]) (st' := [.int (nI 2), .ref m]) 2 rfl ?_
    refine WW.callV [.int (nI 2)] m [] rfl mX3_70 (sS_fails hM (nI 2)) (wdRecv.obj hM.1 rfl) rfl rfl (wd_le rfl) (wd_le rfl) (wd_le rfl) (wd_le rfl) (fun o w30 hq => ?_)
    obtain ⟨rfl, hM30, fr30⟩ := hq
    show WW _ _ _ 27 _ [.int (nI 0)] _
    exact WW.iret rfl rfl rfl ⟨_, rfl, hS, hM30, fr30⟩
  | true =>
  rw [h4] at hr
  subst hr
  refine WW.if_ne (tgt := 28) rfl rfl (fun _ => ?_) (fun hno => absurd hno (by decide))
  have hle : ¬ (S.la i).le = 0 := by
    intro e
    rw [e] at h4
    cases h4
  have hen := sM_en (l := l) (G := G) hM hS hW hi
  rw [if_neg hle] at hen
  refine WW.run (pc' := 31) (lv' := [(0, .ref m), (1, .int (nI i))]) (st' := [.int (nI 2), .int (nI i), .ref m]) 3 rfl ?_
  refine WW.callV [.int (nI i), .int (nI 2)] m [] rfl mX3_58 hen (wdRecv.obj hM.1 rfl) rfl rfl (wd_le rfl) (wd_le rfl) (wd_le rfl) (wd_le rfl) (fun o w' hq => ?_)
  obtain ⟨rfl, rfl⟩ := hq
  show WW _ _ _ 34 _ [.int ((S.la i).en)] _
  refine WW.run (pc' := 35) (lv' := [(0, .ref m), (1, .int (nI i))]) (st' := [.ref m, .int ((S.la i).en)]) 1 rfl ?_
  refine WW.get rfl fX3_9 hM.1 (show _ = some (.ref (A 0)) from rfl) ?_
  refine WW.run (pc' := 39) (lv' := [(0, .ref m), (1, .int (nI i))]) (st' := [.int (nI 3), .ref (A 0), .int ((S.la i).en)]) 1 rfl ?_
  refine WW.mald 0 3 rfl hM (by decide) rfl rfl (by decide) (by decide) (show f 3 = S.hour from hS.1.2.2.2.1) ?_
  refine WW.run (pc' := 44) (lv' := [(2, .int (((S.la i).en) - S.hour)), (0, .ref m), (1, .int (nI i))]) (st' := [.int (nI i), .ref m]) 4 rfl ?_
  refine WW.callV [.int (nI i)] m [] rfl mX3_113 (sS_frees hM hS hW hi) (wdRecv.obj hM.1 rfl) rfl rfl (wd_le rfl) (wd_le rfl) (wd_le rfl) (wd_le rfl) (fun o wb hq => ?_)
  obtain ⟨fb, rfl, hSb, hMb, frb⟩ := hq
  show WW _ _ _ 47 _ [] _
  refine WW.run (pc' := 48) (lv' := [(2, .int (((S.la i).en) - S.hour)), (0, .ref m), (1, .int (nI i))]) (st' := [.int (((S.la i).en) - S.hour)]) 1 rfl ?_
  exact WW.iret rfl rfl rfl ⟨_, rfl, hSb, hMb, frb⟩
theorem sS_doWait (hM : isM w m A I (va_up F 0 f)) (hS : fS f S) (hW : aWf S) (x : Int32) : SpD l G MX3_doPassHours 4 m A I F [.int x] w S (S.doWait x) := by
  obtain ⟨r, hr⟩ : ∃ r, r = S.doWait x := ⟨_, rfl⟩
  rw [← hr]
  unfold aS.doWait at hr
  refine Sp.of rfl (by decide +kernel) kX3_doPassHours (wd_le rfl) ?_
  refine WW.run (pc' := 6) (lv' := [(2, .int (nI 0)), (0, .ref m), (1, .int x)]) (st' := [.int (nI 48), .int (nI 1), .int x]) 5 rfl ?_
  refine WW.callS [.int x, .int (nI 1), .int (nI 48)] [] rfl mX3_54 (sM_in x (nI 1) (nI 48)) rfl rfl (wd_le rfl) (wd_le rfl) (wd_le rfl) (wd_le rfl) (fun o w' hq => ?_)
  obtain ⟨rfl, rfl⟩ := hq
  show WW _ _ _ 9 _ [.int (bI (inR x (nI 1) (nI 48)))] _
  cases h2 : inR x (nI 1) (nI 48) with
  | false =>
    rw [h2] at hr
    subst hr
    refine WW.if_ne (tgt := 18) rfl rfl (fun hno => absurd rfl hno) (fun _ => ?_)
    refine WW.run (pc' := 14) (lv' := [(2, .int (nI 0)), (0, .ref m), (1, .int x)]) (st' := [.int (nI 1), .ref m]) 2 rfl ?_
    refine WW.callV [.int (nI 1)] m [] rfl mX3_70 (sS_fails hM (nI 1)) (wdRecv.obj hM.1 rfl) rfl rfl (wd_le rfl) (wd_le rfl) (wd_le rfl) (wd_le rfl) (fun o w31 hq => ?_)
    obtain ⟨rfl, hM31, fr31⟩ := hq
    show WW _ _ _ 17 _ [.int (nI 0)] _
    exact WW.iret rfl rfl rfl ⟨_, rfl, hS, hM31, fr31⟩
  | true =>
  rw [h2] at hr
  refine WW.if_ne (tgt := 18) rfl rfl (fun _ => ?_) (fun hno => absurd hno (by decide))
  obtain ⟨n, -, hn, rfl, ty⟩ := inR_at (by decide) h2 (by decide)
  rw [ty] at hr
  subst hr
  refine WW.run (pc' := 20) (lv' := [(3, .int (nI 0)), (2, .int (nI 0)), (0, .ref m), (1, .int (nI n))]) (st' := []) 2 rfl ?_
  refine WW.upW n (fun _ => 0) (fun _ => 0) (fun k => [(3, .int (nI k)), (2, .int (S.passN k)), (0, .ref m), (1, .int (nI n))]) (fun k u => ∃ f', isM u m A I (va_up F 0 f') ∧ fS f' (S.passTo k) ∧ mFr m A w' u) (fun k wi hk hInv ih => ?_) (fun wi hInv => ?_) ⟨f, hM, hS, mFr.refl _ _ _⟩
  · skip
    obtain ⟨f1, hM1, hS1, fr0⟩ := hInv
    have hW1 := hW.passTo k
    rw [show S.passN (k + 1) = S.passN k + (S.passTo k).hourN from rfl] at ih
    replace ih : ∀ u f', isM u m A I (va_up F 0 f') → fS f' ((S.passTo k).hourS) → mFr m A w' u → WW _ 0 0 20 [(3, .int (nI (k + 1))), (2, .int (S.passN k + (S.passTo k).hourN)), (0, .ref m), (1, .int (nI n))] [] u := fun u f' h1 h2 h3 => ih u ⟨f', h1, h2, h3⟩
    generalize S.passTo k = T at hS1 hW1 ih
    generalize S.passN k = acc at ih
    refine WW.run (pc' := 22) (lv' := [(3, .int (nI k)), (2, .int acc), (0, .ref m), (1, .int (nI n))]) (st' := [.int (nI n), .int (nI k)]) 2 rfl ?_
    refine WW.icmp_ge (tgt := 52) rfl rfl (fun hno => absurd hno (nI_ge hk (by omega))) (fun _ => ?_)
    refine WW.run (pc' := 26) (lv' := [(3, .int (nI k)), (2, .int acc), (0, .ref m), (1, .int (nI n))]) (st' := [.ref m]) 1 rfl ?_
    refine WW.callV [] m [] rfl mX3_129 (sS_renews hM1 hS1 hW1) (wdRecv.obj hM1.1 rfl) rfl rfl (wd_le rfl) (wd_le rfl) (wd_le rfl) (wd_le rfl) (fun o wa hq => ?_)
    obtain ⟨fa, rfl, hSa, hMa, fra⟩ := hq
    show WW _ _ _ 29 _ [] _
    have hWa := hW1.renew
    refine WW.run (pc' := 30) (lv' := [(3, .int (nI k)), (2, .int acc), (0, .ref m), (1, .int (nI n))]) (st' := [.ref m]) 1 rfl ?_
    refine WW.callV [] m [] rfl mX3_132 (sS_burns hMa hSa hWa) (wdRecv.obj hMa.1 rfl) rfl rfl (wd_le rfl) (wd_le rfl) (wd_le rfl) (wd_le rfl) (fun o wb hq => ?_)
    obtain ⟨fb, rfl, hSb, hMb, frb⟩ := hq
    show WW _ _ _ 33 _ [.int T.renew.brights] _
    have hWb := hWa.burnTo T.renew.nl
    refine WW.run (pc' := 36) (lv' := [(4, .int T.renew.brights), (3, .int (nI k)), (2, .int acc), (0, .ref m), (1, .int (nI n))]) (st' := [.ref m]) 2 rfl ?_
    refine WW.callV [] m [] rfl mX3_135 (sS_fines hMb hSb hWb) (wdRecv.obj hMb.1 rfl) rfl rfl (wd_le rfl) (wd_le rfl) (wd_le rfl) (wd_le rfl) (fun o wc hq => ?_)
    obtain ⟨fc, rfl, hSc, hMc, frc⟩ := hq
    show WW _ _ _ 39 _ [] _
    have hWc := hWb.fineTo T.renew.burn.ns
    refine WW.run (pc' := 41) (lv' := [(4, .int T.renew.brights), (3, .int (nI k)), (2, .int acc), (0, .ref m), (1, .int (nI n))]) (st' := [.ref m, .int acc]) 2 rfl ?_
    refine WW.callV [] m [.int acc] rfl mX3_138 (sS_endsLeases hMc hSc hWc) (wdRecv.obj hMc.1 rfl) rfl rfl (wd_le rfl) (wd_le rfl) (wd_le rfl) (wd_le rfl) (fun o wd hq => ?_)
    obtain ⟨fd, rfl, hSd, hMd, frd⟩ := hq
    show WW _ _ _ 44 _ [.int (T.renew.burn.fine.tick.endN T.renew.burn.fine.tick.nl), .int acc] _
    refine WW.run (pc' := 20) (lv' := [(3, .int ((nI k) + nI 1)), (2, .int (acc + (T.renew.burn.fine.tick.endN T.renew.burn.fine.tick.nl))), (4, .int T.renew.brights), (0, .ref m), (1, .int (nI n))]) (st' := []) 4 rfl ?_
    refine WW.pick (lv' := [(3, .int ((nI k) + nI 1)), (2, .int (acc + (T.renew.burn.fine.tick.endN T.renew.burn.fine.tick.nl))), (0, .ref m), (1, .int (nI n))]) [0, 1, 3, 4] rfl ?_
    rw [nI_add]
    exact ih _ _ hMd hSd ((((fr0.trans fra).trans frb).trans frc).trans frd)
  · skip
    obtain ⟨f1, hM1, hS1, fr0⟩ := hInv
    refine WW.run (pc' := 22) (lv' := [(3, .int (nI n)), (2, .int (S.passN n)), (0, .ref m), (1, .int (nI n))]) (st' := [.int (nI n), .int (nI n)]) 2 rfl ?_
    refine WW.icmp_ge (tgt := 52) rfl rfl (fun _ => ?_) (fun hno => absurd (nI_le (Nat.le_refl _) (by omega)) hno)
    refine WW.run (pc' := 53) (lv' := [(3, .int (nI n)), (2, .int (S.passN n)), (0, .ref m), (1, .int (nI n))]) (st' := [.int (S.passN n)]) 1 rfl ?_
    exact WW.iret rfl rfl rfl ⟨_, rfl, hS1, hM1, fr0⟩
end
