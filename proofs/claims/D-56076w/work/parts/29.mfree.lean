set_option maxRecDepth 100000
/-! THE MODEL: leases end -/
theorem find_some {S : aS} {x k : Nat} : ∀ {n : Nat}, S.find x n = some k → k < n ∧ (S.rq k).1 = x
  | 0, h => by cases h
  | n + 1, h => by
    unfold aS.find at h
    cases hb : (S.rq n).1 == x with
    | true =>
      rw [hb] at h
      cases h
      exact ⟨Nat.lt_succ_self _, by simpa using hb⟩
    | false =>
      rw [hb] at h
      obtain ⟨h1, h2⟩ := find_some (n := n) h
      exact ⟨by omega, h2⟩
theorem find_none {S : aS} {x : Nat} : ∀ {n : Nat}, S.find x n = none → ∀ k, k < n → (S.rq k).1 ≠ x
  | 0, _, k, hk => absurd hk (Nat.not_lt_zero k)
  | n + 1, h, k, hk => by
    unfold aS.find at h
    cases hb : (S.rq n).1 == x with
    | true => rw [hb] at h; cases h
    | false =>
      rw [hb] at h
      by_cases e : k = n
      · subst e; simpa using hb
      · exact find_none (n := n) h k (by omega)
theorem aWf.cut {S : aS} (h : aWf S) {k : Nat} (hk : k < S.nr) : aWf (S.cut k) := by
  obtain ⟨h1, h2, h3, h4, h5, h6⟩ := h
  have key : ∀ j, j < S.nr - 1 → ∃ j', j' < S.nr ∧ (S.cut k).rq j = S.rq j' ∧ j' = if j < k then j else j + 1 := by
    intro j hj
    by_cases e : j < k
    · exact ⟨j, by omega, by show (if j < k then S.rq j else S.rq (j + 1)) = _; rw [if_pos e], by rw [if_pos e]⟩
    · exact ⟨j + 1, by omega, by show (if j < k then S.rq j else S.rq (j + 1)) = _; rw [if_neg e], by rw [if_neg e]⟩
  refine ⟨h1, h2, by show S.nr - 1 ≤ 8; omega, h4, fun j hj => ?_, fun j j' hj hj' e => ?_⟩
  · obtain ⟨j2, a1, a2, -⟩ := key j hj
    rw [a2]
    exact h5 j2 a1
  · obtain ⟨j2, a1, a2, a3⟩ := key j hj
    obtain ⟨j3, b1, b2, b3⟩ := key j' hj'
    rw [a2, b2] at e
    have := h6 _ _ a1 b1 e
    rw [a3, b3] at this
    by_cases e1 : j < k <;> by_cases e2 : j' < k <;> simp only [e1, e2, if_true, if_false] at this <;> omega
theorem frees_same (S : aS) (i : Nat) : (S.frees i).ns = S.ns ∧ (S.frees i).nl = S.nl := by
  unfold aS.frees
  cases S.find i S.nr <;> exact ⟨rfl, rfl⟩
theorem frees_la (S : aS) (i z : Nat) : ((S.frees i).la z) = if z = i then ((S.la i).lv, 0, (S.la i).en, (S.la i).br, (S.la i).was) else S.la z := by
  unfold aS.frees
  cases S.find i S.nr <;> rfl
theorem aWf.frees {S : aS} (h : aWf S) (i : Nat) : aWf (S.frees i) := by
  have key : ∀ T : aS, aWf T → (∀ k, k < T.nr → (T.rq k).1 ≠ i) → aWf (T.wLa i ((S.la i).lv, 0, (S.la i).en, (S.la i).br, (S.la i).was)) := by
    intro T hT hn
    obtain ⟨h1, h2, h3, h4, h5, h6⟩ := hT
    have hle : ∀ z, z ≠ i → ((T.wLa i ((S.la i).lv, 0, (S.la i).en, (S.la i).br, (S.la i).was)).la z).le = (T.la z).le := fun z hz => by
      show (va_up T.la i _ z).le = _
      rw [va_up_ne _ _ hz]
    refine ⟨h1, h2, h3, fun z hz => ?_, fun k hk => ⟨(h5 k hk).1, ?_⟩, h6⟩
    · by_cases e : z = i
      · subst e
        show (va_up T.la z _ z).le ≤ _
        rw [va_up_self]
        exact Nat.zero_le _
      · rw [hle z e]; exact h4 z hz
    · show 0 < ((T.wLa i ((S.la i).lv, 0, (S.la i).en, (S.la i).br, (S.la i).was)).la (T.rq k).1).le
      rw [hle _ (hn k hk)]; exact (h5 k hk).2
  unfold aS.frees
  cases hf : S.find i S.nr with
  | none => exact key S h (find_none hf)
  | some k =>
    obtain ⟨hk, he⟩ := find_some hf
    refine key (S.cut k) (h.cut hk) (fun j hj e => ?_)
    have hj' : j < S.nr - 1 := hj
    have h6 := h.2.2.2.2.2
    by_cases e1 : j < k
    · have e2 : (S.cut k).rq j = S.rq j := by show (if j < k then S.rq j else S.rq (j + 1)) = _; rw [if_pos e1]
      rw [e2] at e
      have := h6 j k (by omega) hk (e.trans he.symm)
      omega
    · have e2 : (S.cut k).rq j = S.rq (j + 1) := by show (if j < k then S.rq j else S.rq (j + 1)) = _; rw [if_neg e1]
      rw [e2] at e
      have := h6 (j + 1) k (by omega) hk (e.trans he.symm)
      omega
theorem fS.cut {f f' : Nat → Int32} {S : aS} (h : fS f S) (hs : S.ns ≤ 6) (hn : S.nl ≤ 8) {k : Nat} (hk : k < S.nr) (hz : ∀ z, z < 65 + 2 * k → z ≠ 6 → f' z = f z) (h6 : f' 6 = nI (S.nr - 1)) (hu : ∀ z, 65 + 2 * k ≤ z → z < 65 + 2 * (S.nr - 1) → f' z = f (z + 2)) : fS f' (S.cut k) := by
  obtain ⟨⟨a0, a1, a2, a3, a4, a5, a6⟩, b, c, d⟩ := h
  refine ⟨⟨(hz _ (by omega) (by omega)).trans a0, (hz _ (by omega) (by omega)).trans a1, (hz _ (by omega) (by omega)).trans a2, (hz _ (by omega) (by omega)).trans a3, (hz _ (by omega) (by omega)).trans a4, (hz _ (by omega) (by omega)).trans a5, h6⟩, fun j hj => ?_, fun j hj => ?_, fun j hj => ?_⟩
  · have hj' : j < S.ns := hj
    obtain ⟨b0, b1, b2⟩ := b j hj
    exact ⟨(hz _ (by omega) (by omega)).trans b0, (hz _ (by omega) (by omega)).trans b1, (hz _ (by omega) (by omega)).trans b2⟩
  · have hj' : j < S.nl := hj
    obtain ⟨c0, c1, c2, c3, c4⟩ := c j hj
    exact ⟨(hz _ (by omega) (by omega)).trans c0, (hz _ (by omega) (by omega)).trans c1, (hz _ (by omega) (by omega)).trans c2, (hz _ (by omega) (by omega)).trans c3, (hz _ (by omega) (by omega)).trans c4⟩
  · have hj' : j < S.nr - 1 := hj
    by_cases e : j < k
    · have e2 : (S.cut k).rq j = S.rq j := by show (if j < k then S.rq j else S.rq (j + 1)) = _; rw [if_pos e]
      rw [e2]
      obtain ⟨d0, d1⟩ := d j (by omega)
      exact ⟨(hz _ (by omega) (by omega)).trans d0, (hz _ (by omega) (by omega)).trans d1⟩
    · have e2 : (S.cut k).rq j = S.rq (j + 1) := by show (if j < k then S.rq j else S.rq (j + 1)) = _; rw [if_neg e]
      rw [e2]
      obtain ⟨d0, d1⟩ := d (j + 1) (by omega)
      refine ⟨(hu _ (by omega) (by omega)).trans ?_, (hu _ (by omega) (by omega)).trans ?_⟩
      · rw [show 65 + 2 * j + 2 = 65 + 2 * (j + 1) by omega]; exact d0
      · rw [show 65 + 2 * j + 1 + 2 = 65 + 2 * (j + 1) + 1 by omega]; exact d1
section
variable {l : Launch} {G : wdG} {w : wdW} {m : Nat} {A : Nat → Nat} {I : Nat → Int32} {F : Nat → Nat → Int32} {f : Nat → Int32} {S : aS}
theorem sS_frees (hM : isM w m A I (va_up F 0 f)) (hS : fS f S) (hW : aWf S) {i : Nat} (hi : i < S.nl) : SpS l G MX3_frees 1 m A I F [.int (nI i)] w none (S.frees i) := by
  have h6 := hW.1
  have h8 := hW.2.1
  have h9 := hW.2.2.1
  obtain ⟨T, hT⟩ : ∃ T, T = S.frees i := ⟨_, rfl⟩
  rw [← hT]
  unfold aS.frees at hT
  refine Sp.of rfl (by decide +kernel) kX3_frees (wd_le rfl) ?_
  refine WW.run (pc' := 2) (lv' := [(0, .ref m), (1, .int (nI i))]) (st' := [.int (nI i), .ref m]) 2 rfl ?_
  refine WW.callV [.int (nI i)] m [] rfl mX3_62 (sM_requestFor hM hS hW (x := i) (by omega)) (wdRecv.obj hM.1 rfl) rfl rfl (wd_le rfl) (wd_le rfl) (wd_le rfl) (wd_le rfl) (fun o w' hq => ?_)
  obtain ⟨rfl, rfl⟩ := hq
  show WW _ _ _ 5 _ [.int (oI (S.find i S.nr))] _
  refine WW.run (pc' := 7) (lv' := [(2, .int (oI (S.find i S.nr))), (0, .ref m), (1, .int (nI i))]) (st' := [.int (oI (S.find i S.nr))]) 2 rfl ?_
  cases hf : S.find i S.nr with
  | none =>
    rw [hf] at hT
    refine WW.if_lt (tgt := 54) rfl rfl (fun _ => ?_) (fun hno => absurd (by decide) hno)
    refine WW.run (pc' := 58) (lv' := [(2, .int (oI (none))), (0, .ref m), (1, .int (nI i))]) (st' := [.int (nI 0), .int (nI 1), .int (nI i), .ref m]) 4 rfl ?_
    refine WW.callV [.int (nI i), .int (nI 1), .int (nI 0)] m [] rfl mX3_66 (sS_sets hM i 1 (nI 0) (by omega)) (wdRecv.obj hM.1 rfl) rfl rfl (wd_le rfl) (wd_le rfl) (wd_le rfl) (wd_le rfl) (fun o w1 hq => ?_)
    obtain ⟨rfl, hM1, fr1⟩ := hq
    show WW _ _ _ 61 _ [] _
    refine WW.run (pc' := 65) (lv' := [(2, .int (oI (none))), (0, .ref m), (1, .int (nI i))]) (st' := [.int (nI 0), .int (nI 2), .int (nI i), .ref m]) 4 rfl ?_
    refine WW.callV [.int (nI i), .int (nI 2), .int (nI 0)] m [] rfl mX3_66 (sS_sets hM1 i 2 (nI 0) (by omega)) (wdRecv.obj hM1.1 rfl) rfl rfl (wd_le rfl) (wd_le rfl) (wd_le rfl) (wd_le rfl) (fun o w2 hq => ?_)
    obtain ⟨rfl, hM2, fr2⟩ := hq
    show WW _ _ _ 68 _ [] _
    have hS1 := hS.lamp12 h8 h6 hi 0 (S.la i).en (nI 0) rfl
    exact WW.vret rfl rfl ⟨_, rfl, (hS1.to hT.symm), hM2, (fr1.trans fr2)⟩
  | some k =>
    rw [hf] at hT
    obtain ⟨hk, he⟩ := find_some hf
    have e0 : oI (some k) = nI k := rfl
    refine WW.if_lt (tgt := 54) rfl rfl (fun hno => absurd hno (nI_pos (by omega))) (fun _ => ?_)
    refine WW.run (pc' := 11) (lv' := [(2, .int (nI k)), (0, .ref m), (1, .int (nI i))]) (st' := [.ref m]) 1 rfl ?_
    refine WW.get rfl fX3_9 hM.1 (show _ = some (.ref (A 0)) from rfl) ?_
    refine WW.run (pc' := 17) (lv' := [(2, .int (nI k)), (0, .ref m), (1, .int (nI i))]) (st' := [.int (nI 6), .ref (A 0), .int (nI 6), .ref (A 0)]) 2 rfl ?_
    refine WW.mald 0 6 rfl hM (by decide) rfl rfl (by decide) (by decide) hS.1.2.2.2.2.2.2 ?_
    refine WW.run (pc' := 19) (lv' := [(2, .int (nI k)), (0, .ref m), (1, .int (nI i))]) (st' := [.int (nI 1), .int (nI S.nr), .int (nI 6), .ref (A 0)]) 1 rfl ?_
    refine WW.run (pc' := 20) (lv' := [(2, .int (nI k)), (0, .ref m), (1, .int (nI i))]) (st' := [.int ((nI S.nr) - (nI 1)), .int (nI 6), .ref (A 0)]) 1 rfl ?_
    rw [(wn_sub rfl rfl (by omega) : nI S.nr - nI 1 = nI (S.nr - 1))]
    refine WW.sast 6 rfl hM rfl (by decide) (fun w3 hM3 fr3 => ?_)
    refine WW.run (pc' := 29) (lv' := [(3, .int ((nI 65) + ((nI 2) * (nI k)))), (2, .int (nI k)), (0, .ref m), (1, .int (nI i))]) (st' := [.ref m]) 7 rfl ?_
    refine WW.get rfl fX3_9 hM3.1 (show _ = some (.ref (A 0)) from rfl) ?_
    refine WW.run (pc' := 36) (lv' := [(3, .int ((nI 65) + ((nI 2) * (nI k)))), (2, .int (nI k)), (0, .ref m), (1, .int (nI i))]) (st' := [.ref m, .int (((nI 65) + ((nI 2) * (nI k))) + (nI 2)), .ref (A 0)]) 4 rfl ?_
    refine WW.get rfl fX3_9 hM3.1 (show _ = some (.ref (A 0)) from rfl) ?_
    refine WW.run (pc' := 42) (lv' := [(3, .int ((nI 65) + ((nI 2) * (nI k)))), (2, .int (nI k)), (0, .ref m), (1, .int (nI i))]) (st' := [.ref m, .int (nI 2), .int ((nI 65) + ((nI 2) * (nI k))), .ref (A 0), .int (((nI 65) + ((nI 2) * (nI k))) + (nI 2)), .ref (A 0)]) 3 rfl ?_
    refine WW.get rfl fX3_9 hM3.1 (show _ = some (.ref (A 0)) from rfl) ?_
    refine WW.run (pc' := 47) (lv' := [(3, .int ((nI 65) + ((nI 2) * (nI k)))), (2, .int (nI k)), (0, .ref m), (1, .int (nI i))]) (st' := [.int (nI 6), .ref (A 0), .int (nI 2), .int ((nI 65) + ((nI 2) * (nI k))), .ref (A 0), .int (((nI 65) + ((nI 2) * (nI k))) + (nI 2)), .ref (A 0)]) 1 rfl ?_
    refine WW.mald 0 6 rfl hM3 (by decide) rfl rfl (by decide) (by decide) (va_up_self f 6 _) ?_
    refine WW.run (pc' := 49) (lv' := [(3, .int ((nI 65) + ((nI 2) * (nI k)))), (2, .int (nI k)), (0, .ref m), (1, .int (nI i))]) (st' := [.int (nI k), .int (nI (S.nr - 1)), .int (nI 2), .int ((nI 65) + ((nI 2) * (nI k))), .ref (A 0), .int (((nI 65) + ((nI 2) * (nI k))) + (nI 2)), .ref (A 0)]) 1 rfl ?_
    refine WW.run (pc' := 50) (lv' := [(3, .int ((nI 65) + ((nI 2) * (nI k)))), (2, .int (nI k)), (0, .ref m), (1, .int (nI i))]) (st' := [.int ((nI (S.nr - 1)) - (nI k)), .int (nI 2), .int ((nI 65) + ((nI 2) * (nI k))), .ref (A 0), .int (((nI 65) + ((nI 2) * (nI k))) + (nI 2)), .ref (A 0)]) 1 rfl ?_
    rw [(wn_sub rfl rfl (by omega) : nI (S.nr - 1) - nI k = nI (S.nr - 1 - k))]
    refine WW.run (pc' := 51) (lv' := [(3, .int ((nI 65) + ((nI 2) * (nI k)))), (2, .int (nI k)), (0, .ref m), (1, .int (nI i))]) (st' := [.int ((nI 2) * (nI (S.nr - 1 - k))), .int ((nI 65) + ((nI 2) * (nI k))), .ref (A 0), .int (((nI 65) + ((nI 2) * (nI k))) + (nI 2)), .ref (A 0)]) 1 rfl ?_
    refine WW.scopy ((65 + (2 * k)) + 2) (65 + (2 * k)) (2 * (S.nr - 1 - k)) rfl mX3_45 hM3 (wn_add (wn_add rfl (wn_mul rfl rfl)) rfl) (wn_add rfl (wn_mul rfl rfl)) (wn_mul rfl rfl) (by omega) (by omega) (wd_le rfl) (wd_le rfl) (fun w4 hM4 fr4 => ?_)
    have hSc : fS (va_cpy (va_up f 6 (nI (S.nr - 1))) (va_up f 6 (nI (S.nr - 1))) ((65 + (2 * k)) + 2) (65 + (2 * k)) (2 * (S.nr - 1 - k))) (S.cut k) := hS.cut h6 h8 hk (fun z hz hz6 => by
        show (if _ then _ else _) = _
        rw [if_neg (by omega)]
        exact va_up_ne _ _ hz6) (by
        show (if _ then _ else _) = _
        rw [if_neg (by omega)]
        exact va_up_self _ _ _) (fun z h1 h2 => by
        show (if _ then _ else _) = _
        rw [if_pos (by omega)]
        refine (va_up_ne _ _ (by omega)).trans (congrArg f ?_)
        omega)
    generalize (va_cpy (va_up f 6 (nI (S.nr - 1))) (va_up f 6 (nI (S.nr - 1))) ((65 + (2 * k)) + 2) (65 + (2 * k)) (2 * (S.nr - 1 - k))) = fc at hM4 hSc
    refine WW.run (pc' := 58) (lv' := [(3, .int ((nI 65) + ((nI 2) * (nI k)))), (2, .int (nI k)), (0, .ref m), (1, .int (nI i))]) (st' := [.int (nI 0), .int (nI 1), .int (nI i), .ref m]) 4 rfl ?_
    refine WW.callV [.int (nI i), .int (nI 1), .int (nI 0)] m [] rfl mX3_66 (sS_sets hM4 i 1 (nI 0) (by omega)) (wdRecv.obj hM4.1 rfl) rfl rfl (wd_le rfl) (wd_le rfl) (wd_le rfl) (wd_le rfl) (fun o w5 hq => ?_)
    obtain ⟨rfl, hM5, fr5⟩ := hq
    show WW _ _ _ 61 _ [] _
    refine WW.run (pc' := 65) (lv' := [(3, .int ((nI 65) + ((nI 2) * (nI k)))), (2, .int (nI k)), (0, .ref m), (1, .int (nI i))]) (st' := [.int (nI 0), .int (nI 2), .int (nI i), .ref m]) 4 rfl ?_
    refine WW.callV [.int (nI i), .int (nI 2), .int (nI 0)] m [] rfl mX3_66 (sS_sets hM5 i 2 (nI 0) (by omega)) (wdRecv.obj hM5.1 rfl) rfl rfl (wd_le rfl) (wd_le rfl) (wd_le rfl) (wd_le rfl) (fun o w6 hq => ?_)
    obtain ⟨rfl, hM6, fr6⟩ := hq
    show WW _ _ _ 68 _ [] _
    have hS1 := hSc.lamp12 h8 h6 (i := i) hi 0 (S.la i).en (nI 0) rfl
    exact WW.vret rfl rfl ⟨_, rfl, (hS1.to hT.symm), hM6, (((fr3.trans fr4).trans fr5).trans fr6)⟩
theorem end1_same (S : aS) (i : Nat) : (S.end1 i).ns = S.ns ∧ (S.end1 i).nl = S.nl := by
  unfold aS.end1
  cases S.over i with
  | false => exact ⟨rfl, rfl⟩
  | true => exact frees_same S i
theorem aWf.end1 {S : aS} (h : aWf S) (i : Nat) : aWf (S.end1 i) := by
  unfold aS.end1
  cases S.over i with
  | false => exact h
  | true => exact h.frees i
theorem endTo_same (S : aS) : ∀ i, (S.endTo i).ns = S.ns ∧ (S.endTo i).nl = S.nl
  | 0 => ⟨rfl, rfl⟩
  | i + 1 => ⟨(end1_same (S.endTo i) i).1.trans (endTo_same S i).1, (end1_same (S.endTo i) i).2.trans (endTo_same S i).2⟩
theorem aWf.endTo {S : aS} (h : aWf S) : ∀ i, aWf (S.endTo i)
  | 0 => h
  | i + 1 => (aWf.endTo h i).end1 i
theorem aWf.tick {S : aS} (h : aWf S) : aWf S.tick := h.same rfl rfl rfl rfl (fun _ => rfl)
theorem aWf.hourS {S : aS} (h : aWf S) : aWf S.hourS := ((((h.renew).burnTo _).fineTo _).tick).endTo _
theorem aWf.passTo {S : aS} (h : aWf S) : ∀ k, aWf (S.passTo k)
  | 0 => h
  | k + 1 => (aWf.passTo h k).hourS
theorem sS_endsLeases (hM : isM w m A I (va_up F 0 f)) (hS : fS f S) (hW : aWf S) : SpS l G MX3_endsLeases 2 m A I F [] w (some (.int (S.tick.endN S.tick.nl))) (S.tick.endTo S.tick.nl) := by
  have hn : S.nl < 2 ^ 31 := by have := hW.2.1; omega
  refine Sp.of rfl (by decide +kernel) kX3_endsLeases (wd_le rfl) ?_
  refine WW.run (pc' := 3) (lv' := [(1, .int (nI 0)), (0, .ref m)]) (st' := [.ref m]) 3 rfl ?_
  refine WW.get rfl fX3_9 hM.1 (show _ = some (.ref (A 0)) from rfl) ?_
  refine WW.run (pc' := 8) (lv' := [(1, .int (nI 0)), (0, .ref m)]) (st' := [.int (nI 3), .ref (A 0), .int (nI 3), .ref (A 0)]) 2 rfl ?_
  refine WW.mald 0 3 rfl hM (by decide) rfl rfl (by decide) (by decide) hS.1.2.2.2.1 ?_
  refine WW.run (pc' := 11) (lv' := [(1, .int (nI 0)), (0, .ref m)]) (st' := [.int (S.hour + (nI 1)), .int (nI 3), .ref (A 0)]) 2 rfl ?_
  refine WW.sast 3 rfl hM rfl (by decide) (fun w7 hM7 fr7 => ?_)
  have hS0 := hS.hour (S.hour + nI 1)
  have hW0 := hW.tick
  refine WW.run (pc' := 14) (lv' := [(2, .int (nI 0)), (1, .int (nI 0)), (0, .ref m)]) (st' := []) 2 rfl ?_
  generalize (va_up f 3 (S.hour + (nI 1))) = f0 at hM7 hS0
  refine WW.upW S.nl (fun _ => 0) (fun _ => 0) (fun i => [(2, .int (nI i)), (1, .int (S.tick.endN i)), (0, .ref m)]) (fun i w' => ∃ f', isM w' m A I (va_up F 0 f') ∧ fS f' (S.tick.endTo i) ∧ mFr m A w w') (fun i wi hi hInv ih => ?_) (fun wi hInv => ?_) ⟨f0, hM7, hS0, fr7⟩
  · skip
    obtain ⟨f1, hM1, hS1, fr0⟩ := hInv
    have hW1 := hW0.endTo i
    obtain ⟨hns, hnl⟩ := endTo_same S.tick i
    have hN : S.tick.endN (i + 1) = S.tick.endN i + bI ((S.tick.endTo i).over i) := rfl
    rw [hN] at ih
    replace ih : ∀ w' f', isM w' m A I (va_up F 0 f') → fS f' ((S.tick.endTo i).end1 i) → mFr m A w w' → WW _ 0 0 14 [(2, .int (nI (i + 1))), (1, .int (S.tick.endN i + bI ((S.tick.endTo i).over i))), (0, .ref m)] [] w' := fun w' f' h1 h2 h3 => ih w' ⟨f', h1, h2, h3⟩
    generalize hT : S.tick.endTo i = T at hS1 hW1 hns hnl ih
    generalize S.tick.endN i = acc at ih
    have hi' : i < T.nl := by rw [hnl]; exact hi
    have hov : T.over i = (Nat.blt 0 (T.la i).le && decide ((T.la i).en = T.hour)) := rfl
    unfold aS.end1 at ih
    refine WW.run (pc' := 16) (lv' := [(2, .int (nI i)), (1, .int acc), (0, .ref m)]) (st' := [.ref m, .int (nI i)]) 2 rfl ?_
    refine WW.get rfl fX3_9 hM1.1 (show _ = some (.ref (A 0)) from rfl) ?_
    refine WW.run (pc' := 20) (lv' := [(2, .int (nI i)), (1, .int acc), (0, .ref m)]) (st' := [.int (nI 1), .ref (A 0), .int (nI i)]) 1 rfl ?_
    refine WW.mald 0 1 rfl hM1 (by decide) rfl rfl (by decide) (by decide) (hS1.1.2.1.trans (by rw [hnl])) ?_
    refine WW.icmp_ge (tgt := 61) rfl rfl (fun hno => absurd hno (nI_ge hi hn)) (fun _ => ?_)
    refine WW.run (pc' := 26) (lv' := [(2, .int (nI i)), (1, .int acc), (0, .ref m)]) (st' := [.int (nI i), .ref m]) 2 rfl ?_
    refine WW.callV [.int (nI i)] m [] rfl mX3_96 (sM_isOut hM1 hS1 hW1 hi') (wdRecv.obj hM1.1 rfl) rfl rfl (wd_le rfl) (wd_le rfl) (wd_le rfl) (wd_le rfl) (fun o w' hq => ?_)
    obtain ⟨rfl, rfl⟩ := hq
    show WW _ _ _ 29 _ [.int (bI (Nat.blt 0 (T.la i).le))] _
    cases h0 : Nat.blt 0 (T.la i).le with
    | false =>
      refine WW.if_eq (tgt := 55) rfl rfl (fun _ => ?_) (fun hno => absurd rfl hno)
      refine WW.run (pc' := 14) (lv' := [(2, .int ((nI i) + nI 1)), (1, .int acc), (0, .ref m)]) (st' := []) 2 rfl ?_
      rw [hov, h0] at ih
      refine WW.pick (lv' := [(2, .int ((nI i) + nI 1)), (1, .int acc), (0, .ref m)]) [0, 1, 2] rfl ?_
      rw [nI_add]
      have h9 := ih _ f1 hM1 hS1 fr0
      rw [show acc + bI (false && decide ((T.la i).en = T.hour)) = acc from Int32.add_n0 acc] at h9
      exact h9
    | true =>
      have hle : ¬ (T.la i).le = 0 := by
        intro e
        rw [e] at h0
        cases h0
      refine WW.if_eq (tgt := 55) rfl rfl (fun hno => absurd hno (by decide)) (fun _ => ?_)
      refine WW.run (pc' := 35) (lv' := [(2, .int (nI i)), (1, .int acc), (0, .ref m)]) (st' := [.int (nI 2), .int (nI i), .ref m]) 3 rfl ?_
      have hen := sM_en (l := l) (G := G) hM1 hS1 hW1 hi'
      rw [if_neg hle] at hen
      refine WW.callV [.int (nI i), .int (nI 2)] m [] rfl mX3_58 hen (wdRecv.obj hM1.1 rfl) rfl rfl (wd_le rfl) (wd_le rfl) (wd_le rfl) (wd_le rfl) (fun o w' hq => ?_)
      obtain ⟨rfl, rfl⟩ := hq
      show WW _ _ _ 38 _ [.int ((T.la i).en)] _
      refine WW.run (pc' := 39) (lv' := [(2, .int (nI i)), (1, .int acc), (0, .ref m)]) (st' := [.ref m, .int ((T.la i).en)]) 1 rfl ?_
      refine WW.get rfl fX3_9 hM1.1 (show _ = some (.ref (A 0)) from rfl) ?_
      refine WW.run (pc' := 43) (lv' := [(2, .int (nI i)), (1, .int acc), (0, .ref m)]) (st' := [.int (nI 3), .ref (A 0), .int ((T.la i).en)]) 1 rfl ?_
      refine WW.mald 0 3 rfl hM1 (by decide) rfl rfl (by decide) (by decide) hS1.1.2.2.2.1 ?_
      by_cases h1 : (T.la i).en = T.hour
      · skip
        refine WW.icmp_ne (tgt := 55) rfl rfl (fun hno => absurd h1 hno) (fun _ => ?_)
        rw [hov, h0, decide_eq_true h1] at ih
        refine WW.run (pc' := 49) (lv' := [(2, .int (nI i)), (1, .int acc), (0, .ref m)]) (st' := [.int (nI i), .ref m]) 2 rfl ?_
        refine WW.callV [.int (nI i)] m [] rfl mX3_113 (sS_frees hM1 hS1 hW1 hi') (wdRecv.obj hM1.1 rfl) rfl rfl (wd_le rfl) (wd_le rfl) (wd_le rfl) (wd_le rfl) (fun o wb hq => ?_)
        obtain ⟨fb, rfl, hSb, hMb, frb⟩ := hq
        show WW _ _ _ 52 _ [] _
        refine WW.run (pc' := 14) (lv' := [(2, .int ((nI i) + nI 1)), (1, .int (acc + nI 1)), (0, .ref m)]) (st' := []) 3 rfl ?_
        refine WW.pick (lv' := [(2, .int ((nI i) + nI 1)), (1, .int (acc + nI 1)), (0, .ref m)]) [0, 1, 2] rfl ?_
        rw [nI_add]
        exact ih _ _ hMb hSb (fr0.trans frb)
      · skip
        refine WW.icmp_ne (tgt := 55) rfl rfl (fun _ => ?_) (fun hno => absurd hno h1)
        rw [hov, h0, decide_eq_false h1] at ih
        refine WW.run (pc' := 14) (lv' := [(2, .int ((nI i) + nI 1)), (1, .int acc), (0, .ref m)]) (st' := []) 2 rfl ?_
        refine WW.pick (lv' := [(2, .int ((nI i) + nI 1)), (1, .int acc), (0, .ref m)]) [0, 1, 2] rfl ?_
        rw [nI_add]
        have h9 := ih _ f1 hM1 hS1 fr0
        rw [show acc + bI (true && false) = acc from Int32.add_n0 acc] at h9
        exact h9
  · skip
    obtain ⟨f1, hM1, hS1, fr0⟩ := hInv
    obtain ⟨hns, hnl⟩ := endTo_same S.tick S.nl
    refine WW.run (pc' := 16) (lv' := [(2, .int (nI S.nl)), (1, .int (S.tick.endN S.nl)), (0, .ref m)]) (st' := [.ref m, .int (nI S.nl)]) 2 rfl ?_
    refine WW.get rfl fX3_9 hM1.1 (show _ = some (.ref (A 0)) from rfl) ?_
    refine WW.run (pc' := 20) (lv' := [(2, .int (nI S.nl)), (1, .int (S.tick.endN S.nl)), (0, .ref m)]) (st' := [.int (nI 1), .ref (A 0), .int (nI S.nl)]) 1 rfl ?_
    refine WW.mald 0 1 rfl hM1 (by decide) rfl rfl (by decide) (by decide) (hS1.1.2.1.trans (by rw [hnl])) ?_
    refine WW.icmp_ge (tgt := 61) rfl rfl (fun _ => ?_) (fun hno => absurd (nI_le (Nat.le_refl _) hn) hno)
    refine WW.run (pc' := 62) (lv' := [(2, .int (nI S.nl)), (1, .int (S.tick.endN S.nl)), (0, .ref m)]) (st' := [.int (S.tick.endN S.nl)]) 1 rfl ?_
    exact WW.iret rfl rfl rfl ⟨_, rfl, hS1, hM1, fr0⟩
end
