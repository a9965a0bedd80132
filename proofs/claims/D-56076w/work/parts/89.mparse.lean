set_option maxRecDepth 100000
/-! THE MODEL READS -/
abbrev pI (I : Nat → Int32) (n : Nat) (s : Nat × Bool) (c : Nat) : Nat → Int32 := va_up (va_up (va_up (va_up I 4 (nI n)) 5 (nI s.1)) 6 (bI s.2)) 10 (nI c)
theorem pI_5 (I : Nat → Int32) (n p q c : Nat) (b : Bool) : va_up (pI I n (p, b) c) 5 (nI q) = pI I n (q, b) c := by
  funext j
  simp only [pI, va_up]
  by_cases h1 : j = 5
  · subst h1; rfl
  · by_cases h2 : j = 10 <;> by_cases h3 : j = 6 <;> simp [h1, h2, h3]
theorem pI_6 (I : Nat → Int32) (n p c : Nat) (b b' : Bool) : va_up (pI I n (p, b) c) 6 (bI b') = pI I n (p, b') c := by
  funext j
  simp only [pI, va_up]
  by_cases h1 : j = 6
  · subst h1; rfl
  · by_cases h2 : j = 10 <;> by_cases h3 : j = 5 <;> simp [h1, h2, h3]
theorem pI_6t (I : Nat → Int32) (n p c : Nat) (b : Bool) : va_up (pI I n (p, b) c) 6 (nI 1) = pI I n (p, true) c := pI_6 I n p c b true
theorem pI_6f (I : Nat → Int32) (n p c : Nat) (b : Bool) : va_up (pI I n (p, b) c) 6 (nI 0) = pI I n (p, false) c := pI_6 I n p c b false
theorem pI_10 (I : Nat → Int32) (n c c' : Nat) (s : Nat × Bool) : va_up (pI I n s c) 10 (nI c') = pI I n s c' := va_up_up _ _ _ _
theorem bh_at {ic : Nat → Int32} {n p c : Nat} (hc : c < 128) : (kBh ic n p = nI c) ↔ kAt ic n p (nI c) (nI c) = true := by
  constructor
  · intro h
    cases hb : Nat.blt p n with
    | true =>
      rw [show kBh ic n p = (bif Nat.blt p n then ic p else -1) from rfl, hb] at h
      exact kAt_of (Nat.blt_eq.mp hb) h
    | false =>
      rw [show kBh ic n p = (bif Nat.blt p n then ic p else -1) from rfl, hb] at h
      have h' : (-1 : Int32) = nI c := h
      have h2 := congrArg Int32.toInt h'
      rw [nI_toInt (by omega)] at h2
      exact absurd h2 (by rw [show (-1 : Int32).toInt = -1 from by decide]; omega)
  · intro h
    obtain ⟨h1, h2⟩ := kAt_eq h
    show (bif Nat.blt p n then ic p else -1) = _
    rw [Nat.blt_eq.mpr h1]
    exact h2
section
variable {l : Launch} {G : wdG} {w : wdW} {m : Nat} {A : Nat → Nat} {I : Nat → Int32} {F : Nat → Nat → Int32} {n p c : Nat} {b : Bool} {g : Nat → Int32}
theorem mY_behind (hM : isM w m A (pI I n (p, b) c) (va_up F 7 g)) (h60 : n ≤ 60) (hp : p ≤ 60) {i : Nat} (hi : i < 9) : SpR l G MX3_behind 0 [.ref m, .int (nI i)] w (.int (kBh (F 6) n (p + i))) := by
  refine Sp.of rfl (by decide +kernel) kX3_behind (wd_le rfl) ?_
  refine WW.run (pc' := 1) (lv' := [(0, .ref m), (1, .int (nI i))]) (st' := [.ref m]) 1 rfl ?_
  refine WW.get rfl fX3_185 hM.1 (show _ = some (.int (nI p)) from rfl) ?_
  refine WW.run (pc' := 7) (lv' := [(0, .ref m), (1, .int (nI i))]) (st' := [.ref m, .int ((nI p) + (nI i))]) 3 rfl ?_
  refine WW.get rfl fX3_182 hM.1 (show _ = some (.int (nI n)) from rfl) ?_
  rw [nI_add]
  by_cases hpn : p + i < n
  · have hb : Nat.blt (p + i) n = true := Nat.blt_eq.mpr hpn
    refine WW.icmp_ge (tgt := 27) rfl rfl (fun hno => absurd hno (nI_ge hpn (by omega))) (fun _ => ?_)
    refine WW.run (pc' := 14) (lv' := [(0, .ref m), (1, .int (nI i))]) (st' := [.ref m]) 1 rfl ?_
    refine WW.get rfl fX3_29 hM.1 (show _ = some (.ref (A 6)) from rfl) ?_
    refine WW.run (pc' := 18) (lv' := [(0, .ref m), (1, .int (nI i))]) (st' := [.ref m, .ref (A 6)]) 1 rfl ?_
    refine WW.get rfl fX3_185 hM.1 (show _ = some (.int (nI p)) from rfl) ?_
    refine WW.run (pc' := 22) (lv' := [(0, .ref m), (1, .int (nI i))]) (st' := [.int (nI i), .int (nI p), .ref (A 6)]) 1 rfl ?_
    refine WW.run (pc' := 23) (lv' := [(0, .ref m), (1, .int (nI i))]) (st' := [.int ((nI p) + (nI i)), .ref (A 6)]) 1 rfl ?_
    rw [nI_add]
    refine WW.mcld 6 (p + i) rfl hM (by decide) rfl rfl (by show _ < 60; omega) (by decide) rfl ?_
    refine WW.run (pc' := 28) (lv' := [(0, .ref m), (1, .int (nI i))]) (st' := [.int (F 6 (p + i))]) 1 rfl ?_
    exact WW.iret rfl rfl rfl ⟨by show _ = Sum.inl (some (Value.int (bif Nat.blt (p + i) n then _ else _))); rw [hb]; rfl, rfl⟩
  · have hb : Nat.blt (p + i) n = false := by cases h9 : Nat.blt (p + i) n with | false => rfl | true => exact absurd (Nat.blt_eq.mp h9) hpn
    refine WW.icmp_ge (tgt := 27) rfl rfl (fun _ => ?_) (fun hno => absurd (nI_le (Nat.le_of_not_lt hpn) (by omega)) hno)
    refine WW.run (pc' := 28) (lv' := [(0, .ref m), (1, .int (nI i))]) (st' := [.int (-1)]) 1 rfl ?_
    exact WW.iret rfl rfl rfl ⟨by show _ = Sum.inl (some (Value.int (bif Nat.blt (p + i) n then _ else _))); rw [hb]; rfl, rfl⟩
theorem mY_isDigit (hM : isM w m A (pI I n (p, b) c) (va_up F 7 g)) (h60 : n ≤ 60) (hp : p ≤ 60) : SpR l G MX3_isDigit 1 [.ref m] w (.int (bI (!b && kAt (F 6) n p (nI 48) (nI 57)))) := by
  refine Sp.of rfl (by decide +kernel) kX3_isDigit (wd_le rfl) ?_
  refine WW.run (pc' := 1) (lv' := [(0, .ref m)]) (st' := [.ref m]) 1 rfl ?_
  refine WW.get rfl fX3_192 hM.1 (show _ = some (.int (bI b)) from rfl) ?_
  cases b with
  | true =>
    refine WW.if_ne (tgt := 26) rfl rfl (fun _ => ?_) (fun hno => absurd hno (by decide))
    refine WW.run (pc' := 27) (lv' := [(0, .ref m)]) (st' := [.int (nI 0)]) 1 rfl ?_
    exact WW.iret rfl rfl rfl ⟨rfl, rfl⟩
  | false =>
    refine WW.if_ne (tgt := 26) rfl rfl (fun hno => absurd rfl hno) (fun _ => ?_)
    refine WW.run (pc' := 9) (lv' := [(0, .ref m)]) (st' := [.int (nI 0), .ref m]) 2 rfl ?_
    refine WW.callV [.int (nI 0)] m [] rfl mX3_196 (mY_behind hM h60 hp (i := 0) (by decide)) (wdRecv.obj hM.1 rfl) rfl rfl (wd_le rfl) (wd_le rfl) (wd_le rfl) (wd_le rfl) (fun o w' hq => ?_)
    obtain ⟨rfl, hw9⟩ := hq
    show WW _ _ _ 12 _ [.int (kBh (F 6) n p)] _
    rw [hw9]
    clear hw9 w'
    refine WW.run (pc' := 16) (lv' := [(0, .ref m)]) (st' := [.int (nI 57), .int (nI 48), .int (kBh (F 6) n p)]) 2 rfl ?_
    refine WW.callS [.int (kBh (F 6) n p), .int (nI 48), .int (nI 57)] [] rfl mX3_54 (sM_in (kBh (F 6) n p) (nI 48) (nI 57)) rfl rfl (wd_le rfl) (wd_le rfl) (wd_le rfl) (wd_le rfl) (fun o w' hq => ?_)
    obtain ⟨rfl, hw9⟩ := hq
    show WW _ _ _ 19 _ [.int (bI (inR (kBh (F 6) n p) (nI 48) (nI 57)))] _
    rw [hw9]
    clear hw9 w'
    have e : inR (kBh (F 6) n p) (nI 48) (nI 57) = kAt (F 6) n p (nI 48) (nI 57) := by
      show inR (bif Nat.blt p n then F 6 p else -1) (nI 48) (nI 57) = (Nat.blt p n && inR (F 6 p) (nI 48) (nI 57))
      cases Nat.blt p n with
      | false => rw [Bool.false_and]; exact (by decide : inR (-1) (nI 48) (nI 57) = false)
      | true => rw [Bool.true_and]; rfl
    rw [e]
    cases hc : kAt (F 6) n p (nI 48) (nI 57) with
    | false =>
      refine WW.if_eq (tgt := 26) rfl rfl (fun _ => ?_) (fun hno => absurd rfl hno)
      refine WW.run (pc' := 27) (lv' := [(0, .ref m)]) (st' := [.int (nI 0)]) 1 rfl ?_
      exact WW.iret rfl rfl rfl ⟨rfl, rfl⟩
    | true =>
      refine WW.if_eq (tgt := 26) rfl rfl (fun hno => absurd hno (by decide)) (fun _ => ?_)
      refine WW.run (pc' := 27) (lv' := [(0, .ref m)]) (st' := [.int (nI 1)]) 2 rfl ?_
      exact WW.iret rfl rfl rfl ⟨rfl, rfl⟩
theorem mY_skip (hM : isM w m A (pI I n (p, b) c) (va_up F 7 g)) (h60 : n ≤ 60) (hp : p ≤ n) {i : Nat} {q : String × Nat × String × Int32 × Int32 × List Nat} (hst : wdSt[i]? = some q) (hl : q.2.2.2.2.2.length < 8) (hb8 : ∀ j, j < q.2.2.2.2.2.length → q.2.2.2.2.2.getD j 0 < 128) : Sp l G MX3_skip 4 0 0 [.ref m, .ref (wdSa G i)] w (fun o w' => o = .inl none ∧ isM w' m A (pI I n (mSk (F 6) n q.2.2.2.2.2 (p, b)) c) (va_up F 7 g) ∧ mFr m A w w') := by
  obtain ⟨R, hR⟩ : ∃ z, z = mSk (F 6) n q.2.2.2.2.2 (p, b) := ⟨_, rfl⟩
  rw [← hR]
  refine Sp.of rfl (by decide +kernel) kX3_skip (wd_le rfl) ?_
  refine WW.run (pc' := 2) (lv' := [(2, .int (nI 0)), (0, .ref m), (1, .ref (wdSa G i))]) (st' := []) 2 rfl ?_
  refine WW.pick (lv' := [(2, .int (nI 0)), (0, .ref m), (1, .ref (wdSa G i))]) [0, 1, 2] rfl ?_
  refine WW.upW q.2.2.2.2.2.length (fun _ => 0) (fun _ => 0) (fun j => [(2, .int (nI j)), (0, .ref m), (1, .ref (wdSa G i))]) (fun j u => ∃ p b, isM u m A (pI I n (p, b) c) (va_up F 7 g) ∧ mFr m A w u ∧ p ≤ n ∧ mSk (F 6) n (q.2.2.2.2.2.drop j) (p, b) = R) (fun j u hj hI ih => ?_) (fun u hI => ?_) ⟨p, b, hM, mFr.refl _ _ _, hp, by rw [hR]; rfl⟩
  · obtain ⟨p, b, hM, fr0, hp, hs⟩ := hI
    have hc8 := hb8 j hj
    refine WW.run (pc' := 4) (lv' := [(2, .int (nI j)), (0, .ref m), (1, .ref (wdSa G i))]) (st' := [.ref (wdSa G i), .int (nI j)]) 2 rfl ?_
    refine WW.callV [] (wdSa G i) [.int (nI j)] rfl mX3_188 (sG_length hst) (wdRecv.str hst) rfl rfl (wd_le rfl) (wd_le rfl) (wd_le rfl) (wd_le rfl) (fun o w' hq => ?_)
    obtain ⟨rfl, hw9⟩ := hq
    show WW _ _ _ 7 _ [.int (nI q.2.2.2.2.2.length), .int (nI j)] _
    rw [hw9]
    clear hw9 w'
    refine WW.icmp_ge (tgt := 66) rfl rfl (fun hno => absurd hno (nI_ge hj (by omega))) (fun _ => ?_)
    refine WW.run (pc' := 11) (lv' := [(2, .int (nI j)), (0, .ref m), (1, .ref (wdSa G i))]) (st' := [.ref m]) 1 rfl ?_
    refine WW.get rfl fX3_192 hM.1 (show _ = some (.int (bI b)) from rfl) ?_
    cases b with
    | true =>
      rw [mSk_t rfl] at hs
      rw [← hs]
      refine WW.if_ne (tgt := 66) rfl rfl (fun _ => ?_) (fun hno => absurd hno (by decide))
      exact WW.vret rfl rfl ⟨rfl, hM, fr0⟩
    | false =>
      have hdr : q.2.2.2.2.2.drop j = q.2.2.2.2.2.getD j 0 :: q.2.2.2.2.2.drop (j + 1) := by
        rw [List.drop_eq_getElem_cons hj, List.getD_eq_getElem?_getD, List.getElem?_eq_getElem hj]; rfl
      rw [hdr, mSk_f, kSkip_cons] at hs
      refine WW.if_ne (tgt := 66) rfl rfl (fun hno => absurd rfl hno) (fun _ => ?_)
      refine WW.run (pc' := 20) (lv' := [(2, .int (nI j)), (0, .ref m), (1, .ref (wdSa G i))]) (st' := [.int (nI 0), .ref m, .ref m]) 3 rfl ?_
      refine WW.callV [.int (nI 0)] m [.ref m] rfl mX3_196 (mY_behind hM h60 (by omega) (i := 0) (by decide)) (wdRecv.obj hM.1 rfl) rfl rfl (wd_le rfl) (wd_le rfl) (wd_le rfl) (wd_le rfl) (fun o w' hq => ?_)
      obtain ⟨rfl, hw9⟩ := hq
      show WW _ _ _ 23 _ [.int (kBh (F 6) n p), .ref m] _
      rw [hw9]
      clear hw9 w'
      refine WW.run (pc' := 25) (lv' := [(2, .int (nI j)), (0, .ref m), (1, .ref (wdSa G i))]) (st' := [.int (nI j), .ref (wdSa G i), .int (kBh (F 6) n p), .ref m]) 2 rfl ?_
      refine WW.callV [.int (nI j)] (wdSa G i) [.int (kBh (F 6) n p), .ref m] rfl mX3_199 (sG_charAt hst hj (by omega) hc8) (wdRecv.str hst) rfl rfl (wd_le rfl) (wd_le rfl) (wd_le rfl) (wd_le rfl) (fun o w' hq => ?_)
      obtain ⟨rfl, hw9⟩ := hq
      show WW _ _ _ 28 _ [.int (nI (q.2.2.2.2.2.getD j 0)), .int (kBh (F 6) n p), .ref m] _
      rw [hw9]
      clear hw9 w'
      cases hc : kAt (F 6) n p (nI (q.2.2.2.2.2.getD j 0)) (nI (q.2.2.2.2.2.getD j 0)) with
      | false =>
        rw [hc] at hs
        refine WW.icmp_eq (tgt := 35) rfl rfl (fun hno => absurd hno (fun q => by rw [(bh_at hc8).mp q] at hc; cases hc)) (fun _ => ?_)
        refine WW.run (pc' := 36) (lv' := [(2, .int (nI j)), (0, .ref m), (1, .ref (wdSa G i))]) (st' := [.int (nI 1), .ref m]) 2 rfl ?_
        refine WW.mputI 6 rfl pfX3_192 hM rfl rfl rfl rfl (fun w1 hM1 fr1 => ?_)
        refine WW.run (pc' := 41) (lv' := [(2, .int (nI j)), (0, .ref m), (1, .ref (wdSa G i))]) (st' := [.ref m, .ref m]) 2 rfl ?_
        refine WW.get rfl fX3_185 hM1.1 (show _ = some (.int (nI p)) from rfl) ?_
        refine WW.run (pc' := 45) (lv' := [(2, .int (nI j)), (0, .ref m), (1, .ref (wdSa G i))]) (st' := [.ref m, .int (nI p), .ref m]) 1 rfl ?_
        refine WW.get rfl fX3_192 hM1.1 (show _ = some (.int (bI true)) from rfl) ?_
        have h9 := hM1
        have f9 : mFr m A w w1 := (fr0.trans fr1)
        first | rw [pI_6t] at h9 | rw [pI_6f] at h9
        refine WW.if_eq (tgt := 55) rfl rfl (fun hno => absurd hno (by decide)) (fun _ => ?_)
        refine WW.run (pc' := 57) (lv' := [(2, .int (nI j)), (0, .ref m), (1, .ref (wdSa G i))]) (st' := [.int ((nI p) + (nI 0)), .ref m]) 3 rfl ?_
        rw [nI_add]
        refine WW.mputI 5 rfl pfX3_185 h9 rfl rfl rfl rfl (fun w2 hM2 fr2 => ?_)
        refine WW.run (pc' := 2) (lv' := [(2, .int ((nI j) + nI 1)), (0, .ref m), (1, .ref (wdSa G i))]) (st' := []) 2 rfl ?_
        have h8 := hM2
        rw [pI_5] at h8
        rw [nI_add]
        exact ih _ ⟨p, true, h8, (f9.trans fr2), hp, (mSk_t rfl).trans hs⟩
      | true =>
        rw [hc] at hs
        have hlt := kAt_lt hc
        refine WW.icmp_eq (tgt := 35) rfl rfl (fun _ => ?_) (fun hno => absurd ((bh_at hc8).mpr hc) hno)
        refine WW.run (pc' := 36) (lv' := [(2, .int (nI j)), (0, .ref m), (1, .ref (wdSa G i))]) (st' := [.int (nI 0), .ref m]) 1 rfl ?_
        refine WW.mputI 6 rfl pfX3_192 hM rfl rfl rfl rfl (fun w3 hM3 fr3 => ?_)
        refine WW.run (pc' := 41) (lv' := [(2, .int (nI j)), (0, .ref m), (1, .ref (wdSa G i))]) (st' := [.ref m, .ref m]) 2 rfl ?_
        refine WW.get rfl fX3_185 hM3.1 (show _ = some (.int (nI p)) from rfl) ?_
        refine WW.run (pc' := 45) (lv' := [(2, .int (nI j)), (0, .ref m), (1, .ref (wdSa G i))]) (st' := [.ref m, .int (nI p), .ref m]) 1 rfl ?_
        refine WW.get rfl fX3_192 hM3.1 (show _ = some (.int (bI false)) from rfl) ?_
        have h9 := hM3
        have f9 : mFr m A w w3 := (fr0.trans fr3)
        first | rw [pI_6t] at h9 | rw [pI_6f] at h9
        refine WW.if_eq (tgt := 55) rfl rfl (fun _ => ?_) (fun hno => absurd rfl hno)
        refine WW.run (pc' := 57) (lv' := [(2, .int (nI j)), (0, .ref m), (1, .ref (wdSa G i))]) (st' := [.int ((nI p) + (nI 1)), .ref m]) 2 rfl ?_
        rw [nI_add]
        refine WW.mputI 5 rfl pfX3_185 h9 rfl rfl rfl rfl (fun w4 hM4 fr4 => ?_)
        refine WW.run (pc' := 2) (lv' := [(2, .int ((nI j) + nI 1)), (0, .ref m), (1, .ref (wdSa G i))]) (st' := []) 2 rfl ?_
        have h8 := hM4
        rw [pI_5] at h8
        rw [nI_add]
        exact ih _ ⟨p + 1, false, h8, (f9.trans fr4), hlt, mSk_f.trans hs⟩
  obtain ⟨p, b, hM, fr0, hp, hs⟩ := hI
  have hs2 : mSk (F 6) n (q.2.2.2.2.2.drop q.2.2.2.2.2.length) (p, b) = (p, b) := by
    rw [List.drop_eq_nil_of_le (Nat.le_refl _)]
    cases b <;> rfl
  rw [hs2] at hs
  rw [← hs]
  refine WW.run (pc' := 4) (lv' := [(2, .int (nI q.2.2.2.2.2.length)), (0, .ref m), (1, .ref (wdSa G i))]) (st' := [.ref (wdSa G i), .int (nI q.2.2.2.2.2.length)]) 2 rfl ?_
  refine WW.callV [] (wdSa G i) [.int (nI q.2.2.2.2.2.length)] rfl mX3_188 (sG_length hst) (wdRecv.str hst) rfl rfl (wd_le rfl) (wd_le rfl) (wd_le rfl) (wd_le rfl) (fun o w' hq => ?_)
  obtain ⟨rfl, hw9⟩ := hq
  show WW _ _ _ 7 _ [.int (nI q.2.2.2.2.2.length), .int (nI q.2.2.2.2.2.length)] _
  rw [hw9]
  clear hw9 w'
  refine WW.icmp_ge (tgt := 66) rfl rfl (fun _ => ?_) (fun hno => absurd (nI_le (Nat.le_refl _) (by omega)) hno)
  exact WW.vret rfl rfl ⟨rfl, hM, fr0⟩
theorem mY_number (hM : isM w m A (pI I n (p, b) c) (va_up F 7 g)) (h60 : n ≤ 60) (hp : p ≤ n) {k : Nat} (hk : k < 9) : Sp l G MX3_readNumber 5 0 0 [.ref m, .int (nI (k + 1))] w (fun o w' => o = .inl (some (.int (mNu (F 6) n k (p, b)).2)) ∧ isM w' m A (pI I n (mNu (F 6) n k (p, b)).1 c) (va_up F 7 g) ∧ mFr m A w w') := by
  have loop : ∀ (R : (Nat × Bool) × Int32) (d i p' : Nat) (x : Int32) (u : wdW), i + d = k + 1 → p' ≤ n → ((kDigs (F 6) n d p' x).1, false) = R.1 → (kDigs (F 6) n d p' x).2 = R.2 → isM u m A (pI I n (p', false) c) (va_up F 7 g) → mFr m A w u → WW (l, G, MX3_readNumber, 5, 0, 0, (fun o w' => o = .inl (some (.int R.2)) ∧ isM w' m A (pI I n R.1 c) (va_up F 7 g) ∧ mFr m A w w')) 0 0 33 [(3, .int (nI i)), (2, .int x), (0, .ref m), (1, .int (nI (k + 1)))] [] u := by
    intro R d
    induction d with
    | zero =>
      intro i p' x u hi hpn e1 e2 hM fr0
      obtain ⟨R1, R2⟩ := R
      cases e1
      cases e2
      obtain rfl : i = k + 1 := by omega
      refine WW.run (pc' := 35) (lv' := [(3, .int (nI (k + 1))), (2, .int x), (0, .ref m), (1, .int (nI (k + 1)))]) (st' := [.int (nI (k + 1)), .int (nI (k + 1))]) 2 rfl ?_
      refine WW.icmp_ge (tgt := 79) rfl rfl (fun _ => ?_) (fun hno => absurd (nI_le (Nat.le_refl _) (by omega)) hno)
      refine WW.run (pc' := 80) (lv' := [(3, .int (nI (k + 1))), (2, .int x), (0, .ref m), (1, .int (nI (k + 1)))]) (st' := [.int x]) 1 rfl ?_
      exact WW.iret rfl rfl rfl ⟨rfl, hM, fr0⟩
    | succ d ih =>
      intro i p' x u hi hpn e1 e2 hM fr0
      refine WW.run (pc' := 35) (lv' := [(3, .int (nI i)), (2, .int x), (0, .ref m), (1, .int (nI (k + 1)))]) (st' := [.int (nI (k + 1)), .int (nI i)]) 2 rfl ?_
      refine WW.icmp_ge (tgt := 79) rfl rfl (fun hno => absurd hno (nI_ge (by omega) (by omega))) (fun _ => ?_)
      refine WW.run (pc' := 39) (lv' := [(3, .int (nI i)), (2, .int x), (0, .ref m), (1, .int (nI (k + 1)))]) (st' := [.ref m]) 1 rfl ?_
      refine WW.callV [] m [] rfl mX3_209 (mY_isDigit hM h60 (by omega)) (wdRecv.obj hM.1 rfl) rfl rfl (wd_le rfl) (wd_le rfl) (wd_le rfl) (wd_le rfl) (fun o w' hq => ?_)
      obtain ⟨rfl, hw9⟩ := hq
      show WW _ _ _ 42 _ [.int (bI (!false && kAt (F 6) n p' (nI 48) (nI 57)))] _
      rw [hw9]
      clear hw9 w'
      rw [show (!false && kAt (F 6) n p' (nI 48) (nI 57)) = kAt (F 6) n p' (nI 48) (nI 57) from Bool.true_and _]
      unfold kDigs at e1 e2
      cases hc : kAt (F 6) n p' (nI 48) (nI 57) with
      | false =>
        rw [hc] at e1 e2
        obtain ⟨R1, R2⟩ := R
        cases e1
        cases e2
        refine WW.if_eq (tgt := 79) rfl rfl (fun _ => ?_) (fun hno => absurd rfl hno)
        refine WW.run (pc' := 80) (lv' := [(3, .int (nI i)), (2, .int x), (0, .ref m), (1, .int (nI (k + 1)))]) (st' := [.int x]) 1 rfl ?_
        exact WW.iret rfl rfl rfl ⟨rfl, hM, fr0⟩
      | true =>
        rw [hc] at e1 e2
        have hlt := kAt_lt hc
        refine WW.if_eq (tgt := 79) rfl rfl (fun hno => absurd hno (by decide)) (fun _ => ?_)
        refine WW.run (pc' := 50) (lv' := [(3, .int (nI i)), (2, .int x), (0, .ref m), (1, .int (nI (k + 1)))]) (st' := [.ref m, .int ((nI 10) * x)]) 4 rfl ?_
        refine WW.get rfl fX3_29 hM.1 (show _ = some (.ref (A 6)) from rfl) ?_
        refine WW.run (pc' := 54) (lv' := [(3, .int (nI i)), (2, .int x), (0, .ref m), (1, .int (nI (k + 1)))]) (st' := [.ref m, .ref (A 6), .int ((nI 10) * x)]) 1 rfl ?_
        refine WW.get rfl fX3_185 hM.1 (show _ = some (.int (nI p')) from rfl) ?_
        refine WW.mcld 6 p' rfl hM (by decide) rfl rfl (by show _ < 60; omega) (by decide) rfl ?_
        refine WW.run (pc' := 65) (lv' := [(2, .int ((((nI 10) * x) + (F 6 p')) - (nI 48))), (3, .int (nI i)), (0, .ref m), (1, .int (nI (k + 1)))]) (st' := [.ref m, .ref m]) 6 rfl ?_
        refine WW.get rfl fX3_185 hM.1 (show _ = some (.int (nI p')) from rfl) ?_
        refine WW.run (pc' := 70) (lv' := [(2, .int ((((nI 10) * x) + (F 6 p')) - (nI 48))), (3, .int (nI i)), (0, .ref m), (1, .int (nI (k + 1)))]) (st' := [.int ((nI p') + (nI 1)), .ref m]) 2 rfl ?_
        rw [nI_add]
        refine WW.mputI 5 rfl pfX3_185 hM rfl rfl rfl rfl (fun w5 hM5 fr5 => ?_)
        refine WW.run (pc' := 33) (lv' := [(3, .int ((nI i) + nI 1)), (2, .int ((((nI 10) * x) + (F 6 p')) - (nI 48))), (0, .ref m), (1, .int (nI (k + 1)))]) (st' := []) 2 rfl ?_
        have h8 := hM5
        rw [pI_5] at h8
        refine WW.pick (lv' := [(3, .int ((nI i) + nI 1)), (2, .int ((((nI 10) * x) + (F 6 p')) - (nI 48))), (0, .ref m), (1, .int (nI (k + 1)))]) [0, 1, 2, 3] rfl ?_
        rw [nI_add]
        exact ih _ _ _ _ (by omega) hlt e1 e2 h8 (fr0.trans fr5)
  obtain ⟨R, hR⟩ : ∃ z, z = mNu (F 6) n k (p, b) := ⟨_, rfl⟩
  rw [← hR]
  refine Sp.of rfl (by decide +kernel) kX3_readNumber (wd_le rfl) ?_
  refine WW.run (pc' := 1) (lv' := [(0, .ref m), (1, .int (nI (k + 1)))]) (st' := [.ref m]) 1 rfl ?_
  refine WW.ldcS (i := 5) rfl rfl ⟨rfl, rfl⟩ ?_
  refine WW.callV [.ref (wdSa G 5)] m [] rfl mX3_205 (mY_skip hM h60 hp (i := 5) rfl (by decide) (by decide)) (wdRecv.obj hM.1 rfl) rfl rfl (wd_le rfl) (wd_le rfl) (wd_le rfl) (wd_le rfl) (fun o w1 hq => ?_)
  obtain ⟨rfl, hM1, fr1⟩ := hq
  show WW _ _ _ 6 _ [] _
  have hM1 : isM w1 m A (pI I n (mSk (F 6) n [32] (p, b)) c) (va_up F 7 g) := hM1
  cases hs1 : mSk (F 6) n [32] (p, b) with
  | mk p1 b1 =>
    rw [hs1] at hM1
    have hp1 : p1 ≤ n := by have := mSk_le (ic := F 6) (n := n) (L := [32]) (s := (p, b)) hp; rw [hs1] at this; exact this
    refine WW.run (pc' := 8) (lv' := [(0, .ref m), (1, .int (nI (k + 1)))]) (st' := [.ref m, .ref m]) 2 rfl ?_
    refine WW.get rfl fX3_192 hM1.1 (show _ = some (.int (bI b1)) from rfl) ?_
    have hfail : ∀ {u : wdW} {P : Nat} , P ≤ n → ((P, true), nI 0) = R → isM u m A (pI I n (P, true) c) (va_up F 7 g) → mFr m A w u → WW (l, G, MX3_readNumber, 5, 0, 0, (fun o w' => o = .inl (some (.int R.2)) ∧ isM w' m A (pI I n R.1 c) (va_up F 7 g) ∧ mFr m A w w')) 0 0 29 [(0, .ref m), (1, .int (nI (k + 1)))] [] u := by
      intro u P hP hR hM fr0
      cases hR
      refine WW.run (pc' := 35) (lv' := [(3, .int (nI 0)), (2, .int (nI 0)), (0, .ref m), (1, .int (nI (k + 1)))]) (st' := [.int (nI (k + 1)), .int (nI 0)]) 6 rfl ?_
      refine WW.icmp_ge (tgt := 79) rfl rfl (fun hno => absurd hno (nI_ge (by omega) (by omega))) (fun _ => ?_)
      refine WW.run (pc' := 39) (lv' := [(3, .int (nI 0)), (2, .int (nI 0)), (0, .ref m), (1, .int (nI (k + 1)))]) (st' := [.ref m]) 1 rfl ?_
      refine WW.callV [] m [] rfl mX3_209 (mY_isDigit hM h60 (by omega)) (wdRecv.obj hM.1 rfl) rfl rfl (wd_le rfl) (wd_le rfl) (wd_le rfl) (wd_le rfl) (fun o w' hq => ?_)
      obtain ⟨rfl, hw9⟩ := hq
      show WW _ _ _ 42 _ [.int (bI (!true && kAt (F 6) n P (nI 48) (nI 57)))] _
      rw [hw9]
      clear hw9 w'
      refine WW.if_eq (tgt := 79) rfl rfl (fun _ => ?_) (fun hno => absurd rfl hno)
      refine WW.run (pc' := 80) (lv' := [(3, .int (nI 0)), (2, .int (nI 0)), (0, .ref m), (1, .int (nI (k + 1)))]) (st' := [.int (nI 0)]) 1 rfl ?_
      exact WW.iret rfl rfl rfl ⟨rfl, hM, fr0⟩
    cases b1 with
    | true =>
      refine WW.if_ne (tgt := 21) rfl rfl (fun _ => ?_) (fun hno => absurd hno (by decide))
      refine WW.run (pc' := 26) (lv' := [(0, .ref m), (1, .int (nI (k + 1)))]) (st' := [.int (nI 1), .ref m]) 2 rfl ?_
      refine WW.mputI 6 rfl pfX3_192 hM1 rfl rfl rfl rfl (fun w6 hM6 fr6 => ?_)
      have h9 := hM6
      first | rw [pI_6t] at h9 | rw [pI_6f] at h9
      refine hfail hp1 ?_ h9 (fr1.trans fr6)
      rw [hR]
      cases b with
      | true =>
        rw [mSk_t rfl] at hs1
        cases hs1
        rw [mNu_t rfl]
      | false =>
        rw [mSk_f, kSkip_cons] at hs1
        rw [mNu_f]
        unfold kNum
        cases hc : kAt (F 6) n p (nI 32) (nI 32) with
        | false =>
          rw [hc] at hs1
          cases hs1
          rfl
        | true =>
          rw [hc] at hs1
          cases hs1
    | false =>
      have hb : b = false ∧ kAt (F 6) n p (nI 32) (nI 32) = true ∧ p1 = p + 1 := by
        cases b with
        | true => rw [mSk_t rfl] at hs1; cases hs1
        | false =>
          rw [mSk_f, kSkip_cons] at hs1
          cases hc : kAt (F 6) n p (nI 32) (nI 32) with
          | false => rw [hc] at hs1; cases hs1
          | true => rw [hc] at hs1; cases hs1; exact ⟨rfl, rfl, rfl⟩
      obtain ⟨rfl, hk32, rfl⟩ := hb
      refine WW.if_ne (tgt := 21) rfl rfl (fun hno => absurd rfl hno) (fun _ => ?_)
      refine WW.run (pc' := 15) (lv' := [(0, .ref m), (1, .int (nI (k + 1)))]) (st' := [.ref m, .ref m]) 1 rfl ?_
      refine WW.callV [] m [.ref m] rfl mX3_209 (mY_isDigit hM1 h60 (by omega)) (wdRecv.obj hM1.1 rfl) rfl rfl (wd_le rfl) (wd_le rfl) (wd_le rfl) (wd_le rfl) (fun o w' hq => ?_)
      obtain ⟨rfl, hw9⟩ := hq
      show WW _ _ _ 18 _ [.int (bI (!false && kAt (F 6) n (p + 1) (nI 48) (nI 57))), .ref m] _
      rw [hw9]
      clear hw9 w'
      rw [show (!false && kAt (F 6) n (p + 1) (nI 48) (nI 57)) = kAt (F 6) n (p + 1) (nI 48) (nI 57) from Bool.true_and _]
      rw [mNu_f] at hR
      unfold kNum at hR
      rw [hk32] at hR
      cases hc : kAt (F 6) n (p + 1) (nI 48) (nI 57) with
      | false =>
        rw [hc] at hR
        refine WW.if_ne (tgt := 25) rfl rfl (fun hno => absurd rfl hno) (fun _ => ?_)
        refine WW.run (pc' := 26) (lv' := [(0, .ref m), (1, .int (nI (k + 1)))]) (st' := [.int (nI 1), .ref m]) 2 rfl ?_
        refine WW.mputI 6 rfl pfX3_192 hM1 rfl rfl rfl rfl (fun w7 hM7 fr7 => ?_)
        have h9 := hM7
        first | rw [pI_6t] at h9 | rw [pI_6f] at h9
        exact hfail hp1 hR.symm h9 (fr1.trans fr7)
      | true =>
        rw [hc] at hR
        refine WW.if_ne (tgt := 25) rfl rfl (fun _ => ?_) (fun hno => absurd hno (by decide))
        refine WW.run (pc' := 26) (lv' := [(0, .ref m), (1, .int (nI (k + 1)))]) (st' := [.int (nI 0), .ref m]) 1 rfl ?_
        refine WW.mputI 6 rfl pfX3_192 hM1 rfl rfl rfl rfl (fun w8 hM8 fr8 => ?_)
        have h9 := hM8
        first | rw [pI_6t] at h9 | rw [pI_6f] at h9
        refine WW.run (pc' := 33) (lv' := [(3, .int (nI 0)), (2, .int (nI 0)), (0, .ref m), (1, .int (nI (k + 1)))]) (st' := []) 4 rfl ?_
        refine WW.pick (lv' := [(3, .int (nI 0)), (2, .int (nI 0)), (0, .ref m), (1, .int (nI (k + 1)))]) [0, 1, 2, 3] rfl ?_
        exact loop R (k + 1) 0 (p + 1) _ _ (by omega) hp1 (by rw [hR, kDigs_one hc]; rfl) (by rw [hR, kDigs_one hc]; rfl) h9 (fr1.trans fr8)
end
