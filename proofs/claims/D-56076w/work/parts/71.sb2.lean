set_option maxRecDepth 100000
/-! THE BUILDER's CHANGES -/
theorem cpy_fit {f g : Nat → Int32} {d n cap : Nat} (hf : ∀ j, j < n → fits .byte (.int (f j)) = true) (hg : ∀ j, j < cap → fits .byte (.int (g j)) = true) : ∀ j, j < cap → fits .byte (.int (va_cpy f g 0 d n j)) = true := by
  intro j hj
  unfold va_cpy
  by_cases e : d ≤ j ∧ j < d + n
  · rw [if_pos e]; exact hf _ (by omega)
  · rw [if_neg e]; exact hg j hj
theorem up_fit {g : Nat → Int32} {k cap : Nat} {x : Int32} (hx : fits .byte (.int x) = true) (hg : ∀ j, j < cap → fits .byte (.int (g j)) = true) : ∀ j, j < cap → fits .byte (.int (va_up g k x j)) = true := by
  intro j hj
  by_cases e : j = k
  · rw [e, va_up_self]; exact hx
  · rw [va_up_ne _ _ e]; exact hg j hj
section
variable {l : Launch} {G : wdG} {w : wdW} {sb arr n cap : Nat} {ml : Int32} {f oc : Nat → Int32}
theorem sK_canEncode {c : Nat} (hc : c < 128) : SpR l G MJ23_canEncode 0 [.int (nI c)] w (.int (nI 1)) := by
  refine Sp.of rfl (by decide +kernel) kJ23_canEncode (wd_le rfl) ?_
  refine WW.run (pc' := 4) (lv' := [(0, .int (nI c))]) (st' := [.int (nI 255), .int (nI c)]) 2 rfl ?_
  refine WW.icmp_gt (tgt := 11) rfl rfl (fun hno => absurd hno (nI_nlt (by omega) (by decide))) (fun _ => ?_)
  refine WW.run (pc' := 12) (lv' := [(0, .int (nI c))]) (st' := [.int (nI 1)]) 2 rfl ?_
  exact WW.iret rfl rfl rfl ⟨rfl, rfl⟩
theorem sB3_appendC (h : isB w sb arr n oc) (hn : n < 190) {c : Nat} (hc : c < 128) : Sp l G MJ3_append_3 5 1 420 [.ref sb, .int (nI c)] w (fun o w' => o = .inl (some (.ref sb)) ∧ bQ sb arr (n + 1) (va_up oc n (nI c)) w w') := by
  obtain ⟨ml, cap, f, h1, hA, hnc, hcap, hb, hf⟩ := h
  refine Sp.of rfl (by decide +kernel) kJ3_append_3 (wd_le rfl) ?_
  refine WW.run (pc' := 2) (lv' := [(0, .ref sb), (1, .int (nI c))]) (st' := [.ref sb, .ref sb]) 2 rfl ?_
  refine WW.get rfl fJ3_79_J4 h1 (show _ = some (.int (nI n)) from rfl) ?_
  refine WW.run (pc' := 7) (lv' := [(0, .ref sb), (1, .int (nI c))]) (st' := [.int ((nI n) + (nI 1)), .ref sb]) 2 rfl ?_
  rw [nI_add]
  refine WW.callP [.int (nI (n + 1))] sb [] rfl mJ3_100 (sB_ensure h1 hA hnc hcap hb (mn := n + 1) (by omega)) (wdRecv.obj h1 rfl) rfl rfl (wd_le rfl) (wd_le rfl) (wd_le rfl) (wd_le rfl) (fun o w1 hq => ?_)
  obtain ⟨rfl, arr', cap', f', h2, hA2, k1, k2, k3, k4, k5, k6, k7⟩ := hq
  show WW _ _ _ 10 _ [] _
  refine WW.run (pc' := 11) (lv' := [(0, .ref sb), (1, .int (nI c))]) (st' := [.ref sb]) 1 rfl ?_
  refine WW.callU [] sb [] rfl mJ3_83 (sB_isLatin1 h2) (wdRecv.obj h2 rfl) rfl rfl (wd_le rfl) (wd_le rfl) (wd_le rfl) (wd_le rfl) (fun o w' hq => ?_)
  obtain ⟨rfl, hw9⟩ := hq
  show WW _ _ _ 14 _ [.int (nI 1)] _
  rw [hw9]
  clear hw9 w'
  refine WW.if_eq (tgt := 45) rfl rfl (fun hno => absurd hno (by decide)) (fun _ => ?_)
  refine WW.run (pc' := 18) (lv' := [(0, .ref sb), (1, .int (nI c))]) (st' := [.int (nI c)]) 1 rfl ?_
  refine WW.callS [.int (nI c)] [] rfl mJ3_191 (sK_canEncode hc) rfl rfl (wd_le rfl) (wd_le rfl) (wd_le rfl) (wd_le rfl) (fun o w' hq => ?_)
  obtain ⟨rfl, hw9⟩ := hq
  show WW _ _ _ 21 _ [.int (nI 1)] _
  rw [hw9]
  clear hw9 w'
  refine WW.if_eq (tgt := 45) rfl rfl (fun hno => absurd hno (by decide)) (fun _ => ?_)
  refine WW.run (pc' := 25) (lv' := [(0, .ref sb), (1, .int (nI c))]) (st' := [.ref sb]) 1 rfl ?_
  refine WW.get rfl fJ3_15_J4 h2 (show _ = some (.ref arr') from rfl) ?_
  refine WW.run (pc' := 30) (lv' := [(0, .ref sb), (1, .int (nI c))]) (st' := [.ref sb, .ref sb, .ref arr']) 2 rfl ?_
  refine WW.get rfl fJ3_79_J4 h2 (show _ = some (.int (nI n)) from rfl) ?_
  refine WW.run (pc' := 36) (lv' := [(0, .ref sb), (1, .int (nI c))]) (st' := [.int ((nI n) + (nI 1)), .ref sb, .int (nI n), .ref arr']) 3 rfl ?_
  rw [nI_add]
  refine WW.put [.ref arr', .int 0, .int ml, .int (nI (n + 1))] rfl pfJ3_79_J4 h2 (wd_le rfl) rfl rfl rfl ?_
  have h3 : (wPut w1 12 sb (.inl [.ref arr', .int 0, .int ml, .int (nI (n + 1))])).1 12 sb = some (.inl [.ref arr', .int 0, .int ml, .int (nI (n + 1))]) := wPut_same _ _ _ _
  refine WW.run (pc' := 41) (lv' := [(0, .ref sb), (1, .int (nI c))]) (st' := [.int ((nI c).toInt8.toInt32), .int (nI n), .ref arr']) 2 rfl ?_
  rw [chr_i2b hc]
  have hA3 : (wPut w1 12 sb (.inl [.ref arr', .int 0, .int ml, .int (nI (n + 1))])).1 34 arr' = some (.inr (cap', .inl f')) := (wPut_k (by decide)).trans hA2
  refine WW.bastN (f' := va_up f' n (nI c)) n rfl hA3 rfl (by omega) (by omega) (chr_narB hc) rfl ?_
  have h4 : (wPut (wPut w1 12 sb (.inl [.ref arr', .int 0, .int ml, .int (nI (n + 1))])) 34 arr' (.inr (cap', .inl (va_up f' n (nI c))))).1 34 arr' = some (.inr (cap', .inl (va_up f' n (nI c)))) := wPut_same _ _ _ _
  have h5 : (wPut (wPut w1 12 sb (.inl [.ref arr', .int 0, .int ml, .int (nI (n + 1))])) 34 arr' (.inr (cap', .inl (va_up f' n (nI c))))).1 12 sb = some (.inl (sbF arr' ml (n + 1))) := (wPut_k (by decide)).trans h3
  refine WW.run (pc' := 76) (lv' := [(0, .ref sb), (1, .int (nI c))]) (st' := [.ref sb]) 2 rfl ?_
  refine WW.aret rfl rfl (Or.inl ⟨_, rfl⟩) (Or.inr ⟨_, rfl⟩) ⟨rfl, arr', ⟨ml, cap', _, h5, h4, by omega, k3, up_fit (chr_fit hc) k4, fun i hi => ?_⟩, k6, (k7.put (Or.inl (Or.inl rfl))).put (k6.imp (fun e => Or.inr e) (fun e => e))⟩
  by_cases q : i = n
  · rw [q, va_up_self, va_up_self]
  · rw [va_up_ne _ _ q, va_up_ne _ _ q, k5 i (by omega)]
    exact hf i (by omega)
theorem sB_appendC (h : isB w sb arr n oc) (hn : n < 190) {c : Nat} (hc : c < 128) : Sp l G MJ4_append_3 6 1 420 [.ref sb, .int (nI c)] w (fun o w' => o = .inl (some (.ref sb)) ∧ bQ sb arr (n + 1) (va_up oc n (nI c)) w w') := by
  have h0 := h
  obtain ⟨ml, cap, f, h1, hA, hnc, hcap, hb, hf⟩ := h
  refine Sp.of rfl (by decide +kernel) kJ4_append_3 (wd_le rfl) ?_
  refine WW.run (pc' := 2) (lv' := [(0, .ref sb), (1, .int (nI c))]) (st' := [.int (nI c), .ref sb]) 2 rfl ?_
  refine WW.callSU [.int (nI c)] sb [] rfl mJ4_50 (sB3_appendC h0 hn hc) h1 rfl rfl rfl (wd_le rfl) (wd_le rfl) (wd_le rfl) (wd_le rfl) (fun o w1 hq => ?_)
  obtain ⟨rfl, h2⟩ := hq
  show WW _ _ _ 5 _ [.ref sb] _
  refine WW.run (pc' := 7) (lv' := [(0, .ref sb), (1, .int (nI c))]) (st' := [.ref sb]) 2 rfl ?_
  exact WW.aret rfl rfl (Or.inl ⟨_, rfl⟩) (Or.inr ⟨_, rfl⟩) ⟨rfl, h2⟩
theorem sB_setLength0 (h : isB w sb arr n oc) (oc' : Nat → Int32) : Sp l G MJ4_setLength 6 1 420 [.ref sb, .int (nI 0)] w (fun o w' => o = .inl none ∧ bQ sb arr 0 oc' w w') := by
  have h0 := h
  obtain ⟨ml, cap, f, h1, hA, hnc, hcap, hb, hf⟩ := h
  have key : Sp l G MJ3_setLength 5 1 420 [.ref sb, .int (nI 0)] w (fun o w' => o = .inl none ∧ bQ sb arr 0 oc' w w') := by
    refine Sp.of rfl (by decide +kernel) kJ3_setLength (wd_le rfl) ?_
    refine WW.run (pc' := 1) (lv' := [(0, .ref sb), (1, .int (nI 0))]) (st' := [.int (nI 0)]) 1 rfl ?_
    refine WW.if_ge (tgt := 13) rfl rfl (fun _ => ?_) (fun hno => absurd (by decide) hno)
    refine WW.run (pc' := 15) (lv' := [(0, .ref sb), (1, .int (nI 0))]) (st' := [.int (nI 0), .ref sb]) 2 rfl ?_
    refine WW.callP [.int (nI 0)] sb [] rfl mJ3_100 (sB_ensure h1 hA hnc hcap hb (mn := 0) (by decide)) (wdRecv.obj h1 rfl) rfl rfl (wd_le rfl) (wd_le rfl) (wd_le rfl) (wd_le rfl) (fun o w1 hq => ?_)
    obtain ⟨rfl, arr', cap', f', h2, hA2, k1, k2, k3, k4, k5, k6, k7⟩ := hq
    show WW _ _ _ 18 _ [] _
    refine WW.run (pc' := 19) (lv' := [(0, .ref sb), (1, .int (nI 0))]) (st' := [.ref sb]) 1 rfl ?_
    refine WW.get rfl fJ3_79_J4 h2 (show _ = some (.int (nI n)) from rfl) ?_
    refine WW.run (pc' := 23) (lv' := [(0, .ref sb), (1, .int (nI 0))]) (st' := [.int (nI 0), .int (nI n)]) 1 rfl ?_
    refine WW.icmp_ge (tgt := 63) rfl rfl (fun _ => ?_) (fun hno => absurd (nI_le (Nat.zero_le _) (by omega)) hno)
    refine WW.run (pc' := 64) (lv' := [(0, .ref sb), (1, .int (nI 0))]) (st' := [.ref sb]) 1 rfl ?_
    refine WW.get rfl fJ3_79_J4 h2 (show _ = some (.int (nI n)) from rfl) ?_
    refine WW.run (pc' := 68) (lv' := [(0, .ref sb), (1, .int (nI 0))]) (st' := [.int (nI 0), .int (nI n)]) 1 rfl ?_
    by_cases e : n = 0
    · skip
      refine WW.icmp_le (tgt := 76) rfl rfl (fun _ => ?_) (fun hno => absurd (by rw [e]; exact nI_le0) hno)
      refine WW.run (pc' := 78) (lv' := [(0, .ref sb), (1, .int (nI 0))]) (st' := [.int (nI 0), .ref sb]) 2 rfl ?_
      refine WW.put [.ref arr', .int 0, .int ml, .int (nI 0)] rfl pfJ3_79_J4 h2 (wd_le rfl) rfl rfl rfl ?_
      have h3 : (wPut w1 12 sb (.inl [.ref arr', .int 0, .int ml, .int (nI 0)])).1 12 sb = some (.inl [.ref arr', .int 0, .int ml, .int (nI 0)]) := wPut_same _ _ _ _
      have hA3 : (wPut w1 12 sb (.inl [.ref arr', .int 0, .int ml, .int (nI 0)])).1 34 arr' = some (.inr (cap', .inl f')) := (wPut_k (by decide)).trans hA2
      exact WW.vret rfl rfl ⟨rfl, arr', ⟨ml, cap', f', h3, hA3, Nat.zero_le _, k3, k4, fun i hi => absurd hi (Nat.not_lt_zero i)⟩, k6, k7.put (Or.inl (Or.inl rfl))⟩
    · skip
      refine WW.icmp_le (tgt := 76) rfl rfl (fun hno => absurd hno (nI_ge (Nat.pos_of_ne_zero e) (by omega))) (fun _ => ?_)
      refine WW.run (pc' := 73) (lv' := [(0, .ref sb), (1, .int (nI 0))]) (st' := [.int (nI 1), .ref sb]) 2 rfl ?_
      refine WW.put [.ref arr', .int 0, .int (nI 1), .int (nI n)] rfl pfJ3_73_J4 h2 (wd_le rfl) rfl rfl rfl ?_
      have h3 : (wPut w1 12 sb (.inl [.ref arr', .int 0, .int (nI 1), .int (nI n)])).1 12 sb = some (.inl [.ref arr', .int 0, .int (nI 1), .int (nI n)]) := wPut_same _ _ _ _
      refine WW.run (pc' := 78) (lv' := [(0, .ref sb), (1, .int (nI 0))]) (st' := [.int (nI 0), .ref sb]) 2 rfl ?_
      refine WW.put [.ref arr', .int 0, .int (nI 1), .int (nI 0)] rfl pfJ3_79_J4 h3 (wd_le rfl) rfl rfl rfl ?_
      have h4 : (wPut (wPut w1 12 sb (.inl [.ref arr', .int 0, .int (nI 1), .int (nI n)])) 12 sb (.inl [.ref arr', .int 0, .int (nI 1), .int (nI 0)])).1 12 sb = some (.inl [.ref arr', .int 0, .int (nI 1), .int (nI 0)]) := wPut_same _ _ _ _
      have hA3 : (wPut (wPut w1 12 sb (.inl [.ref arr', .int 0, .int (nI 1), .int (nI n)])) 12 sb (.inl [.ref arr', .int 0, .int (nI 1), .int (nI 0)])).1 34 arr' = some (.inr (cap', .inl f')) := (wPut_k (by decide)).trans ((wPut_k (by decide)).trans hA2)
      exact WW.vret rfl rfl ⟨rfl, arr', ⟨_, cap', f', h4, hA3, Nat.zero_le _, k3, k4, fun i hi => absurd hi (Nat.not_lt_zero i)⟩, k6, (k7.put (Or.inl (Or.inl rfl))).put (Or.inl (Or.inl rfl))⟩
  refine Sp.of rfl (by decide +kernel) kJ4_setLength (wd_le rfl) ?_
  refine WW.run (pc' := 2) (lv' := [(0, .ref sb), (1, .int (nI 0))]) (st' := [.int (nI 0), .ref sb]) 2 rfl ?_
  refine WW.callSU [.int (nI 0)] sb [] rfl mJ4_333 key h1 rfl rfl rfl (wd_le rfl) (wd_le rfl) (wd_le rfl) (wd_le rfl) (fun o w1 hq => ?_)
  obtain ⟨rfl, h2⟩ := hq
  show WW _ _ _ 5 _ [] _
  exact WW.vret rfl rfl ⟨rfl, h2⟩
theorem sB_length (h : isB w sb arr n oc) : SpR l G MJ4_length 1 [.ref sb] w (.int (nI n)) := by
  obtain ⟨ml, cap, f, h1, hA, hnc, hcap, hb, hf⟩ := h
  have key : SpR l G MJ3_length 0 [.ref sb] w (.int (nI n)) := by
    refine Sp.of rfl (by decide +kernel) kJ3_length (wd_le rfl) ?_
    refine WW.run (pc' := 1) (lv' := [(0, .ref sb)]) (st' := [.ref sb]) 1 rfl ?_
    refine WW.get rfl fJ3_79_J4 h1 (show _ = some (.int (nI n)) from rfl) ?_
    exact WW.iret rfl rfl rfl ⟨rfl, rfl⟩
  refine Sp.of rfl (by decide +kernel) kJ4_length (wd_le rfl) ?_
  refine WW.run (pc' := 1) (lv' := [(0, .ref sb)]) (st' := [.ref sb]) 1 rfl ?_
  refine WW.callSU [] sb [] rfl mJ4_343 key h1 rfl rfl rfl (wd_le rfl) (wd_le rfl) (wd_le rfl) (wd_le rfl) (fun o w' hq => ?_)
  obtain ⟨rfl, hw9⟩ := hq
  show WW _ _ _ 4 _ [.int (nI n)] _
  rw [hw9]
  clear hw9 w'
  exact WW.iret rfl rfl rfl ⟨rfl, rfl⟩
theorem sB_charAt (h : isB w sb arr n oc) {k b : Nat} (hk : k < n) (hc : oc k = nI b) (hb8 : b < 128) : SpR l G MJ4_charAt 4 [.ref sb, .int (nI k)] w (.int (nI b)) := by
  obtain ⟨ml, cap, f, h1, hA, hnc, hcap, hb, hf⟩ := h
  have key : SpR l G MJ3_charAt 3 [.ref sb, .int (nI k)] w (.int (nI b)) := by
    refine Sp.of rfl (by decide +kernel) kJ3_charAt (wd_le rfl) ?_
    refine WW.run (pc' := 1) (lv' := [(0, .ref sb), (1, .int (nI k))]) (st' := [.ref sb]) 1 rfl ?_
    refine WW.get rfl fJ3_22_J4 h1 (show _ = some (.int 0) from rfl) ?_
    refine WW.run (pc' := 6) (lv' := [(2, .int 0), (0, .ref sb), (1, .int (nI k))]) (st' := [.ref sb]) 2 rfl ?_
    refine WW.get rfl fJ3_15_J4 h1 (show _ = some (.ref arr) from rfl) ?_
    refine WW.run (pc' := 11) (lv' := [(3, .ref arr), (2, .int 0), (0, .ref sb), (1, .int (nI k))]) (st' := [.ref sb]) 2 rfl ?_
    refine WW.get rfl fJ3_79_J4 h1 (show _ = some (.int (nI n)) from rfl) ?_
    refine WW.run (pc' := 15) (lv' := [(3, .ref arr), (2, .int 0), (0, .ref sb), (1, .int (nI k))]) (st' := [.ref arr, .int (nI n)]) 1 rfl ?_
    refine WW.alen (v := nI cap) 34 2 rfl rfl hA rfl ?_
    refine WW.run (pc' := 18) (lv' := [(3, .ref arr), (2, .int 0), (0, .ref sb), (1, .int (nI k))]) (st' := [.int ((nI cap) >>> (0 &&& 31)), .int (nI n)]) 2 rfl ?_
    rw [i_shr0]
    refine WW.mmin rfl q1710 q498 q82 q499 (wd_le rfl) (wd_le rfl) ?_
    rw [if_neg (nI_nlt hnc (by omega))]
    refine WW.run (pc' := 26) (lv' := [(4, .int (nI n)), (3, .ref arr), (2, .int 0), (0, .ref sb), (1, .int (nI k))]) (st' := [.int (nI n), .int (nI k)]) 3 rfl ?_
    refine WW.callS [.int (nI k), .int (nI n)] [] rfl mJ3_144 (sG_checkIndex hk (by omega)) rfl rfl (wd_le rfl) (wd_le rfl) (wd_le rfl) (wd_le rfl) (fun o w' hq => ?_)
    obtain ⟨rfl, hw9⟩ := hq
    show WW _ _ _ 29 _ [] _
    rw [hw9]
    clear hw9 w'
    refine WW.run (pc' := 30) (lv' := [(4, .int (nI n)), (3, .ref arr), (2, .int 0), (0, .ref sb), (1, .int (nI k))]) (st' := [.int 0]) 1 rfl ?_
    refine WW.if_ne (tgt := 42) rfl rfl (fun hno => absurd rfl hno) (fun _ => ?_)
    refine WW.run (pc' := 35) (lv' := [(4, .int (nI n)), (3, .ref arr), (2, .int 0), (0, .ref sb), (1, .int (nI k))]) (st' := [.int (nI k), .ref arr]) 2 rfl ?_
    refine WW.baldN k rfl hA rfl (by omega) (by omega) ((hf k hk).trans hc) ?_
    refine WW.run (pc' := 41) (lv' := [(4, .int (nI n)), (3, .ref arr), (2, .int 0), (0, .ref sb), (1, .int (nI k))]) (st' := [.int ((((nI b) &&& (nI 255)).toUInt32 % 65536).toInt32)]) 3 rfl ?_
    rw [chr_and hb8]
    exact WW.iret rfl rfl (chr_nar hb8) ⟨rfl, rfl⟩
  refine Sp.of rfl (by decide +kernel) kJ4_charAt (wd_le rfl) ?_
  refine WW.run (pc' := 2) (lv' := [(0, .ref sb), (1, .int (nI k))]) (st' := [.int (nI k), .ref sb]) 2 rfl ?_
  refine WW.callSU [.int (nI k)] sb [] rfl mJ4_329 key h1 rfl rfl rfl (wd_le rfl) (wd_le rfl) (wd_le rfl) (wd_le rfl) (fun o w' hq => ?_)
  obtain ⟨rfl, hw9⟩ := hq
  show WW _ _ _ 5 _ [.int (nI b)] _
  rw [hw9]
  clear hw9 w'
  exact WW.iret rfl rfl (chr_nar hb8) ⟨rfl, rfl⟩
/-! a string constant appended -/
theorem sB_inflate (h1 : w.1 12 sb = some (.inl (sbF arr ml n))) {i : Nat} {q : String × Nat × String × Int32 × Int32 × List Nat} (hst : wdSt[i]? = some q) : Sp l G MJ3_inflateIfNeededFor 1 0 0 [.ref sb, .ref (wdSa G i)] w (fun o w' => o = .inl none ∧ w' = w) := by
  refine Sp.of rfl (by decide +kernel) kJ3_inflateIfNeededFor (wd_le rfl) ?_
  refine WW.gets rfl (List.mem_of_getElem? (i := 0) rfl) q187 ?_
  refine WW.if_eq (tgt := 21) rfl rfl (fun hno => absurd hno (by decide)) (fun _ => ?_)
  refine WW.run (pc' := 7) (lv' := [(0, .ref sb), (1, .ref (wdSa G i))]) (st' := [.ref sb]) 1 rfl ?_
  refine WW.get rfl fJ3_22_J4 h1 (show _ = some (.int 0) from rfl) ?_
  refine WW.run (pc' := 11) (lv' := [(0, .ref sb), (1, .ref (wdSa G i))]) (st' := [.ref (wdSa G i), .int 0]) 1 rfl ?_
  refine WW.callV [] (wdSa G i) [.int 0] rfl mJ3_40 (sG_coder hst) (wdRecv.str hst) rfl rfl (wd_le rfl) (wd_le rfl) (wd_le rfl) (wd_le rfl) (fun o w' hq => ?_)
  obtain ⟨rfl, hw9⟩ := hq
  show WW _ _ _ 14 _ [.int 0, .int 0] _
  rw [hw9]
  clear hw9 w'
  refine WW.icmp_eq (tgt := 21) rfl rfl (fun _ => ?_) (fun hno => absurd rfl hno)
  exact WW.vret rfl rfl ⟨rfl, rfl⟩
theorem sB_putStringAt (h1 : w.1 12 sb = some (.inl (sbF arr ml n))) (hA : w.1 34 arr = some (.inr (cap, .inl f))) {i d : Nat} {q : String × Nat × String × Int32 × Int32 × List Nat} (hst : wdSt[i]? = some q) (hd : d + q.2.2.2.2.2.length ≤ cap) (hc : cap < 2 ^ 31) (hb : ∀ j, j < q.2.2.2.2.2.length → q.2.2.2.2.2.getD j 0 < 128) : Sp l G MJ3_putStringAt 2 0 0 [.ref sb, .int (nI d), .ref (wdSa G i)] w (fun o w' => o = .inl none ∧ w' = wPut w 34 arr (.inr (cap, .inl (va_cpy (fun j => nI (q.2.2.2.2.2.getD j 0)) f 0 d q.2.2.2.2.2.length)))) := by
  refine Sp.of rfl (by decide +kernel) kJ3_putStringAt (wd_le rfl) ?_
  refine WW.run (pc' := 2) (lv' := [(0, .ref sb), (1, .int (nI d)), (2, .ref (wdSa G i))]) (st' := [.ref (wdSa G i), .ref sb]) 2 rfl ?_
  refine WW.callP [.ref (wdSa G i)] sb [] rfl mJ3_397 (sB_inflate h1 hst) (wdRecv.obj h1 rfl) rfl rfl (wd_le rfl) (wd_le rfl) (wd_le rfl) (wd_le rfl) (fun o w' hq => ?_)
  obtain ⟨rfl, hw9⟩ := hq
  show WW _ _ _ 5 _ [] _
  rw [hw9]
  clear hw9 w'
  refine WW.run (pc' := 7) (lv' := [(0, .ref sb), (1, .int (nI d)), (2, .ref (wdSa G i))]) (st' := [.ref sb, .ref (wdSa G i)]) 2 rfl ?_
  refine WW.get rfl fJ3_15_J4 h1 (show _ = some (.ref arr) from rfl) ?_
  refine WW.run (pc' := 12) (lv' := [(0, .ref sb), (1, .int (nI d)), (2, .ref (wdSa G i))]) (st' := [.ref sb, .int (nI d), .ref arr, .ref (wdSa G i)]) 2 rfl ?_
  refine WW.get rfl fJ3_22_J4 h1 (show _ = some (.int 0) from rfl) ?_
  refine WW.callV [.ref arr, .int (nI d), .int 0] (wdSa G i) [] rfl mJ3_399 (sG_getBytes hst hA hd hc hb) (wdRecv.str hst) rfl rfl (wd_le rfl) (wd_le rfl) (wd_le rfl) (wd_le rfl) (fun o w' hq => ?_)
  obtain ⟨rfl, hw9⟩ := hq
  show WW _ _ _ 18 _ [] _
  rw [hw9]
  exact WW.vret rfl rfl ⟨rfl, rfl⟩
theorem sB_appendS (h : isB w sb arr n oc) (hn : n < 190) {i : Nat} {q : String × Nat × String × Int32 × Int32 × List Nat} (hst : wdSt[i]? = some q) (hl : q.2.2.2.2.2.length < 8) (hb8 : ∀ j, j < q.2.2.2.2.2.length → q.2.2.2.2.2.getD j 0 < 128) : Sp l G MJ4_append 6 1 420 [.ref sb, .ref (wdSa G i)] w (fun o w' => o = .inl (some (.ref sb)) ∧ bQ sb arr (n + q.2.2.2.2.2.length) (va_cpy (fun j => nI (q.2.2.2.2.2.getD j 0)) oc 0 n q.2.2.2.2.2.length) w w') := by
  obtain ⟨ml, cap, f, h1, hA, hnc, hcap, hb, hf⟩ := h
  have key : Sp l G MJ3_append 5 1 420 [.ref sb, .ref (wdSa G i)] w (fun o w' => o = .inl (some (.ref sb)) ∧ bQ sb arr (n + q.2.2.2.2.2.length) (va_cpy (fun j => nI (q.2.2.2.2.2.getD j 0)) oc 0 n q.2.2.2.2.2.length) w w') := by
    refine Sp.of rfl (by decide +kernel) kJ3_append (wd_le rfl) ?_
    refine WW.run (pc' := 1) (lv' := [(0, .ref sb), (1, .ref (wdSa G i))]) (st' := [.ref (wdSa G i)]) 1 rfl ?_
    refine WW.ifnonnull (tgt := 9) rfl rfl ?_
    refine WW.run (pc' := 10) (lv' := [(0, .ref sb), (1, .ref (wdSa G i))]) (st' := [.ref (wdSa G i)]) 1 rfl ?_
    refine WW.callV [] (wdSa G i) [] rfl mJ3_32 (sG_length hst) (wdRecv.str hst) rfl rfl (wd_le rfl) (wd_le rfl) (wd_le rfl) (wd_le rfl) (fun o w' hq => ?_)
    obtain ⟨rfl, hw9⟩ := hq
    show WW _ _ _ 13 _ [.int (nI q.2.2.2.2.2.length)] _
    rw [hw9]
    clear hw9 w'
    refine WW.run (pc' := 16) (lv' := [(2, .int (nI q.2.2.2.2.2.length)), (0, .ref sb), (1, .ref (wdSa G i))]) (st' := [.ref sb, .ref sb]) 3 rfl ?_
    refine WW.get rfl fJ3_79_J4 h1 (show _ = some (.int (nI n)) from rfl) ?_
    refine WW.run (pc' := 21) (lv' := [(2, .int (nI q.2.2.2.2.2.length)), (0, .ref sb), (1, .ref (wdSa G i))]) (st' := [.int ((nI n) + (nI q.2.2.2.2.2.length)), .ref sb]) 2 rfl ?_
    rw [nI_add]
    refine WW.callP [.int (nI (n + q.2.2.2.2.2.length))] sb [] rfl mJ3_100 (sB_ensure h1 hA hnc hcap hb (mn := n + q.2.2.2.2.2.length) (by omega)) (wdRecv.obj h1 rfl) rfl rfl (wd_le rfl) (wd_le rfl) (wd_le rfl) (wd_le rfl) (fun o w1 hq => ?_)
    obtain ⟨rfl, arr', cap', f', h2, hA2, k1, k2, k3, k4, k5, k6, k7⟩ := hq
    show WW _ _ _ 24 _ [] _
    refine WW.run (pc' := 26) (lv' := [(2, .int (nI q.2.2.2.2.2.length)), (0, .ref sb), (1, .ref (wdSa G i))]) (st' := [.ref sb, .ref sb]) 2 rfl ?_
    refine WW.get rfl fJ3_79_J4 h2 (show _ = some (.int (nI n)) from rfl) ?_
    refine WW.run (pc' := 30) (lv' := [(2, .int (nI q.2.2.2.2.2.length)), (0, .ref sb), (1, .ref (wdSa G i))]) (st' := [.ref (wdSa G i), .int (nI n), .ref sb]) 1 rfl ?_
    refine WW.callP [.int (nI n), .ref (wdSa G i)] sb [] rfl mJ3_208 (sB_putStringAt h2 hA2 hst (d := n) k1 (by omega) hb8) (wdRecv.obj h2 rfl) rfl rfl (wd_le rfl) (wd_le rfl) (wd_le rfl) (wd_le rfl) (fun o w' hq => ?_)
    obtain ⟨rfl, hw9⟩ := hq
    show WW _ _ _ 33 _ [] _
    have h3 : w'.1 12 sb = some (.inl (sbF arr' ml n)) := by rw [hw9]; exact (wPut_k (by decide)).trans h2
    have hA3 : w'.1 34 arr' = some (.inr (cap', .inl (va_cpy (fun j => nI (q.2.2.2.2.2.getD j 0)) f' 0 n q.2.2.2.2.2.length))) := by rw [hw9]; exact wPut_same _ _ _ _
    have fr3 : wFr (bP sb arr) w w' := by rw [hw9]; exact k7.put (k6.imp (fun e => Or.inr e) (fun e => e))
    refine WW.run (pc' := 35) (lv' := [(2, .int (nI q.2.2.2.2.2.length)), (0, .ref sb), (1, .ref (wdSa G i))]) (st' := [.ref sb, .ref sb]) 2 rfl ?_
    refine WW.get rfl fJ3_79_J4 h3 (show _ = some (.int (nI n)) from rfl) ?_
    refine WW.run (pc' := 40) (lv' := [(2, .int (nI q.2.2.2.2.2.length)), (0, .ref sb), (1, .ref (wdSa G i))]) (st' := [.int ((nI n) + (nI q.2.2.2.2.2.length)), .ref sb]) 2 rfl ?_
    rw [nI_add]
    refine WW.put [.ref arr', .int 0, .int ml, .int (nI (n + q.2.2.2.2.2.length))] rfl pfJ3_79_J4 h3 (wd_le rfl) rfl rfl rfl ?_
    have h4 : (wPut w' 12 sb (.inl [.ref arr', .int 0, .int ml, .int (nI (n + q.2.2.2.2.2.length))])).1 12 sb = some (.inl [.ref arr', .int 0, .int ml, .int (nI (n + q.2.2.2.2.2.length))]) := wPut_same _ _ _ _
    have hA4 : (wPut w' 12 sb (.inl [.ref arr', .int 0, .int ml, .int (nI (n + q.2.2.2.2.2.length))])).1 34 arr' = some (.inr (cap', .inl (va_cpy (fun j => nI (q.2.2.2.2.2.getD j 0)) f' 0 n q.2.2.2.2.2.length))) := (wPut_k (by decide)).trans hA3
    refine WW.run (pc' := 44) (lv' := [(2, .int (nI q.2.2.2.2.2.length)), (0, .ref sb), (1, .ref (wdSa G i))]) (st' := [.ref sb]) 1 rfl ?_
    refine WW.aret rfl rfl (Or.inl ⟨_, rfl⟩) (Or.inr ⟨_, rfl⟩) ⟨rfl, arr', ⟨ml, cap', _, h4, hA4, k1, k3, cpy_fit (fun j hj => chr_fit (hb8 j hj)) k4, fun j hj => ?_⟩, k6, fr3.put (Or.inl (Or.inl rfl))⟩
    unfold va_cpy
    by_cases e : n ≤ j ∧ j < n + q.2.2.2.2.2.length
    · rw [if_pos e, if_pos e]
    · rw [if_neg e, if_neg e, k5 j (by omega)]
      exact hf j (by omega)
  refine Sp.of rfl (by decide +kernel) kJ4_append (wd_le rfl) ?_
  refine WW.run (pc' := 2) (lv' := [(0, .ref sb), (1, .ref (wdSa G i))]) (st' := [.ref (wdSa G i), .ref sb]) 2 rfl ?_
  refine WW.callSU [.ref (wdSa G i)] sb [] rfl mJ4_29 key h1 rfl rfl rfl (wd_le rfl) (wd_le rfl) (wd_le rfl) (wd_le rfl) (fun o w1 hq => ?_)
  obtain ⟨rfl, h2⟩ := hq
  show WW _ _ _ 5 _ [.ref sb] _
  refine WW.run (pc' := 7) (lv' := [(0, .ref sb), (1, .ref (wdSa G i))]) (st' := [.ref sb]) 2 rfl ?_
  exact WW.aret rfl rfl (Or.inl ⟨_, rfl⟩) (Or.inr ⟨_, rfl⟩) ⟨rfl, h2⟩
end
