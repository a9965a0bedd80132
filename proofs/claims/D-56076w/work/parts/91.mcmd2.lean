set_option maxRecDepth 100000
section
variable {ic : Nat → Int32} {n p : Nat}
theorem kPk_of {c : Nat} (hc : c < 128) (h : kBh ic n p = nI c) : kPk ic n p = nI c := by
  obtain ⟨h1, h2⟩ := kAt_eq ((bh_at hc).mp h)
  show (bif Nat.blt p n then ic p else nI 32) = _
  rw [Nat.blt_eq.mpr h1]
  exact h2
theorem kPk_no {c : Nat} (hc : c < 128) (h32 : c ≠ 32) (h : ¬ kBh ic n p = nI c) : ¬ kPk ic n p = nI c := by
  intro q
  have q : (bif Nat.blt p n then ic p else nI 32) = nI c := q
  cases hb : Nat.blt p n with
  | false =>
    rw [hb] at q
    exact h32 ((nI_eq (by omega) (by omega)).mp q).symm
  | true =>
    rw [hb] at q
    exact h ((bh_at hc).mpr (kAt_of (Nat.blt_eq.mp hb) q))
theorem kAt_no {c : Nat} (hc : c < 128) (h : ¬ kBh ic n p = nI c) : kAt ic n p (nI c) (nI c) = false := by
  cases hk : kAt ic n p (nI c) (nI c) with
  | false => rfl
  | true => exact absurd ((bh_at hc).mpr hk) h
theorem nI_dec {a b : Nat} (ha : a < 2 ^ 31) (hb : b < 2 ^ 31) (h : a ≠ b) : ¬ nI a = nI b := fun q => h ((nI_eq ha hb).mp q)
/-- lamp, drop, .. by the first sign -/
theorem mH97 (e1 : kBh ic n p = nI 108) (e2 : kBh ic n (p + 1) = nI 97) : mH ic n 1 p (mSk ic n (kB 1) (p, false)) := by
  refine Or.inl ⟨?_, rfl⟩
  have h1 := kPk_of (by decide) e1
  have h2 := kPk_of (by decide) e2
  unfold kKw
  rw [h1, h2, if_neg (nI_dec (by decide) (by decide) (by decide)), if_pos rfl, if_neg (nI_dec (by decide) (by decide) (by decide))]
theorem mH108 (e1 : kBh ic n p = nI 108) (e2 : ¬ kBh ic n (p + 1) = nI 97) : mH ic n 6 p (mSk ic n (kB 6) (p, false)) := by
  have h1 := kPk_of (by decide) e1
  by_cases e3 : kPk ic n (p + 1) = nI 101
  · refine Or.inl ⟨?_, rfl⟩
    unfold kKw
    rw [h1, e3, if_neg (nI_dec (by decide) (by decide) (by decide)), if_pos rfl, if_pos rfl]
  · have hk : kKw ic n p = 1 := by
      unfold kKw
      rw [h1, if_neg (nI_dec (by decide) (by decide) (by decide)), if_pos rfl, if_neg e3]
    have a1 : kAt ic n p (nI 108) (nI 108) = true := (bh_at (by decide)).mp e1
    have a2 : kAt ic n (p + 1) (nI 97) (nI 97) = false := kAt_no (by decide) e2
    have a3 : kAt ic n (p + 1) (nI 101) (nI 101) = false := by
      cases hk3 : kAt ic n (p + 1) (nI 101) (nI 101) with
      | false => rfl
      | true => exact absurd (kPk_of (by decide) ((bh_at (by decide)).mpr hk3)) e3
    refine Or.inr ⟨p + 1, ?_, ?_⟩
    · rw [mSk_f, show kB 6 = [108, 101, 97, 115, 101] from rfl, kSkip_cons, a1]
      dsimp only [cond_true]
      rw [kSkip_cons, a3]
      rfl
    · unfold kCmd
      rw [hk, show kB 1 = [108, 97, 109, 112] from rfl, kSkip_cons, a1]
      dsimp only [cond_true]
      rw [kSkip_cons, a2]
      rfl
theorem mHa (e1 : kBh ic n p = nI 97) : mH ic n 1 p (mSk ic n (kB 0) (p, false)) := by
  have h1 := kPk_of (by decide) e1
  have a1 : kAt ic n p (nI 115) (nI 115) = false := kAt_no (by decide) (by rw [e1]; exact nI_dec (by decide) (by decide) (by decide))
  have hk : kKw ic n p = 0 := by
    unfold kKw
    rw [h1, if_neg (nI_dec (by decide) (by decide) (by decide)), if_neg (nI_dec (by decide) (by decide) (by decide)), if_neg (nI_dec (by decide) (by decide) (by decide)), if_neg (nI_dec (by decide) (by decide) (by decide)), if_neg (nI_dec (by decide) (by decide) (by decide))]
  refine Or.inr ⟨p, ?_, ?_⟩
  · rw [mSk_f, show kB 0 = [115, 104, 105, 112] from rfl, kSkip_cons, a1]
    rfl
  · unfold kCmd
    rw [hk, show kB 0 = [115, 104, 105, 112] from rfl, kSkip_cons, a1]
    rfl
theorem mH100 (e1 : kBh ic n p = nI 100) : mH ic n 2 p (mSk ic n (kB 2) (p, false)) := by
  refine Or.inl ⟨?_, rfl⟩
  have h1 := kPk_of (by decide) e1
  unfold kKw
  rw [h1, if_pos rfl]
theorem mH111 (e1 : kBh ic n p = nI 111) : mH ic n 3 p (mSk ic n (kB 3) (p, false)) := by
  refine Or.inl ⟨?_, rfl⟩
  have h1 := kPk_of (by decide) e1
  unfold kKw
  rw [h1, if_neg (nI_dec (by decide) (by decide) (by decide)), if_neg (nI_dec (by decide) (by decide) (by decide)), if_pos rfl]
theorem mH114 (e1 : kBh ic n p = nI 114) : mH ic n 5 p (mSk ic n (kB 5) (p, false)) := by
  refine Or.inl ⟨?_, rfl⟩
  have h1 := kPk_of (by decide) e1
  unfold kKw
  rw [h1, if_neg (nI_dec (by decide) (by decide) (by decide)), if_neg (nI_dec (by decide) (by decide) (by decide)), if_neg (nI_dec (by decide) (by decide) (by decide)), if_pos rfl]
theorem mH119 (e1 : kBh ic n p = nI 119) : mH ic n 4 p (mSk ic n (kB 4) (p, false)) := by
  refine Or.inl ⟨?_, rfl⟩
  have h1 := kPk_of (by decide) e1
  unfold kKw
  rw [h1, if_neg (nI_dec (by decide) (by decide) (by decide)), if_neg (nI_dec (by decide) (by decide) (by decide)), if_neg (nI_dec (by decide) (by decide) (by decide)), if_neg (nI_dec (by decide) (by decide) (by decide)), if_pos rfl]
theorem mH0 (e1 : ¬ kBh ic n p = nI 100) (e2 : ¬ kBh ic n p = nI 108) (e3 : ¬ kBh ic n p = nI 111) (e4 : ¬ kBh ic n p = nI 114) (e5 : ¬ kBh ic n p = nI 119) : mH ic n 0 p (mSk ic n (kB 0) (p, false)) := by
  refine Or.inl ⟨?_, rfl⟩
  unfold kKw
  rw [if_neg (kPk_no (by decide) (by decide) e1), if_neg (kPk_no (by decide) (by decide) e2), if_neg (kPk_no (by decide) (by decide) e3), if_neg (kPk_no (by decide) (by decide) e4), if_neg (kPk_no (by decide) (by decide) e5)]
end
/-- the ship's word is met: its first sign -/
theorem kS0 {ic : Nat → Int32} {n p : Nat} {s : Nat × Bool} {z : Nat × Nat × kV} (h : kCmd ic n p = .inr z) (hk : kKw ic n p = 0) : kBh ic n p = nI 115 := by
  unfold kCmd at h
  rw [hk, show kB 0 = [115, 104, 105, 112] from rfl, kSkip_cons] at h
  cases hc : kAt ic n p (nI 115) (nI 115) with
  | false => rw [hc] at h; cases h
  | true => exact (bh_at (by decide)).mpr hc
section
variable {l : Launch} {G : wdG} {w : wdW} {m : Nat} {A : Nat → Nat} {I : Nat → Int32} {F : Nat → Nat → Int32} {n p c : Nat} {g : Nat → Int32}
def mRQ (m : Nat) (A : Nat → Nat) (I : Nat → Int32) (F : Nat → Nat → Int32) (n p c : Nat) (g : Nat → Int32) (w : wdW) : wdO → wdW → Prop := fun o w' => o = .inl none ∧ ∃ s' g', isM w' m A (pI I n s' (c + 1)) (va_up F 7 g') ∧ s'.1 ≤ n ∧ mRel (F 6) n c g p s' g' ∧ mFr m A w w'
variable {x y : Int32} {Q : wdO → wdW → Prop}
theorem mS_37 (hM : isM w m A (pI I n (p, false) c) (va_up F 7 g)) (hc : c < 59) (kk : ∀ w', isM w' m A (pI I n (p, false) (c + 1)) (va_up F 7 (va_up g (4 * c) x)) → mFr m A w w' → WW (l, G, MX3_readCommand, 6, 0, 0, Q) 0 0 61 [(3, .int (nI (4 * c))), (2, .int x), (1, .int y), (0, .ref m)] [] w') : WW (l, G, MX3_readCommand, 6, 0, 0, Q) 0 0 37 [(2, .int x), (1, .int y), (0, .ref m)] [] w := by
  refine WW.run (pc' := 39) (lv' := [(2, .int x), (1, .int y), (0, .ref m)]) (st' := [.ref m, .int (nI 4)]) 2 rfl ?_
  refine WW.get rfl fX3_213 hM.1 (show _ = some (.int (nI c)) from rfl) ?_
  refine WW.run (pc' := 44) (lv' := [(3, .int ((nI 4) * (nI c))), (2, .int x), (1, .int y), (0, .ref m)]) (st' := []) 2 rfl ?_
  rw [show nI 4 * nI c = nI (4 * c) from (wn_mul rfl rfl)]
  refine WW.run (pc' := 46) (lv' := [(3, .int (nI (4 * c))), (2, .int x), (1, .int y), (0, .ref m)]) (st' := [.ref m, .ref m]) 2 rfl ?_
  refine WW.get rfl fX3_213 hM.1 (show _ = some (.int (nI c)) from rfl) ?_
  refine WW.run (pc' := 51) (lv' := [(3, .int (nI (4 * c))), (2, .int x), (1, .int y), (0, .ref m)]) (st' := [.int ((nI c) + (nI 1)), .ref m]) 2 rfl ?_
  rw [nI_add]
  refine WW.mputI 10 rfl pfX3_213 hM rfl rfl rfl rfl (fun w1 hM1 fr1 => ?_)
  have h9 := hM1
  rw [pI_10] at h9
  have f9 := fr1
  refine WW.run (pc' := 55) (lv' := [(3, .int (nI (4 * c))), (2, .int x), (1, .int y), (0, .ref m)]) (st' := [.ref m]) 1 rfl ?_
  refine WW.get rfl fX3_39 h9.1 (show _ = some (.ref (A 7)) from rfl) ?_
  refine WW.run (pc' := 60) (lv' := [(3, .int (nI (4 * c))), (2, .int x), (1, .int y), (0, .ref m)]) (st' := [.int x, .int (nI (4 * c)), .ref (A 7)]) 2 rfl ?_
  refine WW.mast 7 (4 * c) rfl h9 (by decide) rfl rfl (by show _ < 240; omega) (by decide) (fun w2 hM2 fr2 => ?_)
  have h8 := hM2
  rw [va_up_up] at h8
  exact kk _ h8 (f9.trans fr2)
theorem mWt_le {ic : Nat → Int32} {n : Nat} {s : Nat × Bool} (h : s.1 ≤ n) : (mWt ic n s).1.1 ≤ n := by
  unfold mWt
  split
  · exact mNu_le h
  · exact h
theorem mY_readCommand (hM : isM w m A (pI I n (p, false) c) (va_up F 7 g)) (h60 : n ≤ 60) (hp : p ≤ n) (hc : c < 59) : Sp l G MX3_readCommand 6 0 0 [.ref m] w (mRQ m A I F n p c g w) := by
  have hbh : ∀ {a b : Nat}, a < 128 → b < 128 → a ≠ b → kBh (F 6) n p = nI a → ¬ kBh (F 6) n p = nI b := fun ha hb h e q => nI_dec (by omega) (by omega) h (e.symm.trans q)
  refine Sp.of rfl (by decide +kernel) kX3_readCommand (wd_le rfl) ?_
  refine WW.run (pc' := 1) (lv' := [(0, .ref m)]) (st' := [.ref m]) 1 rfl ?_
  refine WW.get rfl fX3_192 hM.1 (show _ = some (.int (bI false)) from rfl) ?_
  refine WW.if_eq (tgt := 8) rfl rfl (fun _ => ?_) (fun hno => absurd rfl hno)
  refine WW.run (pc' := 10) (lv' := [(0, .ref m)]) (st' := [.int (nI 0), .ref m]) 2 rfl ?_
  refine WW.callV [.int (nI 0)] m [] rfl mX3_196 (mY_behind hM h60 (by omega) (i := 0) (by decide)) (wdRecv.obj hM.1 rfl) rfl rfl (wd_le rfl) (wd_le rfl) (wd_le rfl) (wd_le rfl) (fun o w' hq => ?_)
  obtain ⟨rfl, hw9⟩ := hq
  show WW _ _ _ 13 _ [.int (kBh (F 6) n p)] _
  rw [hw9]
  clear hw9 w'
  refine WW.run (pc' := 17) (lv' := [(1, .int (kBh (F 6) n p)), (0, .ref m)]) (st' := [.int (nI 108), .int (kBh (F 6) n p)]) 3 rfl ?_
  by_cases e1 : kBh (F 6) n p = nI 108
  · skip
    refine WW.icmp_ne (tgt := 35) rfl rfl (fun hno => absurd e1 hno) (fun _ => ?_)
    refine WW.run (pc' := 22) (lv' := [(1, .int (kBh (F 6) n p)), (0, .ref m)]) (st' := [.int (nI 1), .ref m]) 2 rfl ?_
    refine WW.callV [.int (nI 1)] m [] rfl mX3_196 (mY_behind hM h60 (by omega) (i := 1) (by decide)) (wdRecv.obj hM.1 rfl) rfl rfl (wd_le rfl) (wd_le rfl) (wd_le rfl) (wd_le rfl) (fun o w' hq => ?_)
    obtain ⟨rfl, hw9⟩ := hq
    show WW _ _ _ 25 _ [.int (kBh (F 6) n (p + 1))] _
    rw [hw9]
    clear hw9 w'
    refine WW.run (pc' := 27) (lv' := [(1, .int (kBh (F 6) n p)), (0, .ref m)]) (st' := [.int (nI 97), .int (kBh (F 6) n (p + 1))]) 1 rfl ?_
    by_cases e2 : kBh (F 6) n (p + 1) = nI 97
    · skip
      refine WW.icmp_ne (tgt := 35) rfl rfl (fun hno => absurd e2 hno) (fun _ => ?_)
      refine WW.run (pc' := 37) (lv' := [(2, .int (nI 97)), (1, .int (kBh (F 6) n p)), (0, .ref m)]) (st' := []) 3 rfl ?_
      refine mS_37 hM hc (fun u hMu fru => ?_)
      refine WW.run (pc' := 62) (lv' := [(3, .int (nI (4 * c))), (2, .int (nI 97)), (1, .int (kBh (F 6) n p)), (0, .ref m)]) (st' := [.int (nI 97)]) 1 rfl ?_
      refine WW.lookup (tgt := 120) (off := 58) rfl (by decide) ((lk_rc _).trans (by rw [if_pos rfl])) rfl ?_
      refine WW.run (pc' := 124) (lv' := [(3, .int (nI (4 * c))), (2, .int (nI 97)), (1, .int (kBh (F 6) n p)), (0, .ref m)]) (st' := [.int (nI 108), .int (kBh (F 6) n p), .ref m]) 3 rfl ?_
      refine WW.icmp_ne (tgt := 132) rfl rfl (fun hno => absurd e1 hno) (fun _ => ?_)
      refine WW.ldcS (i := 3) rfl rfl ⟨rfl, rfl⟩ ?_
      refine WW.run (pc' := 134) (lv' := [(3, .int (nI (4 * c))), (2, .int (nI 97)), (1, .int (kBh (F 6) n p)), (0, .ref m)]) (st' := [.ref (wdSa G 3), .ref m]) 1 rfl ?_
      refine WW.callV [.ref (wdSa G 3)] m [] rfl mX3_205 (mY_skip hMu h60 hp (i := 3) rfl (by decide) (by decide)) (wdRecv.obj hMu.1 rfl) rfl rfl (wd_le rfl) (wd_le rfl) (wd_le rfl) (wd_le rfl) (fun o u1 hq => ?_)
      obtain ⟨rfl, hM1, fr1⟩ := hq
      show WW _ _ _ 137 _ [] _
      have hM1 : isM u1 m A (pI I n (mSk (F 6) n (kB 1) (p, false)) (c + 1)) (va_up F 7 (va_up g (4 * c) _)) := hM1
      exact mT_137 hM1 h60 (mSk_le hp) hc (fun w' hM' fr' => ⟨rfl, _, _, hM', mNu_le (mSk_le hp), mRel1 ⟨by decide, by decide⟩ (fun _ => rfl) (mH97 e1 e2) (fun j hj => by rw [va_up_ne _ _ (by omega), va_up_ne _ _ (by omega)]) (by rw [va_up_ne _ _ (by omega), va_up_self]; exact rfl) (by rw [va_up_self]), (fru.trans fr1).trans fr'⟩)
    · skip
      refine WW.icmp_ne (tgt := 35) rfl rfl (fun _ => ?_) (fun hno => absurd hno e2)
      refine WW.run (pc' := 37) (lv' := [(2, .int (kBh (F 6) n p)), (1, .int (kBh (F 6) n p)), (0, .ref m)]) (st' := []) 2 rfl ?_
      refine mS_37 hM hc (fun u hMu fru => ?_)
      refine WW.run (pc' := 62) (lv' := [(3, .int (nI (4 * c))), (2, .int (kBh (F 6) n p)), (1, .int (kBh (F 6) n p)), (0, .ref m)]) (st' := [.int (kBh (F 6) n p)]) 1 rfl ?_
      refine WW.lookup (tgt := 175) (off := 113) rfl (by decide) ((lk_rc _).trans (by rw [e1]; decide +kernel)) rfl ?_
      refine WW.run (pc' := 176) (lv' := [(3, .int (nI (4 * c))), (2, .int (kBh (F 6) n p)), (1, .int (kBh (F 6) n p)), (0, .ref m)]) (st' := [.ref m]) 1 rfl ?_
      refine WW.ldcS (i := 7) rfl rfl ⟨rfl, rfl⟩ ?_
      refine WW.callV [.ref (wdSa G 7)] m [] rfl mX3_205 (mY_skip hMu h60 hp (i := 7) rfl (by decide) (by decide)) (wdRecv.obj hMu.1 rfl) rfl rfl (wd_le rfl) (wd_le rfl) (wd_le rfl) (wd_le rfl) (fun o u1 hq => ?_)
      obtain ⟨rfl, hM1, fr1⟩ := hq
      show WW _ _ _ 181 _ [] _
      have hM1 : isM u1 m A (pI I n (mSk (F 6) n (kB 6) (p, false)) (c + 1)) (va_up F 7 (va_up g (4 * c) _)) := hM1
      exact mT_181 hM1 h60 (mSk_le hp) hc (fun w' hM' fr' => ⟨rfl, _, _, hM', mNu_le (mNu_le (mNu_le (mSk_le hp))), mRel6 (mH108 e1 e2) (fun j hj => by rw [va_up_ne _ _ (by omega), va_up_ne _ _ (by omega), va_up_ne _ _ (by omega), va_up_ne _ _ (by omega)]) (by rw [va_up_ne _ _ (by omega), va_up_ne _ _ (by omega), va_up_ne _ _ (by omega), va_up_self]; exact e1) (by rw [va_up_ne _ _ (by omega), va_up_ne _ _ (by omega), va_up_self]) (by rw [va_up_ne _ _ (by omega), va_up_self]) (by rw [va_up_self]), (fru.trans fr1).trans fr'⟩)
  · skip
    refine WW.icmp_ne (tgt := 35) rfl rfl (fun _ => ?_) (fun hno => absurd hno e1)
    refine WW.run (pc' := 37) (lv' := [(2, .int (kBh (F 6) n p)), (1, .int (kBh (F 6) n p)), (0, .ref m)]) (st' := []) 2 rfl ?_
    by_cases e97 : kBh (F 6) n p = nI 97
    · skip
      refine mS_37 hM hc (fun u hMu fru => ?_)
      refine WW.run (pc' := 62) (lv' := [(3, .int (nI (4 * c))), (2, .int (kBh (F 6) n p)), (1, .int (kBh (F 6) n p)), (0, .ref m)]) (st' := [.int (kBh (F 6) n p)]) 1 rfl ?_
      refine WW.lookup (tgt := 120) (off := 58) rfl (by decide) ((lk_rc _).trans (by rw [e97]; decide +kernel)) rfl ?_
      refine WW.run (pc' := 124) (lv' := [(3, .int (nI (4 * c))), (2, .int (kBh (F 6) n p)), (1, .int (kBh (F 6) n p)), (0, .ref m)]) (st' := [.int (nI 108), .int (kBh (F 6) n p), .ref m]) 3 rfl ?_
      refine WW.icmp_ne (tgt := 132) rfl rfl (fun _ => ?_) (fun hno => absurd hno e1)
      refine WW.ldcS (i := 4) rfl rfl ⟨rfl, rfl⟩ ?_
      refine WW.callV [.ref (wdSa G 4)] m [] rfl mX3_205 (mY_skip hMu h60 hp (i := 4) rfl (by decide) (by decide)) (wdRecv.obj hMu.1 rfl) rfl rfl (wd_le rfl) (wd_le rfl) (wd_le rfl) (wd_le rfl) (fun o u1 hq => ?_)
      obtain ⟨rfl, hM1, fr1⟩ := hq
      show WW _ _ _ 137 _ [] _
      have hM1 : isM u1 m A (pI I n (mSk (F 6) n (kB 0) (p, false)) (c + 1)) (va_up F 7 (va_up g (4 * c) _)) := hM1
      exact mT_137 hM1 h60 (mSk_le hp) hc (fun w' hM' fr' => ⟨rfl, _, _, hM', mNu_le (mSk_le hp), mRel1 ⟨by decide, by decide⟩ (fun _ => rfl) (mHa e97) (fun j hj => by rw [va_up_ne _ _ (by omega), va_up_ne _ _ (by omega)]) (by rw [va_up_ne _ _ (by omega), va_up_self]; exact e97) (by rw [va_up_self]), (fru.trans fr1).trans fr'⟩)
    by_cases e100 : kBh (F 6) n p = nI 100
    · skip
      refine mS_37 hM hc (fun u hMu fru => ?_)
      refine WW.run (pc' := 62) (lv' := [(3, .int (nI (4 * c))), (2, .int (kBh (F 6) n p)), (1, .int (kBh (F 6) n p)), (0, .ref m)]) (st' := [.int (kBh (F 6) n p)]) 1 rfl ?_
      refine WW.lookup (tgt := 258) (off := 196) rfl (by decide) ((lk_rc _).trans (by rw [e100]; decide +kernel)) rfl ?_
      refine WW.run (pc' := 259) (lv' := [(3, .int (nI (4 * c))), (2, .int (kBh (F 6) n p)), (1, .int (kBh (F 6) n p)), (0, .ref m)]) (st' := [.ref m]) 1 rfl ?_
      refine WW.ldcS (i := 9) rfl rfl ⟨rfl, rfl⟩ ?_
      refine WW.callV [.ref (wdSa G 9)] m [] rfl mX3_205 (mY_skip hMu h60 hp (i := 9) rfl (by decide) (by decide)) (wdRecv.obj hMu.1 rfl) rfl rfl (wd_le rfl) (wd_le rfl) (wd_le rfl) (wd_le rfl) (fun o u1 hq => ?_)
      obtain ⟨rfl, hM1, fr1⟩ := hq
      show WW _ _ _ 264 _ [] _
      have hM1 : isM u1 m A (pI I n (mSk (F 6) n (kB 2) (p, false)) (c + 1)) (va_up F 7 (va_up g (4 * c) _)) := hM1
      exact mT_264 hM1 h60 (mSk_le hp) hc (fun w' hM' fr' => ⟨rfl, _, _, hM', mNu_le (mSk_le hp), mRel1 ⟨by decide, by decide⟩ (fun _ => rfl) (mH100 e100) (fun j hj => by rw [va_up_ne _ _ (by omega), va_up_ne _ _ (by omega)]) (by rw [va_up_ne _ _ (by omega), va_up_self]; exact e100) (by rw [va_up_self]), (fru.trans fr1).trans fr'⟩)
    by_cases e111 : kBh (F 6) n p = nI 111
    · skip
      refine mS_37 hM hc (fun u hMu fru => ?_)
      refine WW.run (pc' := 62) (lv' := [(3, .int (nI (4 * c))), (2, .int (kBh (F 6) n p)), (1, .int (kBh (F 6) n p)), (0, .ref m)]) (st' := [.int (kBh (F 6) n p)]) 1 rfl ?_
      refine WW.lookup (tgt := 153) (off := 91) rfl (by decide) ((lk_rc _).trans (by rw [e111]; decide +kernel)) rfl ?_
      refine WW.run (pc' := 154) (lv' := [(3, .int (nI (4 * c))), (2, .int (kBh (F 6) n p)), (1, .int (kBh (F 6) n p)), (0, .ref m)]) (st' := [.ref m]) 1 rfl ?_
      refine WW.ldcS (i := 6) rfl rfl ⟨rfl, rfl⟩ ?_
      refine WW.callV [.ref (wdSa G 6)] m [] rfl mX3_205 (mY_skip hMu h60 hp (i := 6) rfl (by decide) (by decide)) (wdRecv.obj hMu.1 rfl) rfl rfl (wd_le rfl) (wd_le rfl) (wd_le rfl) (wd_le rfl) (fun o u1 hq => ?_)
      obtain ⟨rfl, hM1, fr1⟩ := hq
      show WW _ _ _ 159 _ [] _
      have hM1 : isM u1 m A (pI I n (mSk (F 6) n (kB 3) (p, false)) (c + 1)) (va_up F 7 (va_up g (4 * c) _)) := hM1
      exact mT_159 hM1 h60 (mSk_le hp) hc (fun w' hM' fr' => ⟨rfl, _, _, hM', mNu_le (mSk_le hp), mRel1 ⟨by decide, by decide⟩ (fun _ => rfl) (mH111 e111) (fun j hj => by rw [va_up_ne _ _ (by omega), va_up_ne _ _ (by omega)]) (by rw [va_up_ne _ _ (by omega), va_up_self]; exact e111) (by rw [va_up_self]), (fru.trans fr1).trans fr'⟩)
    by_cases e114 : kBh (F 6) n p = nI 114
    · skip
      refine mS_37 hM hc (fun u hMu fru => ?_)
      refine WW.run (pc' := 62) (lv' := [(3, .int (nI (4 * c))), (2, .int (kBh (F 6) n p)), (1, .int (kBh (F 6) n p)), (0, .ref m)]) (st' := [.int (kBh (F 6) n p)]) 1 rfl ?_
      refine WW.lookup (tgt := 223) (off := 161) rfl (by decide) ((lk_rc _).trans (by rw [e114]; decide +kernel)) rfl ?_
      refine WW.run (pc' := 224) (lv' := [(3, .int (nI (4 * c))), (2, .int (kBh (F 6) n p)), (1, .int (kBh (F 6) n p)), (0, .ref m)]) (st' := [.ref m]) 1 rfl ?_
      refine WW.ldcS (i := 8) rfl rfl ⟨rfl, rfl⟩ ?_
      refine WW.callV [.ref (wdSa G 8)] m [] rfl mX3_205 (mY_skip hMu h60 hp (i := 8) rfl (by decide) (by decide)) (wdRecv.obj hMu.1 rfl) rfl rfl (wd_le rfl) (wd_le rfl) (wd_le rfl) (wd_le rfl) (fun o u1 hq => ?_)
      obtain ⟨rfl, hM1, fr1⟩ := hq
      show WW _ _ _ 229 _ [] _
      have hM1 : isM u1 m A (pI I n (mSk (F 6) n (kB 5) (p, false)) (c + 1)) (va_up F 7 (va_up g (4 * c) _)) := hM1
      exact mT_229 hM1 h60 (mSk_le hp) hc (fun w' hM' fr' => ⟨rfl, _, _, hM', mNu_le (mNu_le (mSk_le hp)), mRel5 (mH114 e114) (fun j hj => by rw [va_up_ne _ _ (by omega), va_up_ne _ _ (by omega), va_up_ne _ _ (by omega)]) (by rw [va_up_ne _ _ (by omega), va_up_ne _ _ (by omega), va_up_self]; exact e114) (by rw [va_up_ne _ _ (by omega), va_up_self]) (by rw [va_up_self]), (fru.trans fr1).trans fr'⟩)
    by_cases e119 : kBh (F 6) n p = nI 119
    · skip
      refine mS_37 hM hc (fun u hMu fru => ?_)
      refine WW.run (pc' := 62) (lv' := [(3, .int (nI (4 * c))), (2, .int (kBh (F 6) n p)), (1, .int (kBh (F 6) n p)), (0, .ref m)]) (st' := [.int (kBh (F 6) n p)]) 1 rfl ?_
      refine WW.lookup (tgt := 280) (off := 218) rfl (by decide) ((lk_rc _).trans (by rw [e119]; decide +kernel)) rfl ?_
      refine WW.run (pc' := 281) (lv' := [(3, .int (nI (4 * c))), (2, .int (kBh (F 6) n p)), (1, .int (kBh (F 6) n p)), (0, .ref m)]) (st' := [.ref m]) 1 rfl ?_
      refine WW.ldcS (i := 10) rfl rfl ⟨rfl, rfl⟩ ?_
      refine WW.callV [.ref (wdSa G 10)] m [] rfl mX3_205 (mY_skip hMu h60 hp (i := 10) rfl (by decide) (by decide)) (wdRecv.obj hMu.1 rfl) rfl rfl (wd_le rfl) (wd_le rfl) (wd_le rfl) (wd_le rfl) (fun o u1 hq => ?_)
      obtain ⟨rfl, hM1, fr1⟩ := hq
      show WW _ _ _ 286 _ [] _
      have hM1 : isM u1 m A (pI I n (mSk (F 6) n (kB 4) (p, false)) (c + 1)) (va_up F 7 (va_up g (4 * c) _)) := hM1
      exact mT_286 hM1 h60 (mSk_le hp) hc (fun w' hM' fr' => ⟨rfl, _, _, hM', mWt_le (mSk_le hp), mRel4 (mH119 e119) (fun j hj => by rw [va_up_ne _ _ (by omega), va_up_ne _ _ (by omega)]) (by rw [va_up_ne _ _ (by omega), va_up_self]; exact e119) (by rw [va_up_self]), (fru.trans fr1).trans fr'⟩)
    refine mS_37 hM hc (fun u hMu fru => ?_)
    refine WW.run (pc' := 62) (lv' := [(3, .int (nI (4 * c))), (2, .int (kBh (F 6) n p)), (1, .int (kBh (F 6) n p)), (0, .ref m)]) (st' := [.int (kBh (F 6) n p)]) 1 rfl ?_
    refine WW.lookup (tgt := 323) (off := 261) rfl (by decide) ((lk_rc _).trans (by rw [if_neg e97, if_neg e100, if_neg e1, if_neg e111, if_neg e114, if_neg e119])) rfl ?_
    refine WW.run (pc' := 324) (lv' := [(3, .int (nI (4 * c))), (2, .int (kBh (F 6) n p)), (1, .int (kBh (F 6) n p)), (0, .ref m)]) (st' := [.ref m]) 1 rfl ?_
    refine WW.ldcS (i := 4) rfl rfl ⟨rfl, rfl⟩ ?_
    refine WW.callV [.ref (wdSa G 4)] m [] rfl mX3_205 (mY_skip hMu h60 hp (i := 4) rfl (by decide) (by decide)) (wdRecv.obj hMu.1 rfl) rfl rfl (wd_le rfl) (wd_le rfl) (wd_le rfl) (wd_le rfl) (fun o u1 hq => ?_)
    obtain ⟨rfl, hM1, fr1⟩ := hq
    show WW _ _ _ 329 _ [] _
    have hM1 : isM u1 m A (pI I n (mSk (F 6) n (kB 0) (p, false)) (c + 1)) (va_up F 7 (va_up g (4 * c) (kBh (F 6) n p))) := hM1
    have hH := mH0 e100 e1 e111 e114 e119
    refine mT_329 hM1 h60 (mSk_le hp) hc (fun w' hM' fr' => ⟨rfl, _, _, hM', mSk_le hp, ?_, (fru.trans fr1).trans fr'⟩)
    by_cases e115 : kBh (F 6) n p = nI 115
    · exact mRel0 hH (fun j hj => by rw [va_up_ne _ _ (by omega)]) (by rw [va_up_self]; exact e115)
    · have a1 : kAt (F 6) n p (nI 115) (nI 115) = false := kAt_no (by decide) e115
      have s1 : mSk (F 6) n (kB 0) (p, false) = (p, true) := by rw [mSk_f, show kB 0 = [115, 104, 105, 112] from rfl, kSkip_cons, a1]; rfl
      have hk : kKw (F 6) n p = 0 := by
        rcases hH with ⟨hk, -⟩ | ⟨e, h1, h2⟩
        · exact hk
        · unfold kKw
          rw [if_neg (kPk_no (by decide) (by decide) e100), if_neg (kPk_no (by decide) (by decide) e1), if_neg (kPk_no (by decide) (by decide) e111), if_neg (kPk_no (by decide) (by decide) e114), if_neg (kPk_no (by decide) (by decide) e119)]
      have k1 : kCmd (F 6) n p = .inl p := by unfold kCmd; rw [hk, show kB 0 = [115, 104, 105, 112] from rfl, kSkip_cons, a1]; rfl
      exact ⟨fun j hj => by rw [va_up_ne _ _ (by omega)], by rw [k1]; exact s1⟩
end
