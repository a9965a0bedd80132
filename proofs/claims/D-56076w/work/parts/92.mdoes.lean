set_option maxRecDepth 100000
/-! ONE COMMAND IS CARRIED OUT -/
def kDi (k : Nat) : Nat := match k with
  | 0 => 16 | 1 => 11 | 2 => 14 | 3 => 11 | 4 => 15 | 5 => 13 | _ => 12
/-- the reasons' text: the signs of the exceptions, in their order -/
theorem kDi_at {k p ci : Nat} (hk : k ≤ 6) (h : (kEs k)[p - 1]? = some ci) : ∃ q : String × Nat × String × Int32 × Int32 × List Nat, wdSt[kDi k]? = some q ∧ p - 1 < q.2.2.2.2.2.length ∧ q.2.2.2.2.2.length < 8 ∧ q.2.2.2.2.2.getD (p - 1) 0 < 128 ∧ nI (q.2.2.2.2.2.getD (p - 1) 0) = rsN ci := by
  have key : ∀ k ≤ 6, ∀ j, j < (kEs k).length → ∀ q ∈ wdSt[kDi k]?, j < q.2.2.2.2.2.length ∧ q.2.2.2.2.2.length < 8 ∧ q.2.2.2.2.2.getD j 0 < 128 ∧ nI (q.2.2.2.2.2.getD j 0) = rsN ((kEs k).getD j 0) := by decide +kernel
  have hj : p - 1 < (kEs k).length := (List.getElem?_eq_some_iff.mp h).1
  have he : (kEs k).getD (p - 1) 0 = ci := by rw [List.getD_eq_getElem?_getD, h]; rfl
  have hq : ∃ q, wdSt[kDi k]? = some q := by
    match k, hk with
    | 0, _ => exact ⟨_, rfl⟩
    | 1, _ => exact ⟨_, rfl⟩
    | 2, _ => exact ⟨_, rfl⟩
    | 3, _ => exact ⟨_, rfl⟩
    | 4, _ => exact ⟨_, rfl⟩
    | 5, _ => exact ⟨_, rfl⟩
    | 6, _ => exact ⟨_, rfl⟩
    | k + 7, h => omega
  obtain ⟨q, hq⟩ := hq
  obtain ⟨a1, a2, a3, a4⟩ := key k hk (p - 1) hj q hq
  exact ⟨q, hq, a1, a2, a3, by rw [a4, he]⟩
section
variable {l : Launch} {G : wdG} {w : wdW} {m : Nat} {A : Nat → Nat} {I : Nat → Int32} {F : Nat → Nat → Int32} {f : Nat → Int32} {S : aS} {i : Nat} {u1 u2 u3 : Int32}
def mDQ (G : wdG) (m : Nat) (A : Nat → Nat) (I : Nat → Int32) (F : Nat → Nat → Int32) (k : Nat) (S : aS) (r : aR) (w : wdW) : wdO → wdW → Prop := fun o w' => o = .inl (some (.ref (wdSa G (kDi k)))) ∧ ∃ f', fS f' (rS r S) ∧ isM w' m A (rI r I) (va_up F 0 f') ∧ mFr m A w w'

theorem mY_does0 (hM : isM w m A I (va_up F 0 f)) (hS : fS f S) (hW : aWf S) (hi : i < 59) (h0 : F 7 (4 * i) = kC 0) (h1 : F 7 (4 * i + 1) = u1) (h2 : F 7 (4 * i + 2) = u2) (h3 : F 7 (4 * i + 3) = u3) : Sp l G MX3_does 6 0 0 [.ref m, .int (nI i)] w (mDQ G m A I F 0 S (aDo 0 (u1, u2, u3) S) w) := by
  rw [show aDo 0 (u1, u2, u3) S = S.doShip from aDo0 _ S]
  refine Sp.of rfl (by decide +kernel) kX3_does (wd_le rfl) ?_
  refine WW.run (pc' := 1) (lv' := [(0, .ref m), (1, .int (nI i))]) (st' := [.ref m]) 1 rfl ?_
  refine WW.get rfl fX3_39 hM.1 (show _ = some (.ref (A 7)) from rfl) ?_
  refine WW.run (pc' := 9) (lv' := [(0, .ref m), (1, .int (nI i))]) (st' := [.int (((nI 4) * (nI i)) + (nI 1)), .ref (A 7)]) 5 rfl ?_
  refine WW.mald 7 (4 * i + 1) rfl hM (by decide) rfl (wn_add (wn_mul rfl rfl) rfl) (by show _ < 240; omega) (by decide) (show (F 7) (4 * i + 1) = u1 from h1) ?_
  refine WW.run (pc' := 12) (lv' := [(2, .int u1), (0, .ref m), (1, .int (nI i))]) (st' := [.ref m]) 2 rfl ?_
  refine WW.get rfl fX3_39 hM.1 (show _ = some (.ref (A 7)) from rfl) ?_
  refine WW.run (pc' := 20) (lv' := [(2, .int u1), (0, .ref m), (1, .int (nI i))]) (st' := [.int (((nI 4) * (nI i)) + (nI 2)), .ref (A 7)]) 5 rfl ?_
  refine WW.mald 7 (4 * i + 2) rfl hM (by decide) rfl (wn_add (wn_mul rfl rfl) rfl) (by show _ < 240; omega) (by decide) (show (F 7) (4 * i + 2) = u2 from h2) ?_
  refine WW.run (pc' := 23) (lv' := [(3, .int u2), (2, .int u1), (0, .ref m), (1, .int (nI i))]) (st' := [.ref m]) 2 rfl ?_
  refine WW.get rfl fX3_39 hM.1 (show _ = some (.ref (A 7)) from rfl) ?_
  refine WW.run (pc' := 29) (lv' := [(3, .int u2), (2, .int u1), (0, .ref m), (1, .int (nI i))]) (st' := [.int ((nI 4) * (nI i)), .ref (A 7)]) 3 rfl ?_
  refine WW.mald 7 (4 * i) rfl hM (by decide) rfl (wn_mul rfl rfl) (by show _ < 240; omega) (by decide) (show (F 7) (4 * i) = nI 115 from h0) ?_
  refine WW.lookup (tgt := 160) (off := 130) rfl (by decide) (by decide +kernel) rfl ?_
  refine WW.run (pc' := 161) (lv' := [(3, .int u2), (2, .int u1), (0, .ref m), (1, .int (nI i))]) (st' := [.ref m]) 1 rfl ?_
  refine WW.callV [] m [] rfl mX3_76 (sS_doAddShip hM hS hW) (wdRecv.obj hM.1 rfl) rfl rfl (wd_le rfl) (wd_le rfl) (wd_le rfl) (wd_le rfl) (fun o w1 hq => ?_)
  obtain ⟨f', rfl, hS', hM', fr'⟩ := hq
  show WW _ _ _ 164 _ [.int (rV (S.doShip))] _
  refine WW.run (pc' := 166) (lv' := [(4, .int (rV (S.doShip))), (3, .int u2), (2, .int u1), (0, .ref m), (1, .int (nI i))]) (st' := []) 1 rfl ?_
  refine WW.ldcS (i := 16) rfl rfl ⟨rfl, rfl⟩ ?_
  exact WW.aret rfl rfl (Or.inl ⟨_, rfl⟩) (Or.inr ⟨_, rfl⟩) ⟨rfl, f', hS', hM', fr'⟩
theorem mY_does1 (hM : isM w m A I (va_up F 0 f)) (hS : fS f S) (hW : aWf S) (hi : i < 59) (h0 : F 7 (4 * i) = kC 1) (h1 : F 7 (4 * i + 1) = u1) (h2 : F 7 (4 * i + 2) = u2) (h3 : F 7 (4 * i + 3) = u3) : Sp l G MX3_does 6 0 0 [.ref m, .int (nI i)] w (mDQ G m A I F 1 S (aDo 1 (u1, u2, u3) S) w) := by
  rw [show aDo 1 (u1, u2, u3) S = S.doLamp u1 from aDo1 _ S]
  refine Sp.of rfl (by decide +kernel) kX3_does (wd_le rfl) ?_
  refine WW.run (pc' := 1) (lv' := [(0, .ref m), (1, .int (nI i))]) (st' := [.ref m]) 1 rfl ?_
  refine WW.get rfl fX3_39 hM.1 (show _ = some (.ref (A 7)) from rfl) ?_
  refine WW.run (pc' := 9) (lv' := [(0, .ref m), (1, .int (nI i))]) (st' := [.int (((nI 4) * (nI i)) + (nI 1)), .ref (A 7)]) 5 rfl ?_
  refine WW.mald 7 (4 * i + 1) rfl hM (by decide) rfl (wn_add (wn_mul rfl rfl) rfl) (by show _ < 240; omega) (by decide) (show (F 7) (4 * i + 1) = u1 from h1) ?_
  refine WW.run (pc' := 12) (lv' := [(2, .int u1), (0, .ref m), (1, .int (nI i))]) (st' := [.ref m]) 2 rfl ?_
  refine WW.get rfl fX3_39 hM.1 (show _ = some (.ref (A 7)) from rfl) ?_
  refine WW.run (pc' := 20) (lv' := [(2, .int u1), (0, .ref m), (1, .int (nI i))]) (st' := [.int (((nI 4) * (nI i)) + (nI 2)), .ref (A 7)]) 5 rfl ?_
  refine WW.mald 7 (4 * i + 2) rfl hM (by decide) rfl (wn_add (wn_mul rfl rfl) rfl) (by show _ < 240; omega) (by decide) (show (F 7) (4 * i + 2) = u2 from h2) ?_
  refine WW.run (pc' := 23) (lv' := [(3, .int u2), (2, .int u1), (0, .ref m), (1, .int (nI i))]) (st' := [.ref m]) 2 rfl ?_
  refine WW.get rfl fX3_39 hM.1 (show _ = some (.ref (A 7)) from rfl) ?_
  refine WW.run (pc' := 29) (lv' := [(3, .int u2), (2, .int u1), (0, .ref m), (1, .int (nI i))]) (st' := [.int ((nI 4) * (nI i)), .ref (A 7)]) 3 rfl ?_
  refine WW.mald 7 (4 * i) rfl hM (by decide) rfl (wn_mul rfl rfl) (by show _ < 240; omega) (by decide) (show (F 7) (4 * i) = nI 97 from h0) ?_
  refine WW.lookup (tgt := 88) (off := 58) rfl (by decide) (by decide +kernel) rfl ?_
  refine WW.run (pc' := 90) (lv' := [(3, .int u2), (2, .int u1), (0, .ref m), (1, .int (nI i))]) (st' := [.int u1, .ref m]) 2 rfl ?_
  refine WW.callV [.int u1] m [] rfl mX3_83 (sS_doAddLamp hM hS hW u1) (wdRecv.obj hM.1 rfl) rfl rfl (wd_le rfl) (wd_le rfl) (wd_le rfl) (wd_le rfl) (fun o w1 hq => ?_)
  obtain ⟨f', rfl, hS', hM', fr'⟩ := hq
  show WW _ _ _ 93 _ [.int (rV (S.doLamp u1))] _
  refine WW.run (pc' := 95) (lv' := [(4, .int (rV (S.doLamp u1))), (3, .int u2), (2, .int u1), (0, .ref m), (1, .int (nI i))]) (st' := []) 1 rfl ?_
  refine WW.ldcS (i := 11) rfl rfl ⟨rfl, rfl⟩ ?_
  exact WW.aret rfl rfl (Or.inl ⟨_, rfl⟩) (Or.inr ⟨_, rfl⟩) ⟨rfl, f', hS', hM', fr'⟩
theorem mY_does2 (hM : isM w m A I (va_up F 0 f)) (hS : fS f S) (hW : aWf S) (hi : i < 59) (h0 : F 7 (4 * i) = kC 2) (h1 : F 7 (4 * i + 1) = u1) (h2 : F 7 (4 * i + 2) = u2) (h3 : F 7 (4 * i + 3) = u3) : Sp l G MX3_does 6 0 0 [.ref m, .int (nI i)] w (mDQ G m A I F 2 S (aDo 2 (u1, u2, u3) S) w) := by
  rw [show aDo 2 (u1, u2, u3) S = S.doDrop u1 from aDo2 _ S]
  refine Sp.of rfl (by decide +kernel) kX3_does (wd_le rfl) ?_
  refine WW.run (pc' := 1) (lv' := [(0, .ref m), (1, .int (nI i))]) (st' := [.ref m]) 1 rfl ?_
  refine WW.get rfl fX3_39 hM.1 (show _ = some (.ref (A 7)) from rfl) ?_
  refine WW.run (pc' := 9) (lv' := [(0, .ref m), (1, .int (nI i))]) (st' := [.int (((nI 4) * (nI i)) + (nI 1)), .ref (A 7)]) 5 rfl ?_
  refine WW.mald 7 (4 * i + 1) rfl hM (by decide) rfl (wn_add (wn_mul rfl rfl) rfl) (by show _ < 240; omega) (by decide) (show (F 7) (4 * i + 1) = u1 from h1) ?_
  refine WW.run (pc' := 12) (lv' := [(2, .int u1), (0, .ref m), (1, .int (nI i))]) (st' := [.ref m]) 2 rfl ?_
  refine WW.get rfl fX3_39 hM.1 (show _ = some (.ref (A 7)) from rfl) ?_
  refine WW.run (pc' := 20) (lv' := [(2, .int u1), (0, .ref m), (1, .int (nI i))]) (st' := [.int (((nI 4) * (nI i)) + (nI 2)), .ref (A 7)]) 5 rfl ?_
  refine WW.mald 7 (4 * i + 2) rfl hM (by decide) rfl (wn_add (wn_mul rfl rfl) rfl) (by show _ < 240; omega) (by decide) (show (F 7) (4 * i + 2) = u2 from h2) ?_
  refine WW.run (pc' := 23) (lv' := [(3, .int u2), (2, .int u1), (0, .ref m), (1, .int (nI i))]) (st' := [.ref m]) 2 rfl ?_
  refine WW.get rfl fX3_39 hM.1 (show _ = some (.ref (A 7)) from rfl) ?_
  refine WW.run (pc' := 29) (lv' := [(3, .int u2), (2, .int u1), (0, .ref m), (1, .int (nI i))]) (st' := [.int ((nI 4) * (nI i)), .ref (A 7)]) 3 rfl ?_
  refine WW.mald 7 (4 * i) rfl hM (by decide) rfl (wn_mul rfl rfl) (by show _ < 240; omega) (by decide) (show (F 7) (4 * i) = nI 100 from h0) ?_
  refine WW.lookup (tgt := 140) (off := 110) rfl (by decide) (by decide +kernel) rfl ?_
  refine WW.run (pc' := 142) (lv' := [(3, .int u2), (2, .int u1), (0, .ref m), (1, .int (nI i))]) (st' := [.int u1, .ref m]) 2 rfl ?_
  refine WW.callV [.int u1] m [] rfl mX3_117 (sS_doDrop hM hS hW u1) (wdRecv.obj hM.1 rfl) rfl rfl (wd_le rfl) (wd_le rfl) (wd_le rfl) (wd_le rfl) (fun o w1 hq => ?_)
  obtain ⟨f', rfl, hS', hM', fr'⟩ := hq
  show WW _ _ _ 145 _ [.int (rV (S.doDrop u1))] _
  refine WW.run (pc' := 147) (lv' := [(4, .int (rV (S.doDrop u1))), (3, .int u2), (2, .int u1), (0, .ref m), (1, .int (nI i))]) (st' := []) 1 rfl ?_
  refine WW.ldcS (i := 14) rfl rfl ⟨rfl, rfl⟩ ?_
  exact WW.aret rfl rfl (Or.inl ⟨_, rfl⟩) (Or.inr ⟨_, rfl⟩) ⟨rfl, f', hS', hM', fr'⟩
theorem mY_does3 (hM : isM w m A I (va_up F 0 f)) (hS : fS f S) (hW : aWf S) (hi : i < 59) (h0 : F 7 (4 * i) = kC 3) (h1 : F 7 (4 * i + 1) = u1) (h2 : F 7 (4 * i + 2) = u2) (h3 : F 7 (4 * i + 3) = u3) : Sp l G MX3_does 6 0 0 [.ref m, .int (nI i)] w (mDQ G m A I F 3 S (aDo 3 (u1, u2, u3) S) w) := by
  rw [show aDo 3 (u1, u2, u3) S = S.doOil u1 from aDo3 _ S]
  refine Sp.of rfl (by decide +kernel) kX3_does (wd_le rfl) ?_
  refine WW.run (pc' := 1) (lv' := [(0, .ref m), (1, .int (nI i))]) (st' := [.ref m]) 1 rfl ?_
  refine WW.get rfl fX3_39 hM.1 (show _ = some (.ref (A 7)) from rfl) ?_
  refine WW.run (pc' := 9) (lv' := [(0, .ref m), (1, .int (nI i))]) (st' := [.int (((nI 4) * (nI i)) + (nI 1)), .ref (A 7)]) 5 rfl ?_
  refine WW.mald 7 (4 * i + 1) rfl hM (by decide) rfl (wn_add (wn_mul rfl rfl) rfl) (by show _ < 240; omega) (by decide) (show (F 7) (4 * i + 1) = u1 from h1) ?_
  refine WW.run (pc' := 12) (lv' := [(2, .int u1), (0, .ref m), (1, .int (nI i))]) (st' := [.ref m]) 2 rfl ?_
  refine WW.get rfl fX3_39 hM.1 (show _ = some (.ref (A 7)) from rfl) ?_
  refine WW.run (pc' := 20) (lv' := [(2, .int u1), (0, .ref m), (1, .int (nI i))]) (st' := [.int (((nI 4) * (nI i)) + (nI 2)), .ref (A 7)]) 5 rfl ?_
  refine WW.mald 7 (4 * i + 2) rfl hM (by decide) rfl (wn_add (wn_mul rfl rfl) rfl) (by show _ < 240; omega) (by decide) (show (F 7) (4 * i + 2) = u2 from h2) ?_
  refine WW.run (pc' := 23) (lv' := [(3, .int u2), (2, .int u1), (0, .ref m), (1, .int (nI i))]) (st' := [.ref m]) 2 rfl ?_
  refine WW.get rfl fX3_39 hM.1 (show _ = some (.ref (A 7)) from rfl) ?_
  refine WW.run (pc' := 29) (lv' := [(3, .int u2), (2, .int u1), (0, .ref m), (1, .int (nI i))]) (st' := [.int ((nI 4) * (nI i)), .ref (A 7)]) 3 rfl ?_
  refine WW.mald 7 (4 * i) rfl hM (by decide) rfl (wn_mul rfl rfl) (by show _ < 240; omega) (by decide) (show (F 7) (4 * i) = nI 111 from h0) ?_
  refine WW.lookup (tgt := 98) (off := 68) rfl (by decide) (by decide +kernel) rfl ?_
  refine WW.run (pc' := 100) (lv' := [(3, .int u2), (2, .int u1), (0, .ref m), (1, .int (nI i))]) (st' := [.int u1, .ref m]) 2 rfl ?_
  refine WW.callV [.int u1] m [] rfl mX3_86 (sS_doAddOil hM hS u1) (wdRecv.obj hM.1 rfl) rfl rfl (wd_le rfl) (wd_le rfl) (wd_le rfl) (wd_le rfl) (fun o w1 hq => ?_)
  obtain ⟨f', rfl, hS', hM', fr'⟩ := hq
  show WW _ _ _ 103 _ [.int (rV (S.doOil u1))] _
  refine WW.run (pc' := 105) (lv' := [(4, .int (rV (S.doOil u1))), (3, .int u2), (2, .int u1), (0, .ref m), (1, .int (nI i))]) (st' := []) 1 rfl ?_
  refine WW.ldcS (i := 11) rfl rfl ⟨rfl, rfl⟩ ?_
  exact WW.aret rfl rfl (Or.inl ⟨_, rfl⟩) (Or.inr ⟨_, rfl⟩) ⟨rfl, f', hS', hM', fr'⟩
theorem mY_does4 (hM : isM w m A I (va_up F 0 f)) (hS : fS f S) (hW : aWf S) (hi : i < 59) (h0 : F 7 (4 * i) = kC 4) (h1 : F 7 (4 * i + 1) = u1) (h2 : F 7 (4 * i + 2) = u2) (h3 : F 7 (4 * i + 3) = u3) : Sp l G MX3_does 6 0 0 [.ref m, .int (nI i)] w (mDQ G m A I F 4 S (aDo 4 (u1, u2, u3) S) w) := by
  rw [show aDo 4 (u1, u2, u3) S = S.doWait u1 from aDo4 _ S]
  refine Sp.of rfl (by decide +kernel) kX3_does (wd_le rfl) ?_
  refine WW.run (pc' := 1) (lv' := [(0, .ref m), (1, .int (nI i))]) (st' := [.ref m]) 1 rfl ?_
  refine WW.get rfl fX3_39 hM.1 (show _ = some (.ref (A 7)) from rfl) ?_
  refine WW.run (pc' := 9) (lv' := [(0, .ref m), (1, .int (nI i))]) (st' := [.int (((nI 4) * (nI i)) + (nI 1)), .ref (A 7)]) 5 rfl ?_
  refine WW.mald 7 (4 * i + 1) rfl hM (by decide) rfl (wn_add (wn_mul rfl rfl) rfl) (by show _ < 240; omega) (by decide) (show (F 7) (4 * i + 1) = u1 from h1) ?_
  refine WW.run (pc' := 12) (lv' := [(2, .int u1), (0, .ref m), (1, .int (nI i))]) (st' := [.ref m]) 2 rfl ?_
  refine WW.get rfl fX3_39 hM.1 (show _ = some (.ref (A 7)) from rfl) ?_
  refine WW.run (pc' := 20) (lv' := [(2, .int u1), (0, .ref m), (1, .int (nI i))]) (st' := [.int (((nI 4) * (nI i)) + (nI 2)), .ref (A 7)]) 5 rfl ?_
  refine WW.mald 7 (4 * i + 2) rfl hM (by decide) rfl (wn_add (wn_mul rfl rfl) rfl) (by show _ < 240; omega) (by decide) (show (F 7) (4 * i + 2) = u2 from h2) ?_
  refine WW.run (pc' := 23) (lv' := [(3, .int u2), (2, .int u1), (0, .ref m), (1, .int (nI i))]) (st' := [.ref m]) 2 rfl ?_
  refine WW.get rfl fX3_39 hM.1 (show _ = some (.ref (A 7)) from rfl) ?_
  refine WW.run (pc' := 29) (lv' := [(3, .int u2), (2, .int u1), (0, .ref m), (1, .int (nI i))]) (st' := [.int ((nI 4) * (nI i)), .ref (A 7)]) 3 rfl ?_
  refine WW.mald 7 (4 * i) rfl hM (by decide) rfl (wn_mul rfl rfl) (by show _ < 240; omega) (by decide) (show (F 7) (4 * i) = nI 119 from h0) ?_
  refine WW.lookup (tgt := 150) (off := 120) rfl (by decide) (by decide +kernel) rfl ?_
  refine WW.run (pc' := 152) (lv' := [(3, .int u2), (2, .int u1), (0, .ref m), (1, .int (nI i))]) (st' := [.int u1, .ref m]) 2 rfl ?_
  refine WW.callV [.int u1] m [] rfl mX3_141 (sS_doWait hM hS hW u1) (wdRecv.obj hM.1 rfl) rfl rfl (wd_le rfl) (wd_le rfl) (wd_le rfl) (wd_le rfl) (fun o w1 hq => ?_)
  obtain ⟨f', rfl, hS', hM', fr'⟩ := hq
  show WW _ _ _ 155 _ [.int (rV (S.doWait u1))] _
  refine WW.run (pc' := 157) (lv' := [(4, .int (rV (S.doWait u1))), (3, .int u2), (2, .int u1), (0, .ref m), (1, .int (nI i))]) (st' := []) 1 rfl ?_
  refine WW.ldcS (i := 15) rfl rfl ⟨rfl, rfl⟩ ?_
  exact WW.aret rfl rfl (Or.inl ⟨_, rfl⟩) (Or.inr ⟨_, rfl⟩) ⟨rfl, f', hS', hM', fr'⟩
theorem mY_does5 (hM : isM w m A I (va_up F 0 f)) (hS : fS f S) (hW : aWf S) (hi : i < 59) (h0 : F 7 (4 * i) = kC 5) (h1 : F 7 (4 * i + 1) = u1) (h2 : F 7 (4 * i + 2) = u2) (h3 : F 7 (4 * i + 3) = u3) : Sp l G MX3_does 6 0 0 [.ref m, .int (nI i)] w (mDQ G m A I F 5 S (aDo 5 (u1, u2, u3) S) w) := by
  rw [show aDo 5 (u1, u2, u3) S = S.doReq u1 u2 from aDo5 _ S]
  refine Sp.of rfl (by decide +kernel) kX3_does (wd_le rfl) ?_
  refine WW.run (pc' := 1) (lv' := [(0, .ref m), (1, .int (nI i))]) (st' := [.ref m]) 1 rfl ?_
  refine WW.get rfl fX3_39 hM.1 (show _ = some (.ref (A 7)) from rfl) ?_
  refine WW.run (pc' := 9) (lv' := [(0, .ref m), (1, .int (nI i))]) (st' := [.int (((nI 4) * (nI i)) + (nI 1)), .ref (A 7)]) 5 rfl ?_
  refine WW.mald 7 (4 * i + 1) rfl hM (by decide) rfl (wn_add (wn_mul rfl rfl) rfl) (by show _ < 240; omega) (by decide) (show (F 7) (4 * i + 1) = u1 from h1) ?_
  refine WW.run (pc' := 12) (lv' := [(2, .int u1), (0, .ref m), (1, .int (nI i))]) (st' := [.ref m]) 2 rfl ?_
  refine WW.get rfl fX3_39 hM.1 (show _ = some (.ref (A 7)) from rfl) ?_
  refine WW.run (pc' := 20) (lv' := [(2, .int u1), (0, .ref m), (1, .int (nI i))]) (st' := [.int (((nI 4) * (nI i)) + (nI 2)), .ref (A 7)]) 5 rfl ?_
  refine WW.mald 7 (4 * i + 2) rfl hM (by decide) rfl (wn_add (wn_mul rfl rfl) rfl) (by show _ < 240; omega) (by decide) (show (F 7) (4 * i + 2) = u2 from h2) ?_
  refine WW.run (pc' := 23) (lv' := [(3, .int u2), (2, .int u1), (0, .ref m), (1, .int (nI i))]) (st' := [.ref m]) 2 rfl ?_
  refine WW.get rfl fX3_39 hM.1 (show _ = some (.ref (A 7)) from rfl) ?_
  refine WW.run (pc' := 29) (lv' := [(3, .int u2), (2, .int u1), (0, .ref m), (1, .int (nI i))]) (st' := [.int ((nI 4) * (nI i)), .ref (A 7)]) 3 rfl ?_
  refine WW.mald 7 (4 * i) rfl hM (by decide) rfl (wn_mul rfl rfl) (by show _ < 240; omega) (by decide) (show (F 7) (4 * i) = nI 114 from h0) ?_
  refine WW.lookup (tgt := 129) (off := 99) rfl (by decide) (by decide +kernel) rfl ?_
  refine WW.run (pc' := 132) (lv' := [(3, .int u2), (2, .int u1), (0, .ref m), (1, .int (nI i))]) (st' := [.int u2, .int u1, .ref m]) 3 rfl ?_
  refine WW.callV [.int u1, .int u2] m [] rfl mX3_110 (sS_doReq hM hS hW u1 u2) (wdRecv.obj hM.1 rfl) rfl rfl (wd_le rfl) (wd_le rfl) (wd_le rfl) (wd_le rfl) (fun o w1 hq => ?_)
  obtain ⟨f', rfl, hS', hM', fr'⟩ := hq
  show WW _ _ _ 135 _ [.int (rV (S.doReq u1 u2))] _
  refine WW.run (pc' := 137) (lv' := [(4, .int (rV (S.doReq u1 u2))), (3, .int u2), (2, .int u1), (0, .ref m), (1, .int (nI i))]) (st' := []) 1 rfl ?_
  refine WW.ldcS (i := 13) rfl rfl ⟨rfl, rfl⟩ ?_
  exact WW.aret rfl rfl (Or.inl ⟨_, rfl⟩) (Or.inr ⟨_, rfl⟩) ⟨rfl, f', hS', hM', fr'⟩
theorem mY_does6 (hM : isM w m A I (va_up F 0 f)) (hS : fS f S) (hW : aWf S) (hi : i < 59) (h0 : F 7 (4 * i) = kC 6) (h1 : F 7 (4 * i + 1) = u1) (h2 : F 7 (4 * i + 2) = u2) (h3 : F 7 (4 * i + 3) = u3) : Sp l G MX3_does 6 0 0 [.ref m, .int (nI i)] w (mDQ G m A I F 6 S (aDo 6 (u1, u2, u3) S) w) := by
  rw [show aDo 6 (u1, u2, u3) S = S.doLease u1 u2 u3 from aDo6 0 _ S]
  refine Sp.of rfl (by decide +kernel) kX3_does (wd_le rfl) ?_
  refine WW.run (pc' := 1) (lv' := [(0, .ref m), (1, .int (nI i))]) (st' := [.ref m]) 1 rfl ?_
  refine WW.get rfl fX3_39 hM.1 (show _ = some (.ref (A 7)) from rfl) ?_
  refine WW.run (pc' := 9) (lv' := [(0, .ref m), (1, .int (nI i))]) (st' := [.int (((nI 4) * (nI i)) + (nI 1)), .ref (A 7)]) 5 rfl ?_
  refine WW.mald 7 (4 * i + 1) rfl hM (by decide) rfl (wn_add (wn_mul rfl rfl) rfl) (by show _ < 240; omega) (by decide) (show (F 7) (4 * i + 1) = u1 from h1) ?_
  refine WW.run (pc' := 12) (lv' := [(2, .int u1), (0, .ref m), (1, .int (nI i))]) (st' := [.ref m]) 2 rfl ?_
  refine WW.get rfl fX3_39 hM.1 (show _ = some (.ref (A 7)) from rfl) ?_
  refine WW.run (pc' := 20) (lv' := [(2, .int u1), (0, .ref m), (1, .int (nI i))]) (st' := [.int (((nI 4) * (nI i)) + (nI 2)), .ref (A 7)]) 5 rfl ?_
  refine WW.mald 7 (4 * i + 2) rfl hM (by decide) rfl (wn_add (wn_mul rfl rfl) rfl) (by show _ < 240; omega) (by decide) (show (F 7) (4 * i + 2) = u2 from h2) ?_
  refine WW.run (pc' := 23) (lv' := [(3, .int u2), (2, .int u1), (0, .ref m), (1, .int (nI i))]) (st' := [.ref m]) 2 rfl ?_
  refine WW.get rfl fX3_39 hM.1 (show _ = some (.ref (A 7)) from rfl) ?_
  refine WW.run (pc' := 29) (lv' := [(3, .int u2), (2, .int u1), (0, .ref m), (1, .int (nI i))]) (st' := [.int ((nI 4) * (nI i)), .ref (A 7)]) 3 rfl ?_
  refine WW.mald 7 (4 * i) rfl hM (by decide) rfl (wn_mul rfl rfl) (by show _ < 240; omega) (by decide) (show (F 7) (4 * i) = nI 108 from h0) ?_
  refine WW.lookup (tgt := 108) (off := 78) rfl (by decide) (by decide +kernel) rfl ?_
  refine WW.run (pc' := 112) (lv' := [(3, .int u2), (2, .int u1), (0, .ref m), (1, .int (nI i))]) (st' := [.ref m, .int u2, .int u1, .ref m]) 4 rfl ?_
  refine WW.get rfl fX3_39 hM.1 (show _ = some (.ref (A 7)) from rfl) ?_
  refine WW.run (pc' := 120) (lv' := [(3, .int u2), (2, .int u1), (0, .ref m), (1, .int (nI i))]) (st' := [.int (((nI 4) * (nI i)) + (nI 3)), .ref (A 7), .int u2, .int u1, .ref m]) 5 rfl ?_
  refine WW.mald 7 (4 * i + 3) rfl hM (by decide) rfl (wn_add (wn_mul rfl rfl) rfl) (by show _ < 240; omega) (by decide) (show (F 7) (4 * i + 3) = u3 from h3) ?_
  refine WW.callV [.int u1, .int u2, .int u3] m [] rfl mX3_106 (sS_doLease hM hS hW u1 u2 u3) (wdRecv.obj hM.1 rfl) rfl rfl (wd_le rfl) (wd_le rfl) (wd_le rfl) (wd_le rfl) (fun o w1 hq => ?_)
  obtain ⟨f', rfl, hS', hM', fr'⟩ := hq
  show WW _ _ _ 124 _ [.int (rV (S.doLease u1 u2 u3))] _
  refine WW.run (pc' := 126) (lv' := [(4, .int (rV (S.doLease u1 u2 u3))), (3, .int u2), (2, .int u1), (0, .ref m), (1, .int (nI i))]) (st' := []) 1 rfl ?_
  refine WW.ldcS (i := 12) rfl rfl ⟨rfl, rfl⟩ ?_
  exact WW.aret rfl rfl (Or.inl ⟨_, rfl⟩) (Or.inr ⟨_, rfl⟩) ⟨rfl, f', hS', hM', fr'⟩
theorem mY_does {k : Nat} (hk : k ≤ 6) {v : kV} (hM : isM w m A I (va_up F 0 f)) (hS : fS f S) (hW : aWf S) (hi : i < 59) (h0 : F 7 (4 * i) = kC k) (hv : kEq k (F 7 (4 * i + 1), F 7 (4 * i + 2), F 7 (4 * i + 3)) v) : Sp l G MX3_does 6 0 0 [.ref m, .int (nI i)] w (mDQ G m A I F k S (aDo k v S) w) := by
  rw [← hv.do S]
  match k, hk, h0 with
  | 0, _, h0 => exact mY_does0 hM hS hW hi h0 rfl rfl rfl
  | 1, _, h0 => exact mY_does1 hM hS hW hi h0 rfl rfl rfl
  | 2, _, h0 => exact mY_does2 hM hS hW hi h0 rfl rfl rfl
  | 3, _, h0 => exact mY_does3 hM hS hW hi h0 rfl rfl rfl
  | 4, _, h0 => exact mY_does4 hM hS hW hi h0 rfl rfl rfl
  | 5, _, h0 => exact mY_does5 hM hS hW hi h0 rfl rfl rfl
  | 6, _, h0 => exact mY_does6 hM hS hW hi h0 rfl rfl rfl
  | k + 7, h, _ => omega
end
