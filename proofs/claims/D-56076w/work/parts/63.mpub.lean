set_option maxRecDepth 100000
/-! THE MODEL's PUBLIC COMMANDS -/
section
variable {l : Launch} {G : wdG} {w : wdW} {m : Nat} {A : Nat → Nat} {I : Nat → Int32} {F : Nat → Nat → Int32} {J : Nat → Int32} {cur S : aS} {hn : Nat} {hist : Nat → aS} {sv : Option aS} {n : Nat} {ic : Nat → Int32} {on : Nat} {oc : Nat → Int32} {t : Int32}
/-- something was thrown: what was before comes back -/
theorem sM_endsF (hM : isM w m A I F) (hB : fS (F 1) cur) (hW : aWf cur) (hR : mR I F J S hn hist sv n ic on oc) (ht : ¬ I 2 ≤ 0) (v : Int32) : Sp l G MX3_ends 2 0 0 [.ref m, .int v] w (fun o w' => o = .inl (some (.int (nI 0))) ∧ isMm w' m A (I 2) J cur hn hist sv n ic on oc ∧ mFr m A w w') := by
  refine Sp.of rfl (by decide +kernel) kX3_ends (wd_le rfl) ?_
  refine WW.run (pc' := 1) (lv' := [(0, .ref m), (1, .int v)]) (st' := [.ref m]) 1 rfl ?_
  refine WW.get rfl fX3_42 hM.1 (show _ = some (.int (I 2)) from rfl) ?_
  refine WW.if_le (tgt := 24) rfl rfl (fun hno => absurd hno ht) (fun _ => ?_)
  refine WW.run (pc' := 8) (lv' := [(0, .ref m), (1, .int v)]) (st' := [.ref m]) 1 rfl ?_
  refine WW.get rfl fX3_13 hM.1 (show _ = some (.ref (A 1)) from rfl) ?_
  refine WW.run (pc' := 13) (lv' := [(0, .ref m), (1, .int v)]) (st' := [.ref m, .int (nI 0), .ref (A 1)]) 2 rfl ?_
  refine WW.get rfl fX3_9 hM.1 (show _ = some (.ref (A 0)) from rfl) ?_
  refine WW.run (pc' := 19) (lv' := [(0, .ref m), (1, .int v)]) (st' := [.int (nI 81), .int (nI 0), .ref (A 0), .int (nI 0), .ref (A 1)]) 2 rfl ?_
  refine WW.mcopy 1 0 0 0 81 rfl mX3_45 hM (by decide) (by decide) rfl rfl rfl rfl rfl (by decide) (by decide) (wd_le rfl) (wd_le rfl) (fun w1 hM1 fr1 => ?_)
  refine WW.run (pc' := 23) (lv' := [(0, .ref m), (1, .int v)]) (st' := [.int (nI 0)]) 1 rfl ?_
  exact WW.iret rfl rfl rfl ⟨rfl, ⟨_, _, hM1, rfl, hR.to rfl rfl rfl rfl rfl rfl rfl (hB.cpy0 hW _) rfl rfl rfl rfl⟩, fr1⟩
/-- it is recorded -/
theorem sM_endsT (hM : isM w m A I F) (hB : fS (F 1) cur) (hW : aWf cur) (hWh : ∀ k, k < hn → aWf (hist k)) (hR : mR I F J S hn hist sv n ic on oc) (ht : I 2 = nI 0) (v : Int32) : Sp l G MX3_ends 2 0 0 [.ref m, .int v] w (fun o w' => o = .inl (some (.int v)) ∧ isMm w' m A (nI 0) J S (tRec hn hist cur).1 (tRec hn hist cur).2 sv n ic on oc ∧ mFr m A w w') := by
  have h8 := hR.2.1.1
  have h1 := hR.2.1.2.1
  have hH := hist_rec h8 hB hW hWh hR.2.1.2.2
  have hR' : ∀ (I' : Nat → Int32) (F' : Nat → Nat → Int32), I' 0 = I 0 → I' 1 = nI (tRec hn hist cur).1 → I' 3 = I 3 → I' 4 = I 4 → I' 7 = I 7 → I' 8 = I 8 → I' 9 = I 9 → F' 0 = F 0 → F' 3 = F 3 → F' 5 = F 5 → F' 6 = F 6 → F' 4 = va_cpy (F 1) (if hn = 8 then va_cpy (F 4) (F 4) 81 0 567 else F 4) 0 (81 * ((tRec hn hist cur).1 - 1)) 81 → (tRec hn hist cur).1 ≤ 8 → mR I' F' J S (tRec hn hist cur).1 (tRec hn hist cur).2 sv n ic on oc := by
    intro I' F' e0 e1 e3 e4 e7 e8 e9 f0 f3 f5 f6 f4 h9
    obtain ⟨g0, ⟨g1, g2, g3⟩, g4, ⟨g5, g6, g7⟩, ⟨g8, g9, g10⟩, g11, g12, g13⟩ := hR
    refine ⟨by rw [f0]; exact g0, ⟨h9, e1, by rw [f4]; exact hH⟩, ?_, ⟨e3.trans g5, g6, by rw [f5]; exact g7⟩, ⟨e4.trans g8, g9, by rw [f6]; exact g10⟩, e7.trans g11, e8.trans g12, e9.trans g13⟩
    cases sv with
    | none => exact e0.trans g4
    | some T => exact ⟨e0.trans g4.1, by rw [f3]; exact g4.2⟩
  clear hH
  obtain ⟨tr, htr⟩ : ∃ t, t = tRec hn hist cur := ⟨_, rfl⟩
  rw [← htr] at hR' ⊢
  unfold tRec at htr
  refine Sp.of rfl (by decide +kernel) kX3_ends (wd_le rfl) ?_
  refine WW.run (pc' := 1) (lv' := [(0, .ref m), (1, .int v)]) (st' := [.ref m]) 1 rfl ?_
  refine WW.get rfl fX3_42 hM.1 (show _ = some (.int (I 2)) from rfl) ?_
  refine WW.if_le (tgt := 24) rfl rfl (fun _ => ?_) (fun hno => absurd (by rw [ht]; decide) hno)
  refine WW.run (pc' := 25) (lv' := [(0, .ref m), (1, .int v)]) (st' := [.ref m]) 1 rfl ?_
  refine WW.get rfl fX3_51 hM.1 (show _ = some (.int (I 1)) from rfl) ?_
  refine WW.run (pc' := 30) (lv' := [(0, .ref m), (1, .int v)]) (st' := [.int (nI 8), .int (I 1)]) 1 rfl ?_
  by_cases e : hn = 8
  · skip
    rw [if_pos e] at htr hR'
    subst htr
    rw [e] at h1
    rw [h1]
    refine WW.icmp_ne (tgt := 60) rfl rfl (fun hno => absurd rfl hno) (fun _ => ?_)
    refine WW.run (pc' := 34) (lv' := [(0, .ref m), (1, .int v)]) (st' := [.ref m]) 1 rfl ?_
    refine WW.get rfl fX3_22 hM.1 (show _ = some (.ref (A 4)) from rfl) ?_
    refine WW.run (pc' := 40) (lv' := [(0, .ref m), (1, .int v)]) (st' := [.ref m, .int (nI 81), .ref (A 4)]) 2 rfl ?_
    refine WW.get rfl fX3_22 hM.1 (show _ = some (.ref (A 4)) from rfl) ?_
    refine WW.run (pc' := 47) (lv' := [(0, .ref m), (1, .int v)]) (st' := [.int (nI 567), .int (nI 0), .ref (A 4), .int (nI 81), .ref (A 4)]) 2 rfl ?_
    refine WW.mcopy 4 4 81 0 567 rfl mX3_45 hM (by decide) (by decide) rfl rfl rfl rfl rfl (by decide) (by decide) (wd_le rfl) (wd_le rfl) (fun w2 hM2 fr2 => ?_)
    refine WW.run (pc' := 52) (lv' := [(0, .ref m), (1, .int v)]) (st' := [.ref m, .ref m]) 2 rfl ?_
    refine WW.get rfl fX3_51 hM2.1 (show _ = some (.int (I 1)) from rfl) ?_
    refine WW.run (pc' := 57) (lv' := [(0, .ref m), (1, .int v)]) (st' := [.int ((I 1) - (nI 1)), .ref m]) 2 rfl ?_
    rw [h1]
    rw [show nI 8 - nI 1 = nI 7 from rfl]
    refine WW.mputI 1 rfl pfX3_51 hM2 rfl rfl rfl rfl (fun w3 hM3 fr3 => ?_)
    refine WW.run (pc' := 61) (lv' := [(0, .ref m), (1, .int v)]) (st' := [.ref m]) 1 rfl ?_
    refine WW.get rfl fX3_13 hM3.1 (show _ = some (.ref (A 1)) from rfl) ?_
    refine WW.run (pc' := 66) (lv' := [(0, .ref m), (1, .int v)]) (st' := [.ref m, .int (nI 0), .ref (A 1)]) 2 rfl ?_
    refine WW.get rfl fX3_22 hM3.1 (show _ = some (.ref (A 4)) from rfl) ?_
    refine WW.run (pc' := 72) (lv' := [(0, .ref m), (1, .int v)]) (st' := [.ref m, .int (nI 81), .ref (A 4), .int (nI 0), .ref (A 1)]) 2 rfl ?_
    refine WW.get rfl fX3_51 hM3.1 (show _ = some (.int (nI 7)) from rfl) ?_
    refine WW.run (pc' := 78) (lv' := [(0, .ref m), (1, .int v)]) (st' := [.int (nI 81), .int ((nI 81) * (nI 7)), .ref (A 4), .int (nI 0), .ref (A 1)]) 2 rfl ?_
    refine WW.mcopy 1 4 0 (81 * 7) 81 rfl mX3_45 hM3 (by decide) (by decide) rfl rfl rfl (wn_mul rfl rfl) rfl (by decide) (by decide) (wd_le rfl) (wd_le rfl) (fun w4 hM4 fr4 => ?_)
    refine WW.run (pc' := 83) (lv' := [(0, .ref m), (1, .int v)]) (st' := [.ref m, .ref m]) 2 rfl ?_
    refine WW.get rfl fX3_51 hM4.1 (show _ = some (.int (nI 7)) from rfl) ?_
    refine WW.run (pc' := 88) (lv' := [(0, .ref m), (1, .int v)]) (st' := [.int ((nI 7) + (nI 1)), .ref m]) 2 rfl ?_
    refine WW.mputI 1 rfl pfX3_51 hM4 rfl rfl rfl rfl (fun w5 hM5 fr5 => ?_)
    refine WW.run (pc' := 92) (lv' := [(0, .ref m), (1, .int v)]) (st' := [.int v]) 1 rfl ?_
    exact WW.iret rfl rfl rfl ⟨rfl, ⟨_, _, hM5, ht, hR' _ _ rfl rfl rfl rfl rfl rfl rfl rfl rfl rfl rfl rfl (Nat.le_refl _)⟩, (((fr2.trans fr3).trans fr4).trans fr5)⟩
  · skip
    rw [if_neg e] at htr hR'
    subst htr
    rw [h1]
    refine WW.icmp_ne (tgt := 60) rfl rfl (fun _ => ?_) (fun hno => absurd hno (by rw [nI_eq (by omega) (by decide)]; exact e))
    refine WW.run (pc' := 61) (lv' := [(0, .ref m), (1, .int v)]) (st' := [.ref m]) 1 rfl ?_
    refine WW.get rfl fX3_13 hM.1 (show _ = some (.ref (A 1)) from rfl) ?_
    refine WW.run (pc' := 66) (lv' := [(0, .ref m), (1, .int v)]) (st' := [.ref m, .int (nI 0), .ref (A 1)]) 2 rfl ?_
    refine WW.get rfl fX3_22 hM.1 (show _ = some (.ref (A 4)) from rfl) ?_
    refine WW.run (pc' := 72) (lv' := [(0, .ref m), (1, .int v)]) (st' := [.ref m, .int (nI 81), .ref (A 4), .int (nI 0), .ref (A 1)]) 2 rfl ?_
    refine WW.get rfl fX3_51 hM.1 (show _ = some (.int (I 1)) from rfl) ?_
    rw [h1]
    refine WW.run (pc' := 78) (lv' := [(0, .ref m), (1, .int v)]) (st' := [.int (nI 81), .int ((nI 81) * (nI hn)), .ref (A 4), .int (nI 0), .ref (A 1)]) 2 rfl ?_
    refine WW.mcopy 1 4 0 (81 * hn) 81 rfl mX3_45 hM (by decide) (by decide) rfl rfl rfl (wn_mul rfl rfl) rfl (by decide) (by show 81 * hn + 81 ≤ 648; omega) (wd_le rfl) (wd_le rfl) (fun w6 hM6 fr6 => ?_)
    refine WW.run (pc' := 83) (lv' := [(0, .ref m), (1, .int v)]) (st' := [.ref m, .ref m]) 2 rfl ?_
    refine WW.get rfl fX3_51 hM6.1 (show _ = some (.int (I 1)) from rfl) ?_
    rw [h1]
    refine WW.run (pc' := 88) (lv' := [(0, .ref m), (1, .int v)]) (st' := [.int ((nI hn) + (nI 1)), .ref m]) 2 rfl ?_
    rw [nI_add]
    refine WW.mputI 1 rfl pfX3_51 hM6 rfl rfl rfl rfl (fun w7 hM7 fr7 => ?_)
    refine WW.run (pc' := 92) (lv' := [(0, .ref m), (1, .int v)]) (st' := [.int v]) 1 rfl ?_
    exact WW.iret rfl rfl rfl ⟨rfl, ⟨_, _, hM7, ht, hR' _ _ rfl rfl rfl rfl rfl rfl rfl rfl rfl rfl rfl rfl (by show hn + 1 ≤ 8; omega)⟩, (fr6.trans fr7)⟩
def rPos (r : aR) : Prop := match r with
  | .inl p => 1 ≤ p ∧ p ≤ 4
  | .inr _ => True
theorem rPos.ne {p : Nat} (h : rPos (.inl p)) : ¬ nI p ≤ 0 := nI_nle h.1 (by have := h.2; omega)

theorem rPos_doShip (S : aS) : rPos (S.doShip) := by
  unfold aS.doShip
  try simp only [cond_eq_ite]
  repeat' split
  all_goals first | exact ⟨by decide, by decide⟩ | trivial
theorem mC_addShip (h : isMm w m A t J cur hn hist sv n ic on oc) (hW : aWf cur) (hWh : ∀ k, k < hn → aWf (hist k)) : Sp l G MX3_addShip 6 0 0 [.ref m] w (mD m A J cur hn hist sv n ic on oc (cur.doShip) w) := by
  obtain ⟨I, F, hM, ht, hR⟩ := h
  have hP := rPos_doShip cur
  refine Sp.of rfl (by decide +kernel) kX3_addShip (wd_le rfl) ?_
  refine WW.run (pc' := 1) (lv' := [(0, .ref m)]) (st' := [.ref m]) 1 rfl ?_
  refine WW.callV [] m [] rfl mX3_73 (sM_keep hM) (wdRecv.obj hM.1 rfl) rfl rfl (wd_le rfl) (wd_le rfl) (wd_le rfl) (wd_le rfl) (fun o w' hq => ?_)
  obtain ⟨_, I8, F8, rfl, ⟨rfl, hI8, hF8⟩, hM8, fr8⟩ := hq
  rw [hI8, hF8] at hM8
  clear hI8 hF8 I8 F8
  show WW _ _ _ 4 _ [] _
  have hB : fS (va_cpy (F 0) (F 1) 0 0 81) cur := hR.1.cpy0 hW _
  obtain ⟨f0, hf0⟩ : ∃ f, f = F 0 := ⟨_, rfl⟩
  have hS : fS f0 cur := by rw [hf0]; exact hR.1
  have hM2 : isM w' m A (va_up I 2 (nI 0)) (va_up (va_up F 1 (va_cpy (F 0) (F 1) 0 0 81)) 0 f0) := by
    rw [show f0 = (va_up F 1 (va_cpy (F 0) (F 1) 0 0 81)) 0 from hf0, va_up_id]
    exact hM8
  have fr0 : mFr m A w w' := fr8
  generalize hF1 : va_up F 1 (va_cpy (F 0) (F 1) 0 0 81) = F1 at hM2
  have k1 : F1 1 = va_cpy (F 0) (F 1) 0 0 81 := by rw [← hF1]; rfl
  have k3 : F1 3 = F 3 := by rw [← hF1]; rfl
  have k4 : F1 4 = F 4 := by rw [← hF1]; rfl
  have k5 : F1 5 = F 5 := by rw [← hF1]; rfl
  have k6 : F1 6 = F 6 := by rw [← hF1]; rfl
  obtain ⟨r, hr⟩ : ∃ r, r = cur.doShip := ⟨_, rfl⟩
  rw [← hr] at hP ⊢
  refine WW.run (pc' := 6) (lv' := [(0, .ref m)]) (st' := [.ref m, .ref m]) 2 rfl ?_
  have hD := sS_doAddShip (l := l) (G := G) hM2 hS hW
  rw [← hr] at hD
  refine WW.callV [] m [.ref m] rfl mX3_76 hD (wdRecv.obj hM2.1 rfl) rfl rfl (wd_le rfl) (wd_le rfl) (wd_le rfl) (wd_le rfl) (fun o wz hq => ?_)
  obtain ⟨fz, rfl, hSz, hMz, frz⟩ := hq
  show WW _ _ _ 9 _ [.int (rV r), .ref m] _
  have fB : fS ((va_up F1 0 fz) 1) cur := by show fS (F1 1) cur; rw [k1]; exact hB
  cases r with
  | inl p =>
    have hp := hP.ne
    have R2 : mR (rI (.inl p) (va_up I 2 (nI 0))) (va_up F1 0 fz) J cur hn hist sv n ic on oc := hR.to rfl rfl rfl rfl rfl rfl rfl hSz k3 k4 k5 k6
    refine WW.callV [.int (nI 0)] m [] rfl mX3_80 (sM_endsF hMz fB hW R2 hp (nI 0)) (wdRecv.obj hMz.1 rfl) rfl rfl (wd_le rfl) (wd_le rfl) (wd_le rfl) (wd_le rfl) (fun o w9 hq => ?_)
    obtain ⟨rfl, h9, fr9⟩ := hq
    show WW _ _ _ 12 _ [.int (nI 0)] _
    exact WW.iret rfl rfl rfl ⟨rfl, (fr0.trans frz).trans fr9, h9⟩
  | inr q =>
    have R2 : mR (rI (.inr q) (va_up I 2 (nI 0))) (va_up F1 0 fz) J q.2 hn hist sv n ic on oc := (show mR (rI (.inr q) (va_up I 2 (nI 0))) (va_up F1 0 fz) J q.2 hn hist sv n ic on oc from by
      obtain ⟨g0, g1, g2, g3, g4, g5⟩ := hR
      refine ⟨hSz, ⟨g1.1, g1.2.1, by show ∀ k, k < hn → fS (fun j => F1 4 (81 * k + j)) (hist k); rw [k4]; exact g1.2.2⟩, ?_, ⟨g3.1, g3.2.1, by show ∀ i, i < on → F1 5 i = oc i; rw [k5]; exact g3.2.2⟩, ⟨g4.1, g4.2.1, by show ∀ i, i < n → F1 6 i = ic i; rw [k6]; exact g4.2.2⟩, g5⟩
      cases sv with
      | none => exact g2
      | some T => exact ⟨g2.1, by show fS (F1 3) T; rw [k3]; exact g2.2⟩)
    refine WW.callV [.int q.1] m [] rfl mX3_80 (sM_endsT hMz fB hW hWh R2 rfl q.1) (wdRecv.obj hMz.1 rfl) rfl rfl (wd_le rfl) (wd_le rfl) (wd_le rfl) (wd_le rfl) (fun o w9 hq => ?_)
    obtain ⟨rfl, h9, fr9⟩ := hq
    show WW _ _ _ 12 _ [.int q.1] _
    exact WW.iret rfl rfl rfl ⟨rfl, (fr0.trans frz).trans fr9, h9⟩
theorem rPos_doLamp (S : aS) (x : Int32) : rPos (S.doLamp x) := by
  unfold aS.doLamp
  try simp only [cond_eq_ite]
  repeat' split
  all_goals first | exact ⟨by decide, by decide⟩ | trivial
theorem mC_addLamp (h : isMm w m A t J cur hn hist sv n ic on oc) (hW : aWf cur) (hWh : ∀ k, k < hn → aWf (hist k)) (x : Int32) : Sp l G MX3_addLamp 6 0 0 [.ref m, .int x] w (mD m A J cur hn hist sv n ic on oc (cur.doLamp x) w) := by
  obtain ⟨I, F, hM, ht, hR⟩ := h
  have hP := rPos_doLamp cur x
  refine Sp.of rfl (by decide +kernel) kX3_addLamp (wd_le rfl) ?_
  refine WW.run (pc' := 1) (lv' := [(0, .ref m), (1, .int x)]) (st' := [.ref m]) 1 rfl ?_
  refine WW.callV [] m [] rfl mX3_73 (sM_keep hM) (wdRecv.obj hM.1 rfl) rfl rfl (wd_le rfl) (wd_le rfl) (wd_le rfl) (wd_le rfl) (fun o w' hq => ?_)
  obtain ⟨_, I9, F9, rfl, ⟨rfl, hI9, hF9⟩, hM9, fr9⟩ := hq
  rw [hI9, hF9] at hM9
  clear hI9 hF9 I9 F9
  show WW _ _ _ 4 _ [] _
  have hB : fS (va_cpy (F 0) (F 1) 0 0 81) cur := hR.1.cpy0 hW _
  obtain ⟨f0, hf0⟩ : ∃ f, f = F 0 := ⟨_, rfl⟩
  have hS : fS f0 cur := by rw [hf0]; exact hR.1
  have hM2 : isM w' m A (va_up I 2 (nI 0)) (va_up (va_up F 1 (va_cpy (F 0) (F 1) 0 0 81)) 0 f0) := by
    rw [show f0 = (va_up F 1 (va_cpy (F 0) (F 1) 0 0 81)) 0 from hf0, va_up_id]
    exact hM9
  have fr0 : mFr m A w w' := fr9
  generalize hF1 : va_up F 1 (va_cpy (F 0) (F 1) 0 0 81) = F1 at hM2
  have k1 : F1 1 = va_cpy (F 0) (F 1) 0 0 81 := by rw [← hF1]; rfl
  have k3 : F1 3 = F 3 := by rw [← hF1]; rfl
  have k4 : F1 4 = F 4 := by rw [← hF1]; rfl
  have k5 : F1 5 = F 5 := by rw [← hF1]; rfl
  have k6 : F1 6 = F 6 := by rw [← hF1]; rfl
  obtain ⟨r, hr⟩ : ∃ r, r = cur.doLamp x := ⟨_, rfl⟩
  rw [← hr] at hP ⊢
  refine WW.run (pc' := 7) (lv' := [(0, .ref m), (1, .int x)]) (st' := [.int x, .ref m, .ref m]) 3 rfl ?_
  have hD := sS_doAddLamp (l := l) (G := G) hM2 hS hW x
  rw [← hr] at hD
  refine WW.callV [.int x] m [.ref m] rfl mX3_83 hD (wdRecv.obj hM2.1 rfl) rfl rfl (wd_le rfl) (wd_le rfl) (wd_le rfl) (wd_le rfl) (fun o wz hq => ?_)
  obtain ⟨fz, rfl, hSz, hMz, frz⟩ := hq
  show WW _ _ _ 10 _ [.int (rV r), .ref m] _
  have fB : fS ((va_up F1 0 fz) 1) cur := by show fS (F1 1) cur; rw [k1]; exact hB
  cases r with
  | inl p =>
    have hp := hP.ne
    have R2 : mR (rI (.inl p) (va_up I 2 (nI 0))) (va_up F1 0 fz) J cur hn hist sv n ic on oc := hR.to rfl rfl rfl rfl rfl rfl rfl hSz k3 k4 k5 k6
    refine WW.callV [.int (nI 0)] m [] rfl mX3_80 (sM_endsF hMz fB hW R2 hp (nI 0)) (wdRecv.obj hMz.1 rfl) rfl rfl (wd_le rfl) (wd_le rfl) (wd_le rfl) (wd_le rfl) (fun o w9 hq => ?_)
    obtain ⟨rfl, h9, fr9⟩ := hq
    show WW _ _ _ 13 _ [.int (nI 0)] _
    exact WW.iret rfl rfl rfl ⟨rfl, (fr0.trans frz).trans fr9, h9⟩
  | inr q =>
    have R2 : mR (rI (.inr q) (va_up I 2 (nI 0))) (va_up F1 0 fz) J q.2 hn hist sv n ic on oc := (show mR (rI (.inr q) (va_up I 2 (nI 0))) (va_up F1 0 fz) J q.2 hn hist sv n ic on oc from by
      obtain ⟨g0, g1, g2, g3, g4, g5⟩ := hR
      refine ⟨hSz, ⟨g1.1, g1.2.1, by show ∀ k, k < hn → fS (fun j => F1 4 (81 * k + j)) (hist k); rw [k4]; exact g1.2.2⟩, ?_, ⟨g3.1, g3.2.1, by show ∀ i, i < on → F1 5 i = oc i; rw [k5]; exact g3.2.2⟩, ⟨g4.1, g4.2.1, by show ∀ i, i < n → F1 6 i = ic i; rw [k6]; exact g4.2.2⟩, g5⟩
      cases sv with
      | none => exact g2
      | some T => exact ⟨g2.1, by show fS (F1 3) T; rw [k3]; exact g2.2⟩)
    refine WW.callV [.int q.1] m [] rfl mX3_80 (sM_endsT hMz fB hW hWh R2 rfl q.1) (wdRecv.obj hMz.1 rfl) rfl rfl (wd_le rfl) (wd_le rfl) (wd_le rfl) (wd_le rfl) (fun o w9 hq => ?_)
    obtain ⟨rfl, h9, fr9⟩ := hq
    show WW _ _ _ 13 _ [.int q.1] _
    exact WW.iret rfl rfl rfl ⟨rfl, (fr0.trans frz).trans fr9, h9⟩
theorem rPos_doOil (S : aS) (x : Int32) : rPos (S.doOil x) := by
  unfold aS.doOil
  try simp only [cond_eq_ite]
  repeat' split
  all_goals first | exact ⟨by decide, by decide⟩ | trivial
theorem mC_addOil (h : isMm w m A t J cur hn hist sv n ic on oc) (hW : aWf cur) (hWh : ∀ k, k < hn → aWf (hist k)) (x : Int32) : Sp l G MX3_addOil 6 0 0 [.ref m, .int x] w (mD m A J cur hn hist sv n ic on oc (cur.doOil x) w) := by
  obtain ⟨I, F, hM, ht, hR⟩ := h
  have hP := rPos_doOil cur x
  refine Sp.of rfl (by decide +kernel) kX3_addOil (wd_le rfl) ?_
  refine WW.run (pc' := 1) (lv' := [(0, .ref m), (1, .int x)]) (st' := [.ref m]) 1 rfl ?_
  refine WW.callV [] m [] rfl mX3_73 (sM_keep hM) (wdRecv.obj hM.1 rfl) rfl rfl (wd_le rfl) (wd_le rfl) (wd_le rfl) (wd_le rfl) (fun o w' hq => ?_)
  obtain ⟨_, I10, F10, rfl, ⟨rfl, hI10, hF10⟩, hM10, fr10⟩ := hq
  rw [hI10, hF10] at hM10
  clear hI10 hF10 I10 F10
  show WW _ _ _ 4 _ [] _
  have hB : fS (va_cpy (F 0) (F 1) 0 0 81) cur := hR.1.cpy0 hW _
  obtain ⟨f0, hf0⟩ : ∃ f, f = F 0 := ⟨_, rfl⟩
  have hS : fS f0 cur := by rw [hf0]; exact hR.1
  have hM2 : isM w' m A (va_up I 2 (nI 0)) (va_up (va_up F 1 (va_cpy (F 0) (F 1) 0 0 81)) 0 f0) := by
    rw [show f0 = (va_up F 1 (va_cpy (F 0) (F 1) 0 0 81)) 0 from hf0, va_up_id]
    exact hM10
  have fr0 : mFr m A w w' := fr10
  generalize hF1 : va_up F 1 (va_cpy (F 0) (F 1) 0 0 81) = F1 at hM2
  have k1 : F1 1 = va_cpy (F 0) (F 1) 0 0 81 := by rw [← hF1]; rfl
  have k3 : F1 3 = F 3 := by rw [← hF1]; rfl
  have k4 : F1 4 = F 4 := by rw [← hF1]; rfl
  have k5 : F1 5 = F 5 := by rw [← hF1]; rfl
  have k6 : F1 6 = F 6 := by rw [← hF1]; rfl
  obtain ⟨r, hr⟩ : ∃ r, r = cur.doOil x := ⟨_, rfl⟩
  rw [← hr] at hP ⊢
  refine WW.run (pc' := 7) (lv' := [(0, .ref m), (1, .int x)]) (st' := [.int x, .ref m, .ref m]) 3 rfl ?_
  have hD := sS_doAddOil (l := l) (G := G) hM2 hS x
  rw [← hr] at hD
  refine WW.callV [.int x] m [.ref m] rfl mX3_86 hD (wdRecv.obj hM2.1 rfl) rfl rfl (wd_le rfl) (wd_le rfl) (wd_le rfl) (wd_le rfl) (fun o wz hq => ?_)
  obtain ⟨fz, rfl, hSz, hMz, frz⟩ := hq
  show WW _ _ _ 10 _ [.int (rV r), .ref m] _
  have fB : fS ((va_up F1 0 fz) 1) cur := by show fS (F1 1) cur; rw [k1]; exact hB
  cases r with
  | inl p =>
    have hp := hP.ne
    have R2 : mR (rI (.inl p) (va_up I 2 (nI 0))) (va_up F1 0 fz) J cur hn hist sv n ic on oc := hR.to rfl rfl rfl rfl rfl rfl rfl hSz k3 k4 k5 k6
    refine WW.callV [.int (nI 0)] m [] rfl mX3_80 (sM_endsF hMz fB hW R2 hp (nI 0)) (wdRecv.obj hMz.1 rfl) rfl rfl (wd_le rfl) (wd_le rfl) (wd_le rfl) (wd_le rfl) (fun o w9 hq => ?_)
    obtain ⟨rfl, h9, fr9⟩ := hq
    show WW _ _ _ 13 _ [.int (nI 0)] _
    exact WW.iret rfl rfl rfl ⟨rfl, (fr0.trans frz).trans fr9, h9⟩
  | inr q =>
    have R2 : mR (rI (.inr q) (va_up I 2 (nI 0))) (va_up F1 0 fz) J q.2 hn hist sv n ic on oc := (show mR (rI (.inr q) (va_up I 2 (nI 0))) (va_up F1 0 fz) J q.2 hn hist sv n ic on oc from by
      obtain ⟨g0, g1, g2, g3, g4, g5⟩ := hR
      refine ⟨hSz, ⟨g1.1, g1.2.1, by show ∀ k, k < hn → fS (fun j => F1 4 (81 * k + j)) (hist k); rw [k4]; exact g1.2.2⟩, ?_, ⟨g3.1, g3.2.1, by show ∀ i, i < on → F1 5 i = oc i; rw [k5]; exact g3.2.2⟩, ⟨g4.1, g4.2.1, by show ∀ i, i < n → F1 6 i = ic i; rw [k6]; exact g4.2.2⟩, g5⟩
      cases sv with
      | none => exact g2
      | some T => exact ⟨g2.1, by show fS (F1 3) T; rw [k3]; exact g2.2⟩)
    refine WW.callV [.int q.1] m [] rfl mX3_80 (sM_endsT hMz fB hW hWh R2 rfl q.1) (wdRecv.obj hMz.1 rfl) rfl rfl (wd_le rfl) (wd_le rfl) (wd_le rfl) (wd_le rfl) (fun o w9 hq => ?_)
    obtain ⟨rfl, h9, fr9⟩ := hq
    show WW _ _ _ 13 _ [.int q.1] _
    exact WW.iret rfl rfl rfl ⟨rfl, (fr0.trans frz).trans fr9, h9⟩
theorem rPos_doLease (S : aS) (x : Int32) (y : Int32) (z : Int32) : rPos (S.doLease x y z) := by
  unfold aS.doLease
  try simp only [cond_eq_ite]
  repeat' split
  all_goals first | exact ⟨by decide, by decide⟩ | trivial
theorem mC_lease (h : isMm w m A t J cur hn hist sv n ic on oc) (hW : aWf cur) (hWh : ∀ k, k < hn → aWf (hist k)) (x : Int32) (y : Int32) (z : Int32) : Sp l G MX3_lease 6 0 0 [.ref m, .int x, .int y, .int z] w (mD m A J cur hn hist sv n ic on oc (cur.doLease x y z) w) := by
  obtain ⟨I, F, hM, ht, hR⟩ := h
  have hP := rPos_doLease cur x y z
  refine Sp.of rfl (by decide +kernel) kX3_lease (wd_le rfl) ?_
  refine WW.run (pc' := 1) (lv' := [(0, .ref m), (1, .int x), (2, .int y), (3, .int z)]) (st' := [.ref m]) 1 rfl ?_
  refine WW.callV [] m [] rfl mX3_73 (sM_keep hM) (wdRecv.obj hM.1 rfl) rfl rfl (wd_le rfl) (wd_le rfl) (wd_le rfl) (wd_le rfl) (fun o w' hq => ?_)
  obtain ⟨_, I11, F11, rfl, ⟨rfl, hI11, hF11⟩, hM11, fr11⟩ := hq
  rw [hI11, hF11] at hM11
  clear hI11 hF11 I11 F11
  show WW _ _ _ 4 _ [] _
  have hB : fS (va_cpy (F 0) (F 1) 0 0 81) cur := hR.1.cpy0 hW _
  obtain ⟨f0, hf0⟩ : ∃ f, f = F 0 := ⟨_, rfl⟩
  have hS : fS f0 cur := by rw [hf0]; exact hR.1
  have hM2 : isM w' m A (va_up I 2 (nI 0)) (va_up (va_up F 1 (va_cpy (F 0) (F 1) 0 0 81)) 0 f0) := by
    rw [show f0 = (va_up F 1 (va_cpy (F 0) (F 1) 0 0 81)) 0 from hf0, va_up_id]
    exact hM11
  have fr0 : mFr m A w w' := fr11
  generalize hF1 : va_up F 1 (va_cpy (F 0) (F 1) 0 0 81) = F1 at hM2
  have k1 : F1 1 = va_cpy (F 0) (F 1) 0 0 81 := by rw [← hF1]; rfl
  have k3 : F1 3 = F 3 := by rw [← hF1]; rfl
  have k4 : F1 4 = F 4 := by rw [← hF1]; rfl
  have k5 : F1 5 = F 5 := by rw [← hF1]; rfl
  have k6 : F1 6 = F 6 := by rw [← hF1]; rfl
  obtain ⟨r, hr⟩ : ∃ r, r = cur.doLease x y z := ⟨_, rfl⟩
  rw [← hr] at hP ⊢
  refine WW.run (pc' := 9) (lv' := [(0, .ref m), (1, .int x), (2, .int y), (3, .int z)]) (st' := [.int z, .int y, .int x, .ref m, .ref m]) 5 rfl ?_
  have hD := sS_doLease (l := l) (G := G) hM2 hS hW x y z
  rw [← hr] at hD
  refine WW.callV [.int x, .int y, .int z] m [.ref m] rfl mX3_106 hD (wdRecv.obj hM2.1 rfl) rfl rfl (wd_le rfl) (wd_le rfl) (wd_le rfl) (wd_le rfl) (fun o wz hq => ?_)
  obtain ⟨fz, rfl, hSz, hMz, frz⟩ := hq
  show WW _ _ _ 12 _ [.int (rV r), .ref m] _
  have fB : fS ((va_up F1 0 fz) 1) cur := by show fS (F1 1) cur; rw [k1]; exact hB
  cases r with
  | inl p =>
    have hp := hP.ne
    have R2 : mR (rI (.inl p) (va_up I 2 (nI 0))) (va_up F1 0 fz) J cur hn hist sv n ic on oc := hR.to rfl rfl rfl rfl rfl rfl rfl hSz k3 k4 k5 k6
    refine WW.callV [.int (nI 0)] m [] rfl mX3_80 (sM_endsF hMz fB hW R2 hp (nI 0)) (wdRecv.obj hMz.1 rfl) rfl rfl (wd_le rfl) (wd_le rfl) (wd_le rfl) (wd_le rfl) (fun o w9 hq => ?_)
    obtain ⟨rfl, h9, fr9⟩ := hq
    show WW _ _ _ 15 _ [.int (nI 0)] _
    exact WW.iret rfl rfl rfl ⟨rfl, (fr0.trans frz).trans fr9, h9⟩
  | inr q =>
    have R2 : mR (rI (.inr q) (va_up I 2 (nI 0))) (va_up F1 0 fz) J q.2 hn hist sv n ic on oc := (show mR (rI (.inr q) (va_up I 2 (nI 0))) (va_up F1 0 fz) J q.2 hn hist sv n ic on oc from by
      obtain ⟨g0, g1, g2, g3, g4, g5⟩ := hR
      refine ⟨hSz, ⟨g1.1, g1.2.1, by show ∀ k, k < hn → fS (fun j => F1 4 (81 * k + j)) (hist k); rw [k4]; exact g1.2.2⟩, ?_, ⟨g3.1, g3.2.1, by show ∀ i, i < on → F1 5 i = oc i; rw [k5]; exact g3.2.2⟩, ⟨g4.1, g4.2.1, by show ∀ i, i < n → F1 6 i = ic i; rw [k6]; exact g4.2.2⟩, g5⟩
      cases sv with
      | none => exact g2
      | some T => exact ⟨g2.1, by show fS (F1 3) T; rw [k3]; exact g2.2⟩)
    refine WW.callV [.int q.1] m [] rfl mX3_80 (sM_endsT hMz fB hW hWh R2 rfl q.1) (wdRecv.obj hMz.1 rfl) rfl rfl (wd_le rfl) (wd_le rfl) (wd_le rfl) (wd_le rfl) (fun o w9 hq => ?_)
    obtain ⟨rfl, h9, fr9⟩ := hq
    show WW _ _ _ 15 _ [.int q.1] _
    exact WW.iret rfl rfl rfl ⟨rfl, (fr0.trans frz).trans fr9, h9⟩
theorem rPos_doReq (S : aS) (x : Int32) (y : Int32) : rPos (S.doReq x y) := by
  unfold aS.doReq
  try simp only [cond_eq_ite]
  repeat' split
  all_goals first | exact ⟨by decide, by decide⟩ | trivial
theorem mC_requestRenewal (h : isMm w m A t J cur hn hist sv n ic on oc) (hW : aWf cur) (hWh : ∀ k, k < hn → aWf (hist k)) (x : Int32) (y : Int32) : Sp l G MX3_requestRenewal 6 0 0 [.ref m, .int x, .int y] w (mD m A J cur hn hist sv n ic on oc (cur.doReq x y) w) := by
  obtain ⟨I, F, hM, ht, hR⟩ := h
  have hP := rPos_doReq cur x y
  refine Sp.of rfl (by decide +kernel) kX3_requestRenewal (wd_le rfl) ?_
  refine WW.run (pc' := 1) (lv' := [(0, .ref m), (1, .int x), (2, .int y)]) (st' := [.ref m]) 1 rfl ?_
  refine WW.callV [] m [] rfl mX3_73 (sM_keep hM) (wdRecv.obj hM.1 rfl) rfl rfl (wd_le rfl) (wd_le rfl) (wd_le rfl) (wd_le rfl) (fun o w' hq => ?_)
  obtain ⟨_, I12, F12, rfl, ⟨rfl, hI12, hF12⟩, hM12, fr12⟩ := hq
  rw [hI12, hF12] at hM12
  clear hI12 hF12 I12 F12
  show WW _ _ _ 4 _ [] _
  have hB : fS (va_cpy (F 0) (F 1) 0 0 81) cur := hR.1.cpy0 hW _
  obtain ⟨f0, hf0⟩ : ∃ f, f = F 0 := ⟨_, rfl⟩
  have hS : fS f0 cur := by rw [hf0]; exact hR.1
  have hM2 : isM w' m A (va_up I 2 (nI 0)) (va_up (va_up F 1 (va_cpy (F 0) (F 1) 0 0 81)) 0 f0) := by
    rw [show f0 = (va_up F 1 (va_cpy (F 0) (F 1) 0 0 81)) 0 from hf0, va_up_id]
    exact hM12
  have fr0 : mFr m A w w' := fr12
  generalize hF1 : va_up F 1 (va_cpy (F 0) (F 1) 0 0 81) = F1 at hM2
  have k1 : F1 1 = va_cpy (F 0) (F 1) 0 0 81 := by rw [← hF1]; rfl
  have k3 : F1 3 = F 3 := by rw [← hF1]; rfl
  have k4 : F1 4 = F 4 := by rw [← hF1]; rfl
  have k5 : F1 5 = F 5 := by rw [← hF1]; rfl
  have k6 : F1 6 = F 6 := by rw [← hF1]; rfl
  obtain ⟨r, hr⟩ : ∃ r, r = cur.doReq x y := ⟨_, rfl⟩
  rw [← hr] at hP ⊢
  refine WW.run (pc' := 8) (lv' := [(0, .ref m), (1, .int x), (2, .int y)]) (st' := [.int y, .int x, .ref m, .ref m]) 4 rfl ?_
  have hD := sS_doReq (l := l) (G := G) hM2 hS hW x y
  rw [← hr] at hD
  refine WW.callV [.int x, .int y] m [.ref m] rfl mX3_110 hD (wdRecv.obj hM2.1 rfl) rfl rfl (wd_le rfl) (wd_le rfl) (wd_le rfl) (wd_le rfl) (fun o wz hq => ?_)
  obtain ⟨fz, rfl, hSz, hMz, frz⟩ := hq
  show WW _ _ _ 11 _ [.int (rV r), .ref m] _
  have fB : fS ((va_up F1 0 fz) 1) cur := by show fS (F1 1) cur; rw [k1]; exact hB
  cases r with
  | inl p =>
    have hp := hP.ne
    have R2 : mR (rI (.inl p) (va_up I 2 (nI 0))) (va_up F1 0 fz) J cur hn hist sv n ic on oc := hR.to rfl rfl rfl rfl rfl rfl rfl hSz k3 k4 k5 k6
    refine WW.callV [.int (nI 0)] m [] rfl mX3_80 (sM_endsF hMz fB hW R2 hp (nI 0)) (wdRecv.obj hMz.1 rfl) rfl rfl (wd_le rfl) (wd_le rfl) (wd_le rfl) (wd_le rfl) (fun o w9 hq => ?_)
    obtain ⟨rfl, h9, fr9⟩ := hq
    show WW _ _ _ 14 _ [.int (nI 0)] _
    exact WW.iret rfl rfl rfl ⟨rfl, (fr0.trans frz).trans fr9, h9⟩
  | inr q =>
    have R2 : mR (rI (.inr q) (va_up I 2 (nI 0))) (va_up F1 0 fz) J q.2 hn hist sv n ic on oc := (show mR (rI (.inr q) (va_up I 2 (nI 0))) (va_up F1 0 fz) J q.2 hn hist sv n ic on oc from by
      obtain ⟨g0, g1, g2, g3, g4, g5⟩ := hR
      refine ⟨hSz, ⟨g1.1, g1.2.1, by show ∀ k, k < hn → fS (fun j => F1 4 (81 * k + j)) (hist k); rw [k4]; exact g1.2.2⟩, ?_, ⟨g3.1, g3.2.1, by show ∀ i, i < on → F1 5 i = oc i; rw [k5]; exact g3.2.2⟩, ⟨g4.1, g4.2.1, by show ∀ i, i < n → F1 6 i = ic i; rw [k6]; exact g4.2.2⟩, g5⟩
      cases sv with
      | none => exact g2
      | some T => exact ⟨g2.1, by show fS (F1 3) T; rw [k3]; exact g2.2⟩)
    refine WW.callV [.int q.1] m [] rfl mX3_80 (sM_endsT hMz fB hW hWh R2 rfl q.1) (wdRecv.obj hMz.1 rfl) rfl rfl (wd_le rfl) (wd_le rfl) (wd_le rfl) (wd_le rfl) (fun o w9 hq => ?_)
    obtain ⟨rfl, h9, fr9⟩ := hq
    show WW _ _ _ 14 _ [.int q.1] _
    exact WW.iret rfl rfl rfl ⟨rfl, (fr0.trans frz).trans fr9, h9⟩
theorem rPos_doDrop (S : aS) (x : Int32) : rPos (S.doDrop x) := by
  unfold aS.doDrop
  try simp only [cond_eq_ite]
  repeat' split
  all_goals first | exact ⟨by decide, by decide⟩ | trivial
theorem mC_giveUp (h : isMm w m A t J cur hn hist sv n ic on oc) (hW : aWf cur) (hWh : ∀ k, k < hn → aWf (hist k)) (x : Int32) : Sp l G MX3_giveUp 6 0 0 [.ref m, .int x] w (mD m A J cur hn hist sv n ic on oc (cur.doDrop x) w) := by
  obtain ⟨I, F, hM, ht, hR⟩ := h
  have hP := rPos_doDrop cur x
  refine Sp.of rfl (by decide +kernel) kX3_giveUp (wd_le rfl) ?_
  refine WW.run (pc' := 1) (lv' := [(0, .ref m), (1, .int x)]) (st' := [.ref m]) 1 rfl ?_
  refine WW.callV [] m [] rfl mX3_73 (sM_keep hM) (wdRecv.obj hM.1 rfl) rfl rfl (wd_le rfl) (wd_le rfl) (wd_le rfl) (wd_le rfl) (fun o w' hq => ?_)
  obtain ⟨_, I13, F13, rfl, ⟨rfl, hI13, hF13⟩, hM13, fr13⟩ := hq
  rw [hI13, hF13] at hM13
  clear hI13 hF13 I13 F13
  show WW _ _ _ 4 _ [] _
  have hB : fS (va_cpy (F 0) (F 1) 0 0 81) cur := hR.1.cpy0 hW _
  obtain ⟨f0, hf0⟩ : ∃ f, f = F 0 := ⟨_, rfl⟩
  have hS : fS f0 cur := by rw [hf0]; exact hR.1
  have hM2 : isM w' m A (va_up I 2 (nI 0)) (va_up (va_up F 1 (va_cpy (F 0) (F 1) 0 0 81)) 0 f0) := by
    rw [show f0 = (va_up F 1 (va_cpy (F 0) (F 1) 0 0 81)) 0 from hf0, va_up_id]
    exact hM13
  have fr0 : mFr m A w w' := fr13
  generalize hF1 : va_up F 1 (va_cpy (F 0) (F 1) 0 0 81) = F1 at hM2
  have k1 : F1 1 = va_cpy (F 0) (F 1) 0 0 81 := by rw [← hF1]; rfl
  have k3 : F1 3 = F 3 := by rw [← hF1]; rfl
  have k4 : F1 4 = F 4 := by rw [← hF1]; rfl
  have k5 : F1 5 = F 5 := by rw [← hF1]; rfl
  have k6 : F1 6 = F 6 := by rw [← hF1]; rfl
  obtain ⟨r, hr⟩ : ∃ r, r = cur.doDrop x := ⟨_, rfl⟩
  rw [← hr] at hP ⊢
  refine WW.run (pc' := 7) (lv' := [(0, .ref m), (1, .int x)]) (st' := [.int x, .ref m, .ref m]) 3 rfl ?_
  have hD := sS_doDrop (l := l) (G := G) hM2 hS hW x
  rw [← hr] at hD
  refine WW.callV [.int x] m [.ref m] rfl mX3_117 hD (wdRecv.obj hM2.1 rfl) rfl rfl (wd_le rfl) (wd_le rfl) (wd_le rfl) (wd_le rfl) (fun o wz hq => ?_)
  obtain ⟨fz, rfl, hSz, hMz, frz⟩ := hq
  show WW _ _ _ 10 _ [.int (rV r), .ref m] _
  have fB : fS ((va_up F1 0 fz) 1) cur := by show fS (F1 1) cur; rw [k1]; exact hB
  cases r with
  | inl p =>
    have hp := hP.ne
    have R2 : mR (rI (.inl p) (va_up I 2 (nI 0))) (va_up F1 0 fz) J cur hn hist sv n ic on oc := hR.to rfl rfl rfl rfl rfl rfl rfl hSz k3 k4 k5 k6
    refine WW.callV [.int (nI 0)] m [] rfl mX3_80 (sM_endsF hMz fB hW R2 hp (nI 0)) (wdRecv.obj hMz.1 rfl) rfl rfl (wd_le rfl) (wd_le rfl) (wd_le rfl) (wd_le rfl) (fun o w9 hq => ?_)
    obtain ⟨rfl, h9, fr9⟩ := hq
    show WW _ _ _ 13 _ [.int (nI 0)] _
    exact WW.iret rfl rfl rfl ⟨rfl, (fr0.trans frz).trans fr9, h9⟩
  | inr q =>
    have R2 : mR (rI (.inr q) (va_up I 2 (nI 0))) (va_up F1 0 fz) J q.2 hn hist sv n ic on oc := (show mR (rI (.inr q) (va_up I 2 (nI 0))) (va_up F1 0 fz) J q.2 hn hist sv n ic on oc from by
      obtain ⟨g0, g1, g2, g3, g4, g5⟩ := hR
      refine ⟨hSz, ⟨g1.1, g1.2.1, by show ∀ k, k < hn → fS (fun j => F1 4 (81 * k + j)) (hist k); rw [k4]; exact g1.2.2⟩, ?_, ⟨g3.1, g3.2.1, by show ∀ i, i < on → F1 5 i = oc i; rw [k5]; exact g3.2.2⟩, ⟨g4.1, g4.2.1, by show ∀ i, i < n → F1 6 i = ic i; rw [k6]; exact g4.2.2⟩, g5⟩
      cases sv with
      | none => exact g2
      | some T => exact ⟨g2.1, by show fS (F1 3) T; rw [k3]; exact g2.2⟩)
    refine WW.callV [.int q.1] m [] rfl mX3_80 (sM_endsT hMz fB hW hWh R2 rfl q.1) (wdRecv.obj hMz.1 rfl) rfl rfl (wd_le rfl) (wd_le rfl) (wd_le rfl) (wd_le rfl) (fun o w9 hq => ?_)
    obtain ⟨rfl, h9, fr9⟩ := hq
    show WW _ _ _ 13 _ [.int q.1] _
    exact WW.iret rfl rfl rfl ⟨rfl, (fr0.trans frz).trans fr9, h9⟩
theorem rPos_doWait (S : aS) (x : Int32) : rPos (S.doWait x) := by
  unfold aS.doWait
  try simp only [cond_eq_ite]
  repeat' split
  all_goals first | exact ⟨by decide, by decide⟩ | trivial
theorem mC_passHours (h : isMm w m A t J cur hn hist sv n ic on oc) (hW : aWf cur) (hWh : ∀ k, k < hn → aWf (hist k)) (x : Int32) : Sp l G MX3_passHours 6 0 0 [.ref m, .int x] w (mD m A J cur hn hist sv n ic on oc (cur.doWait x) w) := by
  obtain ⟨I, F, hM, ht, hR⟩ := h
  have hP := rPos_doWait cur x
  refine Sp.of rfl (by decide +kernel) kX3_passHours (wd_le rfl) ?_
  refine WW.run (pc' := 1) (lv' := [(0, .ref m), (1, .int x)]) (st' := [.ref m]) 1 rfl ?_
  refine WW.callV [] m [] rfl mX3_73 (sM_keep hM) (wdRecv.obj hM.1 rfl) rfl rfl (wd_le rfl) (wd_le rfl) (wd_le rfl) (wd_le rfl) (fun o w' hq => ?_)
  obtain ⟨_, I14, F14, rfl, ⟨rfl, hI14, hF14⟩, hM14, fr14⟩ := hq
  rw [hI14, hF14] at hM14
  clear hI14 hF14 I14 F14
  show WW _ _ _ 4 _ [] _
  have hB : fS (va_cpy (F 0) (F 1) 0 0 81) cur := hR.1.cpy0 hW _
  obtain ⟨f0, hf0⟩ : ∃ f, f = F 0 := ⟨_, rfl⟩
  have hS : fS f0 cur := by rw [hf0]; exact hR.1
  have hM2 : isM w' m A (va_up I 2 (nI 0)) (va_up (va_up F 1 (va_cpy (F 0) (F 1) 0 0 81)) 0 f0) := by
    rw [show f0 = (va_up F 1 (va_cpy (F 0) (F 1) 0 0 81)) 0 from hf0, va_up_id]
    exact hM14
  have fr0 : mFr m A w w' := fr14
  generalize hF1 : va_up F 1 (va_cpy (F 0) (F 1) 0 0 81) = F1 at hM2
  have k1 : F1 1 = va_cpy (F 0) (F 1) 0 0 81 := by rw [← hF1]; rfl
  have k3 : F1 3 = F 3 := by rw [← hF1]; rfl
  have k4 : F1 4 = F 4 := by rw [← hF1]; rfl
  have k5 : F1 5 = F 5 := by rw [← hF1]; rfl
  have k6 : F1 6 = F 6 := by rw [← hF1]; rfl
  obtain ⟨r, hr⟩ : ∃ r, r = cur.doWait x := ⟨_, rfl⟩
  rw [← hr] at hP ⊢
  refine WW.run (pc' := 7) (lv' := [(0, .ref m), (1, .int x)]) (st' := [.int x, .ref m, .ref m]) 3 rfl ?_
  have hD := sS_doWait (l := l) (G := G) hM2 hS hW x
  rw [← hr] at hD
  refine WW.callV [.int x] m [.ref m] rfl mX3_141 hD (wdRecv.obj hM2.1 rfl) rfl rfl (wd_le rfl) (wd_le rfl) (wd_le rfl) (wd_le rfl) (fun o wz hq => ?_)
  obtain ⟨fz, rfl, hSz, hMz, frz⟩ := hq
  show WW _ _ _ 10 _ [.int (rV r), .ref m] _
  have fB : fS ((va_up F1 0 fz) 1) cur := by show fS (F1 1) cur; rw [k1]; exact hB
  cases r with
  | inl p =>
    have hp := hP.ne
    have R2 : mR (rI (.inl p) (va_up I 2 (nI 0))) (va_up F1 0 fz) J cur hn hist sv n ic on oc := hR.to rfl rfl rfl rfl rfl rfl rfl hSz k3 k4 k5 k6
    refine WW.callV [.int (nI 0)] m [] rfl mX3_80 (sM_endsF hMz fB hW R2 hp (nI 0)) (wdRecv.obj hMz.1 rfl) rfl rfl (wd_le rfl) (wd_le rfl) (wd_le rfl) (wd_le rfl) (fun o w9 hq => ?_)
    obtain ⟨rfl, h9, fr9⟩ := hq
    show WW _ _ _ 13 _ [.int (nI 0)] _
    exact WW.iret rfl rfl rfl ⟨rfl, (fr0.trans frz).trans fr9, h9⟩
  | inr q =>
    have R2 : mR (rI (.inr q) (va_up I 2 (nI 0))) (va_up F1 0 fz) J q.2 hn hist sv n ic on oc := (show mR (rI (.inr q) (va_up I 2 (nI 0))) (va_up F1 0 fz) J q.2 hn hist sv n ic on oc from by
      obtain ⟨g0, g1, g2, g3, g4, g5⟩ := hR
      refine ⟨hSz, ⟨g1.1, g1.2.1, by show ∀ k, k < hn → fS (fun j => F1 4 (81 * k + j)) (hist k); rw [k4]; exact g1.2.2⟩, ?_, ⟨g3.1, g3.2.1, by show ∀ i, i < on → F1 5 i = oc i; rw [k5]; exact g3.2.2⟩, ⟨g4.1, g4.2.1, by show ∀ i, i < n → F1 6 i = ic i; rw [k6]; exact g4.2.2⟩, g5⟩
      cases sv with
      | none => exact g2
      | some T => exact ⟨g2.1, by show fS (F1 3) T; rw [k3]; exact g2.2⟩)
    refine WW.callV [.int q.1] m [] rfl mX3_80 (sM_endsT hMz fB hW hWh R2 rfl q.1) (wdRecv.obj hMz.1 rfl) rfl rfl (wd_le rfl) (wd_le rfl) (wd_le rfl) (wd_le rfl) (fun o w9 hq => ?_)
    obtain ⟨rfl, h9, fr9⟩ := hq
    show WW _ _ _ 13 _ [.int q.1] _
    exact WW.iret rfl rfl rfl ⟨rfl, (fr0.trans frz).trans fr9, h9⟩
end
