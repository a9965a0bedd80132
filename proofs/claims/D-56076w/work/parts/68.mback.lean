set_option maxRecDepth 100000
/-! THE MODEL: feeding, going back, saving, signs written -/
section
variable {l : Launch} {G : wdG} {w : wdW} {m : Nat} {A : Nat → Nat} {I : Nat → Int32} {F : Nat → Nat → Int32} {J : Nat → Int32} {cur S : aS} {hn : Nat} {hist : Nat → aS} {sv : Option aS} {n : Nat} {ic : Nat → Int32} {on : Nat} {oc : Nat → Int32} {t : Int32}
theorem mQ_feed (h : isMm w m A t J cur hn hist sv n ic on oc) (c : Int32) (hc : vp_nar .char c = c) : Sp l G MX3_feed 6 0 0 [.ref m, .int c] w (fun o w' => mFr m A w w' ∧ if n < 60 then o = .inl (some (.int (nI (n + 1)))) ∧ isMm w' m A (nI 0) J cur hn hist sv (n + 1) (va_up ic n c) on oc else o = .inl (some (.int (nI 0))) ∧ isMm w' m A (nI 1) J cur hn hist sv n ic on oc) := by
  obtain ⟨I, F, hM, ht, hR⟩ := h
  have h4 : I 4 = nI n := hR.2.2.2.2.1.1
  have h60 : n ≤ 60 := hR.2.2.2.2.1.2.1
  refine Sp.of rfl (by decide +kernel) kX3_feed (wd_le rfl) ?_
  refine WW.run (pc' := 2) (lv' := [(0, .ref m), (1, .int c)]) (st' := [.ref m, .ref m]) 2 rfl ?_
  refine WW.get rfl fX3_182 hM.1 (show _ = some (.int (I 4)) from rfl) ?_
  refine WW.run (pc' := 7) (lv' := [(0, .ref m), (1, .int c)]) (st' := [.int (nI 60), .int (I 4), .ref m]) 1 rfl ?_
  rw [h4]
  by_cases e : n = 60
  · skip
    refine WW.icmp_ne (tgt := 14) rfl rfl (fun hno => absurd (by rw [e]) hno) (fun _ => ?_)
    refine WW.run (pc' := 15) (lv' := [(0, .ref m), (1, .int c)]) (st' := [.int (nI 1), .ref m]) 2 rfl ?_
    refine WW.mputI 2 rfl pfX3_42 hM rfl rfl rfl rfl (fun w1 hM1 fr1 => ?_)
    refine WW.run (pc' := 19) (lv' := [(0, .ref m), (1, .int c)]) (st' := [.ref m]) 1 rfl ?_
    refine WW.get rfl fX3_42 hM1.1 (show _ = some (.int (nI 1)) from rfl) ?_
    refine WW.if_le (tgt := 27) rfl rfl (fun hno => absurd hno (by decide)) (fun _ => ?_)
    refine WW.run (pc' := 26) (lv' := [(0, .ref m), (1, .int c)]) (st' := [.int (nI 0)]) 1 rfl ?_
    exact WW.iret rfl rfl rfl ⟨fr1, by rw [if_neg (show ¬ n < 60 by omega)]; exact ⟨rfl, _, _, hM1, rfl, hR.i2 _⟩⟩
  · skip
    have e2 : n < 60 := by omega
    refine WW.icmp_ne (tgt := 14) rfl rfl (fun _ => ?_) (fun hno => absurd hno (fun q => e ((nI_eq (by omega) (by decide)).mp q)))
    refine WW.run (pc' := 15) (lv' := [(0, .ref m), (1, .int c)]) (st' := [.int (nI 0), .ref m]) 1 rfl ?_
    refine WW.mputI 2 rfl pfX3_42 hM rfl rfl rfl rfl (fun w2 hM2 fr2 => ?_)
    refine WW.run (pc' := 19) (lv' := [(0, .ref m), (1, .int c)]) (st' := [.ref m]) 1 rfl ?_
    refine WW.get rfl fX3_42 hM2.1 (show _ = some (.int (nI 0)) from rfl) ?_
    refine WW.if_le (tgt := 27) rfl rfl (fun _ => ?_) (fun hno => absurd (by decide) hno)
    refine WW.run (pc' := 28) (lv' := [(0, .ref m), (1, .int c)]) (st' := [.ref m]) 1 rfl ?_
    refine WW.get rfl fX3_29 hM2.1 (show _ = some (.ref (A 6)) from rfl) ?_
    refine WW.run (pc' := 32) (lv' := [(0, .ref m), (1, .int c)]) (st' := [.ref m, .ref (A 6)]) 1 rfl ?_
    refine WW.get rfl fX3_182 hM2.1 (show _ = some (.int ((va_up I 2 (nI 0)) 4)) from rfl) ?_
    refine WW.run (pc' := 36) (lv' := [(0, .ref m), (1, .int c)]) (st' := [.int c, .int ((va_up I 2 (nI 0)) 4), .ref (A 6)]) 1 rfl ?_
    rw [show (va_up I 2 (nI 0)) 4 = nI n from h4]
    refine WW.mcst 6 n rfl hM2 (by decide) rfl rfl (by show _ < 60; omega) (by decide) hc (fun w3 hM3 fr3 => ?_)
    refine WW.run (pc' := 39) (lv' := [(0, .ref m), (1, .int c)]) (st' := [.ref m, .ref m]) 2 rfl ?_
    refine WW.get rfl fX3_182 hM3.1 (show _ = some (.int ((va_up I 2 (nI 0)) 4)) from rfl) ?_
    refine WW.run (pc' := 44) (lv' := [(0, .ref m), (1, .int c)]) (st' := [.int (((va_up I 2 (nI 0)) 4) + (nI 1)), .ref m]) 2 rfl ?_
    rw [show (va_up I 2 (nI 0)) 4 = nI n from h4]
    rw [nI_add]
    refine WW.mputI 4 rfl pfX3_182 hM3 rfl rfl rfl rfl (fun w4 hM4 fr4 => ?_)
    refine WW.run (pc' := 48) (lv' := [(0, .ref m), (1, .int c)]) (st' := [.ref m]) 1 rfl ?_
    refine WW.get rfl fX3_182 hM4.1 (show _ = some (.int (nI (n + 1))) from rfl) ?_
    have hR2 : mR (va_up (va_up I 2 (nI 0)) 4 (nI (n + 1))) (va_up F 6 (va_up (F 6) n c)) J cur hn hist sv (n + 1) (va_up ic n c) on oc := (by
      obtain ⟨g0, g1, g2, g3, ⟨g4, g5, g6⟩, g7⟩ := hR
      refine ⟨g0, g1, g2, g3, ⟨rfl, e2, fun i hi => ?_⟩, g7⟩
      show va_up (F 6) n c i = va_up ic n c i
      by_cases q : i = n
      · rw [q, va_up_self, va_up_self]
      · rw [va_up_ne _ _ q, va_up_ne _ _ q]
        exact g6 i (by omega))
    exact WW.iret rfl rfl rfl ⟨((fr2.trans fr3).trans fr4), by rw [if_pos e2]; exact ⟨rfl, _, _, hM4, rfl, hR2⟩⟩
theorem mQ_undo (h : isMm w m A t J cur hn hist sv n ic on oc) (hWh : ∀ k, k < hn → aWf (hist k)) : Sp l G MX3_undo 6 0 0 [.ref m] w (fun o w' => mFr m A w w' ∧ if hn = 0 then o = .inl (some (.int (nI 0))) ∧ isMm w' m A (nI 1) J cur hn hist sv n ic on oc else o = .inl (some (.int (nI (hn - 1)))) ∧ isMm w' m A (nI 0) J (hist (hn - 1)) (hn - 1) hist sv n ic on oc) := by
  obtain ⟨I, F, hM, ht, hR⟩ := h
  have h1 : I 1 = nI hn := hR.2.1.2.1
  have h8 : hn ≤ 8 := hR.2.1.1
  refine Sp.of rfl (by decide +kernel) kX3_undo (wd_le rfl) ?_
  refine WW.run (pc' := 2) (lv' := [(0, .ref m)]) (st' := [.ref m, .ref m]) 2 rfl ?_
  refine WW.get rfl fX3_51 hM.1 (show _ = some (.int (I 1)) from rfl) ?_
  rw [h1]
  by_cases e : hn = 0
  · skip
    refine WW.if_ne (tgt := 12) rfl rfl (fun hno => absurd (by rw [e]; rfl) hno) (fun _ => ?_)
    refine WW.run (pc' := 13) (lv' := [(0, .ref m)]) (st' := [.int (nI 1), .ref m]) 2 rfl ?_
    refine WW.mputI 2 rfl pfX3_42 hM rfl rfl rfl rfl (fun w5 hM5 fr5 => ?_)
    refine WW.run (pc' := 17) (lv' := [(0, .ref m)]) (st' := [.ref m]) 1 rfl ?_
    refine WW.get rfl fX3_42 hM5.1 (show _ = some (.int (nI 1)) from rfl) ?_
    refine WW.if_le (tgt := 25) rfl rfl (fun hno => absurd hno (by decide)) (fun _ => ?_)
    refine WW.run (pc' := 24) (lv' := [(0, .ref m)]) (st' := [.int (nI 0)]) 1 rfl ?_
    exact WW.iret rfl rfl rfl ⟨fr5, by rw [if_pos e]; exact ⟨rfl, _, _, hM5, rfl, hR.i2 _⟩⟩
  · skip
    refine WW.if_ne (tgt := 12) rfl rfl (fun _ => ?_) (fun hno => absurd hno (fun q => e ((nI_eq (a := hn) (b := 0) (by omega) (by decide)).mp q)))
    refine WW.run (pc' := 13) (lv' := [(0, .ref m)]) (st' := [.int (nI 0), .ref m]) 1 rfl ?_
    refine WW.mputI 2 rfl pfX3_42 hM rfl rfl rfl rfl (fun w6 hM6 fr6 => ?_)
    refine WW.run (pc' := 17) (lv' := [(0, .ref m)]) (st' := [.ref m]) 1 rfl ?_
    refine WW.get rfl fX3_42 hM6.1 (show _ = some (.int (nI 0)) from rfl) ?_
    refine WW.if_le (tgt := 25) rfl rfl (fun _ => ?_) (fun hno => absurd (by decide) hno)
    refine WW.run (pc' := 27) (lv' := [(0, .ref m)]) (st' := [.ref m, .ref m]) 2 rfl ?_
    refine WW.get rfl fX3_51 hM6.1 (show _ = some (.int ((va_up I 2 (nI 0)) 1)) from rfl) ?_
    refine WW.run (pc' := 32) (lv' := [(0, .ref m)]) (st' := [.int (((va_up I 2 (nI 0)) 1) - (nI 1)), .ref m]) 2 rfl ?_
    rw [show (va_up I 2 (nI 0)) 1 = nI hn from h1]
    rw [(wn_sub rfl rfl (by omega) : nI hn - nI 1 = nI (hn - 1))]
    refine WW.mputI 1 rfl pfX3_51 hM6 rfl rfl rfl rfl (fun w7 hM7 fr7 => ?_)
    refine WW.run (pc' := 36) (lv' := [(0, .ref m)]) (st' := [.ref m]) 1 rfl ?_
    refine WW.get rfl fX3_22 hM7.1 (show _ = some (.ref (A 4)) from rfl) ?_
    refine WW.run (pc' := 42) (lv' := [(0, .ref m)]) (st' := [.ref m, .int (nI 81), .ref (A 4)]) 2 rfl ?_
    refine WW.get rfl fX3_51 hM7.1 (show _ = some (.int (nI (hn - 1))) from rfl) ?_
    refine WW.run (pc' := 47) (lv' := [(0, .ref m)]) (st' := [.ref m, .int ((nI 81) * (nI (hn - 1))), .ref (A 4)]) 2 rfl ?_
    refine WW.get rfl fX3_9 hM7.1 (show _ = some (.ref (A 0)) from rfl) ?_
    refine WW.run (pc' := 53) (lv' := [(0, .ref m)]) (st' := [.int (nI 81), .int (nI 0), .ref (A 0), .int ((nI 81) * (nI (hn - 1))), .ref (A 4)]) 2 rfl ?_
    refine WW.mcopy 4 0 (81 * (hn - 1)) 0 81 rfl mX3_45 hM7 (by decide) (by decide) rfl rfl (wn_mul rfl rfl) rfl rfl (by show 81 * (hn - 1) + 81 ≤ 648; omega) (by decide) (wd_le rfl) (wd_le rfl) (fun w8 hM8 fr8 => ?_)
    refine WW.run (pc' := 57) (lv' := [(0, .ref m)]) (st' := [.ref m]) 1 rfl ?_
    refine WW.get rfl fX3_51 hM8.1 (show _ = some (.int (nI (hn - 1))) from rfl) ?_
    have hR2 : ∀ F', F' 0 = va_cpy (F 4) (F 0) (81 * (hn - 1)) 0 81 → F' 3 = F 3 → F' 4 = F 4 → F' 5 = F 5 → F' 6 = F 6 → mR (va_up (va_up I 2 (nI 0)) 1 (nI (hn - 1))) F' J (hist (hn - 1)) (hn - 1) hist sv n ic on oc := (by
      intro F' f0 f3 f4 f5 f6
      obtain ⟨g0, ⟨g1, g2, g3⟩, g4, ⟨g5, g6, g7⟩, ⟨g8, g9, g10⟩, g11, g12, g13⟩ := hR
      refine ⟨?_, ⟨by omega, rfl, fun k hk => by rw [f4]; exact g3 k (by omega)⟩, ?_, ⟨g5, g6, by rw [f5]; exact g7⟩, ⟨g8, g9, by rw [f6]; exact g10⟩, g11, g12, g13⟩
      · rw [f0]
        refine (g3 (hn - 1) (by omega)).cong (hWh (hn - 1) (by omega)) (fun j hj => ?_)
        have := cpy_in (F 4) (F 0) (sp := 81 * (hn - 1)) (dp := 0) hj
        rw [Nat.zero_add] at this
        exact this
      · cases sv with
        | none => exact g4
        | some T => exact ⟨g4.1, by rw [f3]; exact g4.2⟩)
    exact WW.iret rfl rfl rfl ⟨((fr6.trans fr7).trans fr8), by rw [if_neg e]; exact ⟨rfl, _, _, hM8, rfl, hR2 _ rfl rfl rfl rfl rfl⟩⟩
theorem mQ_save (h : isMm w m A t J cur hn hist sv n ic on oc) (hW : aWf cur) : Sp l G MX3_save 6 0 0 [.ref m] w (fun o w' => mFr m A w w' ∧ o = .inl (some (.int (nI cur.nl))) ∧ isMm w' m A (nI 0) J cur hn hist (some cur) n ic on oc) := by
  obtain ⟨I, F, hM, ht, hR⟩ := h
  have hS := hR.1
  refine Sp.of rfl (by decide +kernel) kX3_save (wd_le rfl) ?_
  refine WW.run (pc' := 2) (lv' := [(0, .ref m)]) (st' := [.int (nI 0), .ref m]) 2 rfl ?_
  refine WW.mputI 2 rfl pfX3_42 hM rfl rfl rfl rfl (fun w9 hM9 fr9 => ?_)
  refine WW.run (pc' := 6) (lv' := [(0, .ref m)]) (st' := [.ref m]) 1 rfl ?_
  refine WW.get rfl fX3_9 hM9.1 (show _ = some (.ref (A 0)) from rfl) ?_
  refine WW.run (pc' := 11) (lv' := [(0, .ref m)]) (st' := [.ref m, .int (nI 0), .ref (A 0)]) 2 rfl ?_
  refine WW.get rfl fX3_19 hM9.1 (show _ = some (.ref (A 3)) from rfl) ?_
  refine WW.run (pc' := 17) (lv' := [(0, .ref m)]) (st' := [.int (nI 81), .int (nI 0), .ref (A 3), .int (nI 0), .ref (A 0)]) 2 rfl ?_
  refine WW.mcopy 0 3 0 0 81 rfl mX3_45 hM9 (by decide) (by decide) rfl rfl rfl rfl rfl (by decide) (by decide) (wd_le rfl) (wd_le rfl) (fun w10 hM10 fr10 => ?_)
  refine WW.run (pc' := 22) (lv' := [(0, .ref m)]) (st' := [.int (nI 1), .ref m]) 2 rfl ?_
  refine WW.mputI 0 rfl pfX3_254 hM10 rfl rfl rfl rfl (fun w11 hM11 fr11 => ?_)
  refine WW.run (pc' := 26) (lv' := [(0, .ref m)]) (st' := [.ref m]) 1 rfl ?_
  refine WW.get rfl fX3_9 hM11.1 (show _ = some (.ref (A 0)) from rfl) ?_
  refine WW.run (pc' := 30) (lv' := [(0, .ref m)]) (st' := [.int (nI 1), .ref (A 0)]) 1 rfl ?_
  refine WW.mald 0 1 rfl hM11 (by decide) rfl rfl (by decide) (by decide) (show ((va_up F 3 (va_cpy (F 0) (F 3) 0 0 81)) 0) 1 = nI cur.nl from hS.1.2.1) ?_
  have hR2 : ∀ I' F', I' 0 = nI 1 → I' 1 = I 1 → I' 3 = I 3 → I' 4 = I 4 → I' 7 = I 7 → I' 8 = I 8 → I' 9 = I 9 → F' 0 = F 0 → F' 3 = va_cpy (F 0) (F 3) 0 0 81 → F' 4 = F 4 → F' 5 = F 5 → F' 6 = F 6 → mR I' F' J cur hn hist (some cur) n ic on oc := (by
    intro I' F' i0 i1 i3 i4 i7 i8 i9 f0 f3 f4 f5 f6
    obtain ⟨g0, ⟨g1, g2, g3⟩, g4, ⟨g5, g6, g7⟩, ⟨g8, g9, g10⟩, g11, g12, g13⟩ := hR
    exact ⟨by rw [f0]; exact g0, ⟨g1, i1.trans g2, by rw [f4]; exact g3⟩, ⟨i0, by rw [f3]; exact g0.cpy0 hW _⟩, ⟨i3.trans g5, g6, by rw [f5]; exact g7⟩, ⟨i4.trans g8, g9, by rw [f6]; exact g10⟩, i7.trans g11, i8.trans g12, i9.trans g13⟩)
  exact WW.iret rfl rfl rfl ⟨((fr9.trans fr10).trans fr11), rfl, _, _, hM11, rfl, hR2 _ _ rfl rfl rfl rfl rfl rfl rfl rfl rfl rfl rfl rfl⟩
theorem mQ_restore (h : isMm w m A t J cur hn hist sv n ic on oc) (hWs : ∀ T, sv = some T → aWf T) : Sp l G MX3_restore 6 0 0 [.ref m] w (fun o w' => mFr m A w w' ∧ match sv with | none => o = .inl (some (.int (nI 0))) ∧ isMm w' m A (nI 1) J cur hn hist sv n ic on oc | some T => o = .inl (some (.int (nI T.nl))) ∧ isMm w' m A (nI 0) J T 0 hist sv n ic on oc) := by
  obtain ⟨I, F, hM, ht, hR⟩ := h
  refine Sp.of rfl (by decide +kernel) kX3_restore (wd_le rfl) ?_
  refine WW.run (pc' := 2) (lv' := [(0, .ref m)]) (st' := [.ref m, .ref m]) 2 rfl ?_
  refine WW.get rfl fX3_254 hM.1 (show _ = some (.int (I 0)) from rfl) ?_
  cases sv with
  | none =>
    have h0 : I 0 = nI 0 := hR.2.2.1
    rw [h0]
    refine WW.if_eq (tgt := 12) rfl rfl (fun _ => ?_) (fun hno => absurd rfl hno)
    refine WW.run (pc' := 13) (lv' := [(0, .ref m)]) (st' := [.int (nI 1), .ref m]) 1 rfl ?_
    refine WW.mputI 2 rfl pfX3_42 hM rfl rfl rfl rfl (fun w12 hM12 fr12 => ?_)
    refine WW.run (pc' := 17) (lv' := [(0, .ref m)]) (st' := [.ref m]) 1 rfl ?_
    refine WW.get rfl fX3_42 hM12.1 (show _ = some (.int (nI 1)) from rfl) ?_
    refine WW.if_le (tgt := 25) rfl rfl (fun hno => absurd hno (by decide)) (fun _ => ?_)
    refine WW.run (pc' := 24) (lv' := [(0, .ref m)]) (st' := [.int (nI 0)]) 1 rfl ?_
    exact WW.iret rfl rfl rfl ⟨fr12, rfl, _, _, hM12, rfl, hR.i2 _⟩
  | some T =>
    have h0 : I 0 = nI 1 := hR.2.2.1.1
    have h3 : fS (F 3) T := hR.2.2.1.2
    have hWT := hWs T rfl
    rw [h0]
    refine WW.if_eq (tgt := 12) rfl rfl (fun hno => absurd hno (by decide)) (fun _ => ?_)
    refine WW.run (pc' := 13) (lv' := [(0, .ref m)]) (st' := [.int (nI 0), .ref m]) 2 rfl ?_
    refine WW.mputI 2 rfl pfX3_42 hM rfl rfl rfl rfl (fun w13 hM13 fr13 => ?_)
    refine WW.run (pc' := 17) (lv' := [(0, .ref m)]) (st' := [.ref m]) 1 rfl ?_
    refine WW.get rfl fX3_42 hM13.1 (show _ = some (.int (nI 0)) from rfl) ?_
    refine WW.if_le (tgt := 25) rfl rfl (fun _ => ?_) (fun hno => absurd (by decide) hno)
    refine WW.run (pc' := 26) (lv' := [(0, .ref m)]) (st' := [.ref m]) 1 rfl ?_
    refine WW.get rfl fX3_19 hM13.1 (show _ = some (.ref (A 3)) from rfl) ?_
    refine WW.run (pc' := 31) (lv' := [(0, .ref m)]) (st' := [.ref m, .int (nI 0), .ref (A 3)]) 2 rfl ?_
    refine WW.get rfl fX3_9 hM13.1 (show _ = some (.ref (A 0)) from rfl) ?_
    refine WW.run (pc' := 37) (lv' := [(0, .ref m)]) (st' := [.int (nI 81), .int (nI 0), .ref (A 0), .int (nI 0), .ref (A 3)]) 2 rfl ?_
    refine WW.mcopy 3 0 0 0 81 rfl mX3_45 hM13 (by decide) (by decide) rfl rfl rfl rfl rfl (by decide) (by decide) (wd_le rfl) (wd_le rfl) (fun w14 hM14 fr14 => ?_)
    refine WW.run (pc' := 42) (lv' := [(0, .ref m)]) (st' := [.int (nI 0), .ref m]) 2 rfl ?_
    refine WW.mputI 1 rfl pfX3_51 hM14 rfl rfl rfl rfl (fun w15 hM15 fr15 => ?_)
    have hl : (va_cpy (F 3) (F 0) 0 0 81) 1 = nI T.nl := (h3.cpy0 hWT (F 0)).1.2.1
    refine WW.run (pc' := 46) (lv' := [(0, .ref m)]) (st' := [.ref m]) 1 rfl ?_
    refine WW.get rfl fX3_9 hM15.1 (show _ = some (.ref (A 0)) from rfl) ?_
    refine WW.run (pc' := 50) (lv' := [(0, .ref m)]) (st' := [.int (nI 1), .ref (A 0)]) 1 rfl ?_
    refine WW.mald 0 1 rfl hM15 (by decide) rfl rfl (by decide) (by decide) (show (va_cpy (F 3) (F 0) 0 0 81) 1 = nI T.nl from hl) ?_
    have hR2 : ∀ I' F', I' 0 = I 0 → I' 1 = nI 0 → I' 3 = I 3 → I' 4 = I 4 → I' 7 = I 7 → I' 8 = I 8 → I' 9 = I 9 → F' 0 = va_cpy (F 3) (F 0) 0 0 81 → F' 3 = F 3 → F' 5 = F 5 → F' 6 = F 6 → mR I' F' J T 0 hist (some T) n ic on oc := (by
      intro I' F' i0 i1 i3 i4 i7 i8 i9 f0 f3 f5 f6
      obtain ⟨g0, ⟨g1, g2, g3⟩, g4, ⟨g5, g6, g7⟩, ⟨g8, g9, g10⟩, g11, g12, g13⟩ := hR
      exact ⟨by rw [f0]; exact h3.cpy0 hWT _, ⟨by omega, i1, fun k hk => absurd hk (Nat.not_lt_zero k)⟩, ⟨i0.trans h0, by rw [f3]; exact h3⟩, ⟨i3.trans g5, g6, by rw [f5]; exact g7⟩, ⟨i4.trans g8, g9, by rw [f6]; exact g10⟩, i7.trans g11, i8.trans g12, i9.trans g13⟩)
    exact WW.iret rfl rfl rfl ⟨((fr13.trans fr14).trans fr15), rfl, _, _, hM15, rfl, hR2 _ _ rfl rfl rfl rfl rfl rfl rfl rfl rfl rfl rfl⟩
theorem mQ_outputChar (h : isMm w m A t J cur hn hist sv n ic on oc) (hch : ∀ i, i < on → narrow .char (.int (oc i)) = .int (oc i)) (x : Int32) : Sp l G MX3_outputChar 6 0 0 [.ref m, .int x] w (mA m A J cur hn hist sv n ic on oc (.int (nI 32)) (bif inR x (nI 0) (nI on - nI 1) then .inr (.int (oc (tn x))) else .inl 1) w) := by
  obtain ⟨I, F, hM, ht, hR⟩ := h
  have h3 : I 3 = nI on := hR.2.2.2.1.1
  have h120 : on ≤ 120 := hR.2.2.2.1.2.1
  have hoc := hR.2.2.2.1.2.2
  refine Sp.of rfl (by decide +kernel) kX3_outputChar (wd_le rfl) ?_
  refine WW.run (pc' := 4) (lv' := [(0, .ref m), (1, .int x)]) (st' := [.ref m, .int (nI 0), .int x, .ref m]) 4 rfl ?_
  refine WW.get rfl fX3_172 hM.1 (show _ = some (.int (I 3)) from rfl) ?_
  refine WW.run (pc' := 9) (lv' := [(0, .ref m), (1, .int x)]) (st' := [.int ((I 3) - (nI 1)), .int (nI 0), .int x, .ref m]) 2 rfl ?_
  rw [h3]
  refine WW.callS [.int x, .int (nI 0), .int ((nI on) - (nI 1))] [.ref m] rfl mX3_54 (sM_in x (nI 0) (nI on - nI 1)) rfl rfl (wd_le rfl) (wd_le rfl) (wd_le rfl) (wd_le rfl) (fun o w' hq => ?_)
  obtain ⟨rfl, hw9⟩ := hq
  show WW _ _ _ 12 _ [.int (bI (inR x (nI 0) (nI on - nI 1))), .ref m] _
  rw [hw9]
  clear hw9 w'
  cases hx : inR x (nI 0) (nI on - nI 1) with
  | false =>
    refine WW.callV [.int (bI (false))] m [] rfl mX3_144 (sM_isThere hM false) (wdRecv.obj hM.1 rfl) rfl rfl (wd_le rfl) (wd_le rfl) (wd_le rfl) (wd_le rfl) (fun o w' hq => ?_)
    obtain ⟨_, I16, F16, rfl, ⟨rfl, hI16, hF16⟩, hM16, fr16⟩ := hq
    rw [hI16, hF16] at hM16
    clear hI16 hF16 I16 F16
    show WW _ _ _ 15 _ [.int (bI false)] _
    refine WW.if_eq (tgt := 27) rfl rfl (fun _ => ?_) (fun hno => absurd rfl hno)
    refine WW.run (pc' := 29) (lv' := [(0, .ref m), (1, .int x)]) (st' := [.int (nI 32)]) 1 rfl ?_
    exact WW.iret rfl rfl rfl ⟨rfl, ⟨_, _, hM16, rfl, hR.i2 _⟩, fr16⟩
  | true =>
    obtain ⟨j, hj, rfl, tx⟩ := ix_at (by omega) hx
    rw [tx]
    refine WW.callV [.int (bI (true))] m [] rfl mX3_144 (sM_isThere hM true) (wdRecv.obj hM.1 rfl) rfl rfl (wd_le rfl) (wd_le rfl) (wd_le rfl) (wd_le rfl) (fun o w' hq => ?_)
    obtain ⟨_, I17, F17, rfl, ⟨rfl, hI17, hF17⟩, hM17, fr17⟩ := hq
    rw [hI17, hF17] at hM17
    clear hI17 hF17 I17 F17
    show WW _ _ _ 15 _ [.int (bI true)] _
    refine WW.if_eq (tgt := 27) rfl rfl (fun hno => absurd hno (by decide)) (fun _ => ?_)
    refine WW.run (pc' := 19) (lv' := [(0, .ref m), (1, .int (nI j))]) (st' := [.ref m]) 1 rfl ?_
    refine WW.get rfl fX3_25 hM17.1 (show _ = some (.ref (A 5)) from rfl) ?_
    refine WW.run (pc' := 23) (lv' := [(0, .ref m), (1, .int (nI j))]) (st' := [.int (nI j), .ref (A 5)]) 1 rfl ?_
    refine WW.mcld 5 j rfl hM17 (by decide) rfl rfl (by show _ < 120; omega) (by decide) (show (F 5) j = oc j from hoc j hj) ?_
    refine WW.run (pc' := 29) (lv' := [(0, .ref m), (1, .int (nI j))]) (st' := [.int (oc j)]) 1 rfl ?_
    exact WW.iret rfl rfl (hch j hj) ⟨rfl, ⟨_, _, hM17, rfl, hR.i2 _⟩, fr17⟩
end
