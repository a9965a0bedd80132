set_option maxRecDepth 100000
/-! THE MODEL's FORECASTS -/
def aS.darkM : Nat → aS → Nat → Option Nat
  | 0, _, _ => none
  | n + 1, S, h => bif decide (nI 0 < S.leased) then (bif decide (S.needs ≤ S.oil) then aS.darkM n S.step (h + 1) else some h) else none
def oR (o : Option Nat) : Nat ⊕ Value := match o with
  | none => .inl 1
  | some h => .inr (.int (nI h))
section
variable {l : Launch} {G : wdG} {w : wdW} {m : Nat} {A : Nat → Nat} {I : Nat → Int32} {F : Nat → Nat → Int32} {J : Nat → Int32} {cur : aS} {hn : Nat} {hist : Nat → aS} {sv : Option aS} {n : Nat} {ic : Nat → Int32} {on : Nat} {oc : Nat → Int32} {t : Int32}
theorem sM_darkTail {u : wdW} {F2 : Nat → Nat → Int32} {S : aS} {h : Nat} (hR : mR I F J cur hn hist sv n ic on oc) (hWc : aWf cur) (hM : isM u m A I F2) (hS : fS (F2 0) S) (hA : fS (F2 2) cur) (k3 : F2 3 = F 3) (k4 : F2 4 = F 4) (k5 : F2 5 = F 5) (k6 : F2 6 = F 6) (hW : aWf S) (fr : mFr m A w u) {r : Nat ⊕ Value} (hr : r = bif decide (nI 0 < S.leased) then .inr (.int (nI h)) else .inl 1) : WW (l, G, MX3_hoursOfOil, 6, 0, 0, mA m A J cur hn hist sv n ic on oc (.int (nI 0)) r w) 0 0 53 [(1, .int (nI h)), (0, .ref m)] [] u := by
  refine WW.run (pc' := 54) (lv' := [(1, .int (nI h)), (0, .ref m)]) (st' := [.ref m]) 1 rfl ?_
  refine WW.callV [] m [] rfl mX3_151 (sM_leased hM hS hW) (wdRecv.obj hM.1 rfl) rfl rfl (wd_le rfl) (wd_le rfl) (wd_le rfl) (wd_le rfl) (fun o w' hq => ?_)
  obtain ⟨rfl, hw9⟩ := hq
  show WW _ _ _ 57 _ [.int S.leased] _
  rw [hw9]
  clear hw9 w'
  refine WW.join (pc' := 65) (lv' := [(1, .int (nI h)), (0, .ref m)]) (st' := [.int (bI (decide (nI 0 < S.leased)))]) ?_ ?_
  rotate_left
  · cases hb : (decide (nI 0 < S.leased)) with
    | false =>
      intro H
      refine WW.if_le (tgt := 64) rfl rfl (fun _ => ?_) (fun hno => absurd (Int32.not_lt.mp (of_decide_eq_false hb)) hno)
      refine WW.run (pc' := 65) (lv' := [(1, .int (nI h)), (0, .ref m)]) (st' := [.int (nI 0)]) 1 rfl ?_
      exact H
    | true =>
      intro H
      refine WW.if_le (tgt := 64) rfl rfl (fun hno => absurd hno (Int32.not_le.mpr (of_decide_eq_true hb))) (fun _ => ?_)
      refine WW.run (pc' := 65) (lv' := [(1, .int (nI h)), (0, .ref m)]) (st' := [.int (nI 1)]) 2 rfl ?_
      exact H
  generalize decide (nI 0 < S.leased) = b at hr
  refine WW.run (pc' := 67) (lv' := [(2, .int (bI (b))), (1, .int (nI h)), (0, .ref m)]) (st' := [.ref m]) 2 rfl ?_
  refine WW.get rfl fX3_16 hM.1 (show _ = some (.ref (A 2)) from rfl) ?_
  refine WW.run (pc' := 72) (lv' := [(2, .int (bI (b))), (1, .int (nI h)), (0, .ref m)]) (st' := [.ref m, .int (nI 0), .ref (A 2)]) 2 rfl ?_
  refine WW.get rfl fX3_9 hM.1 (show _ = some (.ref (A 0)) from rfl) ?_
  refine WW.run (pc' := 78) (lv' := [(2, .int (bI (b))), (1, .int (nI h)), (0, .ref m)]) (st' := [.int (nI 81), .int (nI 0), .ref (A 0), .int (nI 0), .ref (A 2)]) 2 rfl ?_
  refine WW.mcopy 2 0 0 0 81 rfl mX3_45 hM (by decide) (by decide) rfl rfl rfl rfl rfl (by decide) (by decide) (wd_le rfl) (wd_le rfl) (fun w1 hM1 fr1 => ?_)
  refine WW.run (pc' := 83) (lv' := [(2, .int (bI (b))), (1, .int (nI h)), (0, .ref m)]) (st' := [.int (bI (b)), .ref m]) 2 rfl ?_
  have k0 : fS (va_cpy (F2 2) (F2 0) 0 0 81) cur := hA.cpy0 hWc _
  cases b with
  | false =>
    subst hr
    refine WW.callV [.int (bI (false))] m [] rfl mX3_144 (sM_isThere hM1 false) (wdRecv.obj hM1.1 rfl) rfl rfl (wd_le rfl) (wd_le rfl) (wd_le rfl) (wd_le rfl) (fun o w' hq => ?_)
    obtain ⟨_, I2, F2, rfl, ⟨rfl, hI2, hF2⟩, hM2, fr2⟩ := hq
    rw [hI2, hF2] at hM2
    clear hI2 hF2 I2 F2
    show WW _ _ _ 86 _ [.int (bI false)] _
    refine WW.if_eq (tgt := 93) rfl rfl (fun _ => ?_) (fun hno => absurd rfl hno)
    refine WW.run (pc' := 94) (lv' := [(2, .int (bI (false))), (1, .int (nI h)), (0, .ref m)]) (st' := [.int (nI 0)]) 1 rfl ?_
    exact WW.iret rfl rfl rfl ⟨rfl, ⟨_, _, hM2, rfl, hR.to rfl rfl rfl rfl rfl rfl rfl k0 k3 k4 k5 k6⟩, ((fr.trans fr1).trans fr2)⟩
  | true =>
    subst hr
    refine WW.callV [.int (bI (true))] m [] rfl mX3_144 (sM_isThere hM1 true) (wdRecv.obj hM1.1 rfl) rfl rfl (wd_le rfl) (wd_le rfl) (wd_le rfl) (wd_le rfl) (fun o w' hq => ?_)
    obtain ⟨_, I3, F3, rfl, ⟨rfl, hI3, hF3⟩, hM3, fr3⟩ := hq
    rw [hI3, hF3] at hM3
    clear hI3 hF3 I3 F3
    show WW _ _ _ 86 _ [.int (bI true)] _
    refine WW.if_eq (tgt := 93) rfl rfl (fun hno => absurd hno (by decide)) (fun _ => ?_)
    refine WW.run (pc' := 94) (lv' := [(2, .int (bI (true))), (1, .int (nI h)), (0, .ref m)]) (st' := [.int (nI h)]) 2 rfl ?_
    exact WW.iret rfl rfl rfl ⟨rfl, ⟨_, _, hM3, rfl, hR.to rfl rfl rfl rfl rfl rfl rfl k0 k3 k4 k5 k6⟩, ((fr.trans fr1).trans fr3)⟩
theorem sM_darkLoop (hR : mR I F J cur hn hist sv n ic on oc) (hWc : aWf cur) : ∀ (k : Nat) (S : aS) (h : Nat) (u : wdW) (F2 : Nat → Nat → Int32), aEnds k S → aWf S → isM u m A I F2 → fS (F2 0) S → fS (F2 2) cur → F2 3 = F 3 → F2 4 = F 4 → F2 5 = F 5 → F2 6 = F 6 → mFr m A w u → k < 2 ^ 30 → WW (l, G, MX3_hoursOfOil, 6, 0, 0, mA m A J cur hn hist sv n ic on oc (.int (nI 0)) (oR (S.darkM k h)) w) 0 0 17 [(1, .int (nI h)), (0, .ref m)] [] u := by
  intro k
  induction k with
  | zero =>
    intro S h u F2 hE hW hM hS hA k3 k4 k5 k6 fr hk
    have hz : S.leased = nI 0 := leased_none (fun i hi => by
      by_cases e : 0 < (S.la i).le
      · obtain ⟨d, h1, h2, -⟩ := hE i hi e
        omega
      · omega)
    refine WW.run (pc' := 18) (lv' := [(1, .int (nI h)), (0, .ref m)]) (st' := [.ref m]) 1 rfl ?_
    refine WW.callV [] m [] rfl mX3_151 (sM_leased hM hS hW) (wdRecv.obj hM.1 rfl) rfl rfl (wd_le rfl) (wd_le rfl) (wd_le rfl) (wd_le rfl) (fun o w' hq => ?_)
    obtain ⟨rfl, hw9⟩ := hq
    show WW _ _ _ 21 _ [.int S.leased] _
    rw [hw9]
    clear hw9 w'
    refine WW.if_le (tgt := 53) rfl rfl (fun _ => ?_) (fun hno => absurd (by rw [hz]; decide) hno)
    exact sM_darkTail hR hWc hM hS hA k3 k4 k5 k6 hW fr (by rw [hz]; rfl)
  | succ k ih =>
    intro S h u F2 hE hW hM hS hA k3 k4 k5 k6 fr hk
    have e : S.darkM (k + 1) h = bif decide (nI 0 < S.leased) then (bif decide (S.needs ≤ S.oil) then aS.darkM k S.step (h + 1) else some h) else none := rfl
    refine WW.run (pc' := 18) (lv' := [(1, .int (nI h)), (0, .ref m)]) (st' := [.ref m]) 1 rfl ?_
    refine WW.callV [] m [] rfl mX3_151 (sM_leased hM hS hW) (wdRecv.obj hM.1 rfl) rfl rfl (wd_le rfl) (wd_le rfl) (wd_le rfl) (wd_le rfl) (fun o w' hq => ?_)
    obtain ⟨rfl, hw9⟩ := hq
    show WW _ _ _ 21 _ [.int S.leased] _
    rw [hw9]
    clear hw9 w'
    by_cases h1 : nI 0 < S.leased
    · skip
      rw [decide_eq_true h1] at e
      refine WW.if_le (tgt := 53) rfl rfl (fun hno => absurd hno (Int32.not_le.mpr h1)) (fun _ => ?_)
      refine WW.run (pc' := 25) (lv' := [(1, .int (nI h)), (0, .ref m)]) (st' := [.ref m]) 1 rfl ?_
      refine WW.callV [] m [] rfl mX3_154 (sM_needed hM hS hW) (wdRecv.obj hM.1 rfl) rfl rfl (wd_le rfl) (wd_le rfl) (wd_le rfl) (wd_le rfl) (fun o w' hq => ?_)
      obtain ⟨rfl, hw9⟩ := hq
      show WW _ _ _ 28 _ [.int S.needs] _
      rw [hw9]
      clear hw9 w'
      refine WW.run (pc' := 29) (lv' := [(1, .int (nI h)), (0, .ref m)]) (st' := [.ref m, .int S.needs]) 1 rfl ?_
      refine WW.get rfl fX3_9 hM.1 (show _ = some (.ref (A 0)) from rfl) ?_
      refine WW.run (pc' := 33) (lv' := [(1, .int (nI h)), (0, .ref m)]) (st' := [.int (nI 2), .ref (A 0), .int S.needs]) 1 rfl ?_
      refine WW.mald 0 2 rfl hM (by decide) rfl rfl (by decide) (by decide) (show (F2 0) 2 = S.oil from hS.1.2.2.1) ?_
      by_cases h2 : S.needs ≤ S.oil
      · skip
        rw [decide_eq_true h2] at e
        replace e : S.darkM (k + 1) h = aS.darkM k S.step (h + 1) := e
        rw [e]
        refine WW.icmp_gt (tgt := 53) rfl rfl (fun hno => absurd hno (Int32.not_lt.mpr h2)) (fun _ => ?_)
        obtain ⟨f2, hf2⟩ : ∃ f, f = F2 0 := ⟨_, rfl⟩
        have hM2 : isM u m A I (va_up F2 0 f2) := by rw [hf2, va_up_id]; exact hM
        have hS2 : fS f2 S := by rw [hf2]; exact hS
        refine WW.run (pc' := 38) (lv' := [(1, .int (nI h)), (0, .ref m)]) (st' := [.ref m]) 1 rfl ?_
        refine WW.callV [] m [] rfl mX3_132 (sS_burns hM2 hS2 hW) (wdRecv.obj hM2.1 rfl) rfl rfl (wd_le rfl) (wd_le rfl) (wd_le rfl) (wd_le rfl) (fun o wa hq => ?_)
        obtain ⟨fa, rfl, hSa, hMa, fra⟩ := hq
        show WW _ _ _ 41 _ [.int S.brights] _
        have hWa := hW.burnTo S.nl
        refine WW.run (pc' := 43) (lv' := [(2, .int S.brights), (1, .int (nI h)), (0, .ref m)]) (st' := [.ref m]) 2 rfl ?_
        refine WW.callV [] m [] rfl mX3_138 (sS_endsLeases hMa hSa hWa) (wdRecv.obj hMa.1 rfl) rfl rfl (wd_le rfl) (wd_le rfl) (wd_le rfl) (wd_le rfl) (fun o wb hq => ?_)
        obtain ⟨fb, rfl, hSb, hMb, frb⟩ := hq
        show WW _ _ _ 46 _ [.int (S.burn.tick.endN S.burn.tick.nl)] _
        refine WW.run (pc' := 17) (lv' := [(1, .int ((nI h) + nI 1)), (3, .int (S.burn.tick.endN S.burn.tick.nl)), (2, .int S.brights), (0, .ref m)]) (st' := []) 3 rfl ?_
        refine WW.pick (lv' := [(1, .int ((nI h) + nI 1)), (0, .ref m)]) [0, 3] rfl ?_
        rw [nI_add]
        exact ih S.step (h + 1) _ (va_up F2 0 fb) (hE.step (by omega)) hW.step hMb hSb hA k3 k4 k5 k6 ((fr.trans fra).trans frb) (by omega)
      · skip
        rw [decide_eq_false h2] at e
        replace e : S.darkM (k + 1) h = some h := e
        rw [e]
        refine WW.icmp_gt (tgt := 53) rfl rfl (fun _ => ?_) (fun hno => absurd (Int32.not_le.mp h2) hno)
        exact sM_darkTail hR hWc hM hS hA k3 k4 k5 k6 hW fr (by rw [decide_eq_true h1]; rfl)
    · skip
      rw [decide_eq_false h1] at e
      replace e : S.darkM (k + 1) h = none := e
      rw [e]
      refine WW.if_le (tgt := 53) rfl rfl (fun _ => ?_) (fun hno => absurd (Int32.not_lt.mp h1) hno)
      exact sM_darkTail hR hWc hM hS hA k3 k4 k5 k6 hW fr (by rw [decide_eq_false h1]; rfl)
theorem mQ_hoursOfOil (h : isMm w m A t J cur hn hist sv n ic on oc) (hW : aWf cur) (hE : aEnds 600 cur) : Sp l G MX3_hoursOfOil 6 0 0 [.ref m] w (mA m A J cur hn hist sv n ic on oc (.int (nI 0)) (oR (cur.darkM 600 0)) w) := by
  obtain ⟨I, F, hM, ht, hR⟩ := h
  have hS := hR.1
  refine Sp.of rfl (by decide +kernel) kX3_hoursOfOil (wd_le rfl) ?_
  refine WW.run (pc' := 1) (lv' := [(0, .ref m)]) (st' := [.ref m]) 1 rfl ?_
  refine WW.get rfl fX3_9 hM.1 (show _ = some (.ref (A 0)) from rfl) ?_
  refine WW.run (pc' := 6) (lv' := [(0, .ref m)]) (st' := [.ref m, .int (nI 0), .ref (A 0)]) 2 rfl ?_
  refine WW.get rfl fX3_16 hM.1 (show _ = some (.ref (A 2)) from rfl) ?_
  refine WW.run (pc' := 12) (lv' := [(0, .ref m)]) (st' := [.int (nI 81), .int (nI 0), .ref (A 2), .int (nI 0), .ref (A 0)]) 2 rfl ?_
  refine WW.mcopy 0 2 0 0 81 rfl mX3_45 hM (by decide) (by decide) rfl rfl rfl rfl rfl (by decide) (by decide) (wd_le rfl) (wd_le rfl) (fun w4 hM4 fr4 => ?_)
  refine WW.run (pc' := 17) (lv' := [(1, .int (nI 0)), (0, .ref m)]) (st' := []) 2 rfl ?_
  exact sM_darkLoop hR hW 600 cur 0 _ _ hE hW hM4 hS (hS.cpy0 hW _) rfl rfl rfl rfl fr4 (by decide)
theorem mQ_hoursOfOilByEnds (h : isMm w m A t J cur hn hist sv n ic on oc) (hW : aWf cur) (hE : aEnds 600 cur) : Sp l G MX3_hoursOfOilByEnds 7 0 0 [.ref m] w (mA m A J cur hn hist sv n ic on oc (.int (nI 0)) (oR (cur.darkM 600 0)) w) := by
  have h0 := h
  obtain ⟨I, F, hM, ht, hR⟩ := h
  obtain ⟨r, hr⟩ : ∃ r, r = oR (cur.darkM 600 0) := ⟨_, rfl⟩
  have hD := mQ_hoursOfOil (l := l) (G := G) h0 hW hE
  rw [← hr] at hD ⊢
  have hv : ∃ v : Int32, qV (.int (nI 0)) r = .int v := by
    rw [hr]
    cases cur.darkM 600 0 with
    | none => exact ⟨_, rfl⟩
    | some z => exact ⟨_, rfl⟩
  obtain ⟨v, hv⟩ := hv
  refine Sp.of rfl (by decide +kernel) kX3_hoursOfOilByEnds (wd_le rfl) ?_
  refine WW.run (pc' := 1) (lv' := [(0, .ref m)]) (st' := [.ref m]) 1 rfl ?_
  refine WW.callV [] m [] rfl mX3_157 hD (wdRecv.obj hM.1 rfl) rfl rfl (wd_le rfl) (wd_le rfl) (wd_le rfl) (wd_le rfl) (fun o w' hq => ?_)
  obtain ⟨rfl, h1, h2⟩ := hq
  rw [hv]
  show WW _ _ _ 4 _ [.int v] _
  exact WW.iret rfl rfl rfl ⟨by rw [hv], h1, h2⟩
theorem mQ_brightNext (h : isMm w m A t J cur hn hist sv n ic on oc) (hW : aWf cur) : Sp l G MX3_brightNext 6 0 0 [.ref m] w (mA m A J cur hn hist sv n ic on oc (.int (nI 0)) (.inr (.int cur.brights)) w) := by
  obtain ⟨I, F, hM, ht, hR⟩ := h
  have hS := hR.1
  refine Sp.of rfl (by decide +kernel) kX3_brightNext (wd_le rfl) ?_
  refine WW.run (pc' := 2) (lv' := [(0, .ref m)]) (st' := [.int (nI 0), .ref m]) 2 rfl ?_
  refine WW.mputI 2 rfl pfX3_42 hM rfl rfl rfl rfl (fun w5 hM5 fr5 => ?_)
  refine WW.run (pc' := 6) (lv' := [(0, .ref m)]) (st' := [.ref m]) 1 rfl ?_
  refine WW.get rfl fX3_9 hM5.1 (show _ = some (.ref (A 0)) from rfl) ?_
  refine WW.run (pc' := 11) (lv' := [(0, .ref m)]) (st' := [.ref m, .int (nI 0), .ref (A 0)]) 2 rfl ?_
  refine WW.get rfl fX3_16 hM5.1 (show _ = some (.ref (A 2)) from rfl) ?_
  refine WW.run (pc' := 17) (lv' := [(0, .ref m)]) (st' := [.int (nI 81), .int (nI 0), .ref (A 2), .int (nI 0), .ref (A 0)]) 2 rfl ?_
  refine WW.mcopy 0 2 0 0 81 rfl mX3_45 hM5 (by decide) (by decide) rfl rfl rfl rfl rfl (by decide) (by decide) (wd_le rfl) (wd_le rfl) (fun w6 hM6 fr6 => ?_)
  obtain ⟨F2, hF2⟩ : ∃ F2, F2 = va_up F 2 (va_cpy (F 0) (F 2) 0 0 81) := ⟨_, rfl⟩
  have hA : fS (F2 2) cur := by rw [hF2]; exact hS.cpy0 hW _
  have k3 : F2 3 = F 3 := by rw [hF2]; rfl
  have k4 : F2 4 = F 4 := by rw [hF2]; rfl
  have k5 : F2 5 = F 5 := by rw [hF2]; rfl
  have k6 : F2 6 = F 6 := by rw [hF2]; rfl
  have hS2 : fS (F2 0) cur := by rw [hF2]; exact hS
  have hMP := hM6
  have frP := (fr5.trans fr6)
  rw [← hF2] at hMP
  obtain ⟨f2, hf2⟩ : ∃ f, f = F2 0 := ⟨_, rfl⟩
  rw [← hf2] at hS2
  have hMQ : isM w6 m A (va_up I 2 (nI 0)) (va_up F2 0 f2) := by rw [hf2, va_up_id]; exact hMP
  refine WW.run (pc' := 21) (lv' := [(0, .ref m)]) (st' := [.ref m]) 1 rfl ?_
  refine WW.callV [] m [] rfl mX3_132 (sS_burns hMQ hS2 hW) (wdRecv.obj hMQ.1 rfl) rfl rfl (wd_le rfl) (wd_le rfl) (wd_le rfl) (wd_le rfl) (fun o wa hq => ?_)
  obtain ⟨fa, rfl, hSa, hMa, fra⟩ := hq
  show WW _ _ _ 24 _ [.int cur.brights] _
  have k2 : (va_up F2 0 fa) 2 = F2 2 := rfl
  obtain ⟨F3, hF3⟩ : ∃ F3, F3 = va_up F2 0 fa := ⟨_, rfl⟩
  have hMR := hMa
  have frQ := (frP.trans fra)
  rw [← hF3] at hMR k2
  have j3 : F3 3 = F 3 := by rw [hF3]; exact k3
  have j4 : F3 4 = F 4 := by rw [hF3]; exact k4
  have j5 : F3 5 = F 5 := by rw [hF3]; exact k5
  have j6 : F3 6 = F 6 := by rw [hF3]; exact k6
  rw [← k2] at hA
  refine WW.run (pc' := 26) (lv' := [(1, .int cur.brights), (0, .ref m)]) (st' := [.ref m]) 2 rfl ?_
  refine WW.get rfl fX3_16 hMR.1 (show _ = some (.ref (A 2)) from rfl) ?_
  refine WW.run (pc' := 31) (lv' := [(1, .int cur.brights), (0, .ref m)]) (st' := [.ref m, .int (nI 0), .ref (A 2)]) 2 rfl ?_
  refine WW.get rfl fX3_9 hMR.1 (show _ = some (.ref (A 0)) from rfl) ?_
  refine WW.run (pc' := 37) (lv' := [(1, .int cur.brights), (0, .ref m)]) (st' := [.int (nI 81), .int (nI 0), .ref (A 0), .int (nI 0), .ref (A 2)]) 2 rfl ?_
  refine WW.mcopy 2 0 0 0 81 rfl mX3_45 hMR (by decide) (by decide) rfl rfl rfl rfl rfl (by decide) (by decide) (wd_le rfl) (wd_le rfl) (fun w7 hM7 fr7 => ?_)
  refine WW.run (pc' := 41) (lv' := [(1, .int cur.brights), (0, .ref m)]) (st' := [.int cur.brights]) 1 rfl ?_
  exact WW.iret rfl rfl rfl ⟨rfl, ⟨_, _, hM7, rfl, hR.to rfl rfl rfl rfl rfl rfl rfl (hA.cpy0 hW _) j3 j4 j5 j6⟩, (frQ.trans fr7)⟩
theorem sM_mbLevel {Q : wdO → wdW → Prop} {S : aS} (tt oil cnt : Int32) (hM : isM w m A I F) (hS : fS (F 0) S) (hW : aWf S) (k : WW (l, G, MX3_mostBright, 6, 0, 0, Q) 0 0 99 [(3, .int tt), (2, .int (S.mb1 tt (oil, cnt) S.nl).2), (1, .int (S.mb1 tt (oil, cnt) S.nl).1), (0, .ref m)] [] w) : WW (l, G, MX3_mostBright, 6, 0, 0, Q) 0 0 24 [(4, .int (nI 0)), (3, .int tt), (2, .int cnt), (1, .int oil), (0, .ref m)] [] w := by
  have hn : S.nl < 2 ^ 31 := by have := hW.2.1; omega
  refine WW.up S.nl (fun i => [(4, .int (nI i)), (3, .int tt), (2, .int (S.mb1 tt (oil, cnt) i).2), (1, .int (S.mb1 tt (oil, cnt) i).1), (0, .ref m)]) (fun i hi ih => ?_) ?_
  · skip
    rw [show S.mb1 tt (oil, cnt) (i + 1) = ((S.mb1 tt (oil, cnt) i).1 - (bif S.mbB tt (S.mb1 tt (oil, cnt) i).1 i then tt else nI 0), (S.mb1 tt (oil, cnt) i).2 + (bif S.mbB tt (S.mb1 tt (oil, cnt) i).1 i then nI 1 else nI 0)) from rfl] at ih
    generalize S.mb1 tt (oil, cnt) i = p at ih
    obtain ⟨ol, cn⟩ := p
    have hl := hW.le hi
    refine WW.run (pc' := 27) (lv' := [(4, .int (nI i)), (3, .int tt), (2, .int cn), (1, .int ol), (0, .ref m)]) (st' := [.ref m, .int (nI i)]) 2 rfl ?_
    refine WW.get rfl fX3_9 hM.1 (show _ = some (.ref (A 0)) from rfl) ?_
    refine WW.run (pc' := 31) (lv' := [(4, .int (nI i)), (3, .int tt), (2, .int cn), (1, .int ol), (0, .ref m)]) (st' := [.int (nI 1), .ref (A 0), .int (nI i)]) 1 rfl ?_
    refine WW.mald 0 1 rfl hM (by decide) rfl rfl (by decide) (by decide) (show (F 0) 1 = nI S.nl from hS.1.2.1) ?_
    refine WW.icmp_ge (tgt := 99) rfl rfl (fun hno => absurd hno (nI_ge hi hn)) (fun _ => ?_)
    refine WW.run (pc' := 38) (lv' := [(4, .int (nI i)), (3, .int tt), (2, .int cn), (1, .int ol), (0, .ref m)]) (st' := [.int (nI i), .ref m]) 2 rfl ?_
    refine WW.callV [.int (nI i)] m [] rfl mX3_96 (sM_isOut hM hS hW hi) (wdRecv.obj hM.1 rfl) rfl rfl (wd_le rfl) (wd_le rfl) (wd_le rfl) (wd_le rfl) (fun o w' hq => ?_)
    obtain ⟨rfl, hw9⟩ := hq
    show WW _ _ _ 41 _ [.int (bI (Nat.blt 0 (S.la i).le))] _
    rw [hw9]
    clear hw9 w'
    refine WW.join (pc' := 65) (lv' := [(4, .int (nI i)), (3, .int tt), (2, .int cn), (1, .int ol), (0, .ref m)]) (st' := [.int (bI (S.mbB tt ol i))]) ?_ (fun H => ?_)
    rotate_left
    · skip
      unfold aS.mbB at H
      cases h0 : Nat.blt 0 (S.la i).le with
      | false =>
        refine WW.if_eq (tgt := 64) rfl rfl (fun _ => ?_) (fun hno => absurd rfl hno)
        refine WW.run (pc' := 65) (lv' := [(4, .int (nI i)), (3, .int tt), (2, .int cn), (1, .int ol), (0, .ref m)]) (st' := [.int (nI 0)]) 1 rfl ?_
        rw [h0] at H
        exact H
      | true =>
        refine WW.if_eq (tgt := 64) rfl rfl (fun hno => absurd hno (by decide)) (fun _ => ?_)
        refine WW.run (pc' := 48) (lv' := [(4, .int (nI i)), (3, .int tt), (2, .int cn), (1, .int ol), (0, .ref m)]) (st' := [.int (nI 0), .int (nI i), .ref m]) 3 rfl ?_
        rw [h0] at H
        refine WW.callV [.int (nI i), .int (nI 0)] m [] rfl mX3_58 (sM_lv hM hS hW hi) (wdRecv.obj hM.1 rfl) rfl rfl (wd_le rfl) (wd_le rfl) (wd_le rfl) (wd_le rfl) (fun o w' hq => ?_)
        obtain ⟨rfl, hw9⟩ := hq
        show WW _ _ _ 51 _ [.int ((S.la i).lv)] _
        rw [hw9]
        clear hw9 w'
        refine WW.run (pc' := 52) (lv' := [(4, .int (nI i)), (3, .int tt), (2, .int cn), (1, .int ol), (0, .ref m)]) (st' := [.int tt, .int ((S.la i).lv)]) 1 rfl ?_
        by_cases h1 : (S.la i).lv = tt
        · skip
          refine WW.icmp_ne (tgt := 64) rfl rfl (fun hno => absurd h1 hno) (fun _ => ?_)
          rw [decide_eq_true h1] at H
          refine WW.run (pc' := 57) (lv' := [(4, .int (nI i)), (3, .int tt), (2, .int cn), (1, .int ol), (0, .ref m)]) (st' := [.int ol, .int tt]) 2 rfl ?_
          by_cases h2 : tt ≤ ol
          · skip
            refine WW.icmp_gt (tgt := 64) rfl rfl (fun hno => absurd hno (Int32.not_lt.mpr h2)) (fun _ => ?_)
            refine WW.run (pc' := 65) (lv' := [(4, .int (nI i)), (3, .int tt), (2, .int cn), (1, .int ol), (0, .ref m)]) (st' := [.int (nI 1)]) 2 rfl ?_
            rw [decide_eq_true h2] at H
            exact H
          · skip
            refine WW.icmp_gt (tgt := 64) rfl rfl (fun _ => ?_) (fun hno => absurd (Int32.not_le.mp h2) hno)
            refine WW.run (pc' := 65) (lv' := [(4, .int (nI i)), (3, .int tt), (2, .int cn), (1, .int ol), (0, .ref m)]) (st' := [.int (nI 0)]) 1 rfl ?_
            rw [decide_eq_false h2] at H
            exact H
        · skip
          refine WW.icmp_ne (tgt := 64) rfl rfl (fun _ => ?_) (fun hno => absurd hno h1)
          refine WW.run (pc' := 65) (lv' := [(4, .int (nI i)), (3, .int tt), (2, .int cn), (1, .int ol), (0, .ref m)]) (st' := [.int (nI 0)]) 1 rfl ?_
          rw [decide_eq_false h1] at H
          exact H
    replace ih : WW (l, G, MX3_mostBright, 6, 0, 0, Q) 0 0 24 [(4, .int (nI (i + 1))), (3, .int tt), (2, .int (cn + (bif S.mbB tt ol i then nI 1 else nI 0))), (1, .int (ol - (bif S.mbB tt ol i then tt else nI 0))), (0, .ref m)] [] w := ih
    generalize S.mbB tt ol i = g at ih
    refine WW.run (pc' := 70) (lv' := [(5, .int (bI g)), (4, .int (nI i)), (3, .int tt), (2, .int cn), (1, .int ol), (0, .ref m)]) (st' := [.int (bI g), .int ol]) 3 rfl ?_
    refine WW.join (pc' := 78) (lv' := [(5, .int (bI g)), (4, .int (nI i)), (3, .int tt), (2, .int cn), (1, .int ol), (0, .ref m)]) (st' := [.int (bif g then tt else nI 0), .int ol]) ?_ ?_
    rotate_left
    · cases hb : g with
      | false =>
        intro H
        refine WW.if_eq (tgt := 77) rfl rfl (fun _ => ?_) (fun hno => absurd rfl hno)
        refine WW.run (pc' := 78) (lv' := [(5, .int (bI false)), (4, .int (nI i)), (3, .int tt), (2, .int cn), (1, .int ol), (0, .ref m)]) (st' := [.int (nI 0), .int ol]) 1 rfl ?_
        exact H
      | true =>
        intro H
        refine WW.if_eq (tgt := 77) rfl rfl (fun hno => absurd hno (by decide)) (fun _ => ?_)
        refine WW.run (pc' := 78) (lv' := [(5, .int (bI true)), (4, .int (nI i)), (3, .int tt), (2, .int cn), (1, .int ol), (0, .ref m)]) (st' := [.int tt, .int ol]) 2 rfl ?_
        exact H
    refine WW.run (pc' := 83) (lv' := [(1, .int (ol - (bif g then tt else nI 0))), (5, .int (bI g)), (4, .int (nI i)), (3, .int tt), (2, .int cn), (0, .ref m)]) (st' := [.int (bI g), .int cn]) 4 rfl ?_
    refine WW.join (pc' := 91) (lv' := [(1, .int (ol - (bif g then tt else nI 0))), (5, .int (bI g)), (4, .int (nI i)), (3, .int tt), (2, .int cn), (0, .ref m)]) (st' := [.int (bif g then nI 1 else nI 0), .int cn]) ?_ ?_
    rotate_left
    · cases hb : g with
      | false =>
        intro H
        refine WW.if_eq (tgt := 90) rfl rfl (fun _ => ?_) (fun hno => absurd rfl hno)
        refine WW.run (pc' := 91) (lv' := [(1, .int (ol - (bif false then tt else nI 0))), (5, .int (bI false)), (4, .int (nI i)), (3, .int tt), (2, .int cn), (0, .ref m)]) (st' := [.int (nI 0), .int cn]) 1 rfl ?_
        exact H
      | true =>
        intro H
        refine WW.if_eq (tgt := 90) rfl rfl (fun hno => absurd hno (by decide)) (fun _ => ?_)
        refine WW.run (pc' := 91) (lv' := [(1, .int (ol - (bif true then tt else nI 0))), (5, .int (bI true)), (4, .int (nI i)), (3, .int tt), (2, .int cn), (0, .ref m)]) (st' := [.int (nI 1), .int cn]) 2 rfl ?_
        exact H
    refine WW.run (pc' := 24) (lv' := [(4, .int ((nI i) + nI 1)), (2, .int (cn + (bif g then nI 1 else nI 0))), (1, .int (ol - (bif g then tt else nI 0))), (5, .int (bI g)), (3, .int tt), (0, .ref m)]) (st' := []) 4 rfl ?_
    refine WW.pick (lv' := [(4, .int ((nI i) + nI 1)), (3, .int tt), (2, .int (cn + (bif g then nI 1 else nI 0))), (1, .int (ol - (bif g then tt else nI 0))), (0, .ref m)]) [0, 4, 1, 2, 5] rfl ?_
    rw [nI_add]
    exact ih
  · skip
    refine WW.run (pc' := 27) (lv' := [(4, .int (nI S.nl)), (3, .int tt), (2, .int ((S.mb1 tt (oil, cnt) S.nl).2)), (1, .int ((S.mb1 tt (oil, cnt) S.nl).1)), (0, .ref m)]) (st' := [.ref m, .int (nI S.nl)]) 2 rfl ?_
    refine WW.get rfl fX3_9 hM.1 (show _ = some (.ref (A 0)) from rfl) ?_
    refine WW.run (pc' := 31) (lv' := [(4, .int (nI S.nl)), (3, .int tt), (2, .int ((S.mb1 tt (oil, cnt) S.nl).2)), (1, .int ((S.mb1 tt (oil, cnt) S.nl).1)), (0, .ref m)]) (st' := [.int (nI 1), .ref (A 0), .int (nI S.nl)]) 1 rfl ?_
    refine WW.mald 0 1 rfl hM (by decide) rfl rfl (by decide) (by decide) (show (F 0) 1 = nI S.nl from hS.1.2.1) ?_
    refine WW.icmp_ge (tgt := 99) rfl rfl (fun _ => ?_) (fun hno => absurd (nI_le (Nat.le_refl _) hn) hno)
    refine WW.pick (lv' := [(3, .int tt), (2, .int ((S.mb1 tt (oil, cnt) S.nl).2)), (1, .int ((S.mb1 tt (oil, cnt) S.nl).1)), (0, .ref m)]) [1, 2, 3, 4] rfl ?_
    exact k
theorem mQ_mostBright (h : isMm w m A t J cur hn hist sv n ic on oc) (hW : aWf cur) : Sp l G MX3_mostBright 6 0 0 [.ref m] w (mA m A J cur hn hist sv n ic on oc (.int (nI 0)) (.inr (.int cur.most)) w) := by
  obtain ⟨I, F, hM, ht, hR⟩ := h
  have hS := hR.1
  refine Sp.of rfl (by decide +kernel) kX3_mostBright (wd_le rfl) ?_
  refine WW.run (pc' := 2) (lv' := [(0, .ref m)]) (st' := [.int (nI 0), .ref m]) 2 rfl ?_
  refine WW.mputI 2 rfl pfX3_42 hM rfl rfl rfl rfl (fun w8 hM8 fr8 => ?_)
  refine WW.run (pc' := 6) (lv' := [(0, .ref m)]) (st' := [.ref m]) 1 rfl ?_
  refine WW.get rfl fX3_9 hM8.1 (show _ = some (.ref (A 0)) from rfl) ?_
  refine WW.run (pc' := 10) (lv' := [(0, .ref m)]) (st' := [.int (nI 2), .ref (A 0)]) 1 rfl ?_
  refine WW.mald 0 2 rfl hM8 (by decide) rfl rfl (by decide) (by decide) (show (F 0) 2 = cur.oil from hS.1.2.2.1) ?_
  refine WW.run (pc' := 16) (lv' := [(3, .int (nI 1)), (2, .int (nI 0)), (1, .int cur.oil), (0, .ref m)]) (st' := []) 5 rfl ?_
  refine WW.run (pc' := 18) (lv' := [(3, .int (nI 1)), (2, .int (nI 0)), (1, .int cur.oil), (0, .ref m)]) (st' := [.int (nI 4), .int (nI 1)]) 2 rfl ?_
  refine WW.icmp_ge (tgt := 105) rfl rfl (fun hno => absurd hno (by decide)) (fun _ => ?_)
  refine WW.run (pc' := 24) (lv' := [(4, .int (nI 0)), (3, .int (nI 1)), (2, .int (nI 0)), (1, .int cur.oil), (0, .ref m)]) (st' := []) 2 rfl ?_
  refine WW.pick (lv' := [(4, .int (nI 0)), (3, .int (nI 1)), (2, .int (nI 0)), (1, .int cur.oil), (0, .ref m)]) [0, 1, 2, 3, 4] rfl ?_
  refine sM_mbLevel (nI 1) cur.oil (nI 0) hM8 hS hW ?_
  generalize hp1 : cur.mb1 (nI 1) (cur.oil, nI 0) cur.nl = p1
  refine WW.run (pc' := 16) (lv' := [(3, .int ((nI 1) + nI 1)), (2, .int p1.2), (1, .int p1.1), (0, .ref m)]) (st' := []) 2 rfl ?_
  refine WW.run (pc' := 18) (lv' := [(3, .int ((nI 1) + nI 1)), (2, .int p1.2), (1, .int p1.1), (0, .ref m)]) (st' := [.int (nI 4), .int ((nI 1) + nI 1)]) 2 rfl ?_
  refine WW.icmp_ge (tgt := 105) rfl rfl (fun hno => absurd hno (by decide)) (fun _ => ?_)
  refine WW.run (pc' := 24) (lv' := [(4, .int (nI 0)), (3, .int ((nI 1) + nI 1)), (2, .int p1.2), (1, .int p1.1), (0, .ref m)]) (st' := []) 2 rfl ?_
  refine WW.pick (lv' := [(4, .int (nI 0)), (3, .int ((nI 1) + nI 1)), (2, .int p1.2), (1, .int p1.1), (0, .ref m)]) [0, 1, 2, 3, 4] rfl ?_
  refine sM_mbLevel (nI 2) p1.1 p1.2 hM8 hS hW ?_
  generalize hp2 : cur.mb1 (nI 2) (p1.1, p1.2) cur.nl = p2
  refine WW.run (pc' := 16) (lv' := [(3, .int ((nI 2) + nI 1)), (2, .int p2.2), (1, .int p2.1), (0, .ref m)]) (st' := []) 2 rfl ?_
  refine WW.run (pc' := 18) (lv' := [(3, .int ((nI 2) + nI 1)), (2, .int p2.2), (1, .int p2.1), (0, .ref m)]) (st' := [.int (nI 4), .int ((nI 2) + nI 1)]) 2 rfl ?_
  refine WW.icmp_ge (tgt := 105) rfl rfl (fun hno => absurd hno (by decide)) (fun _ => ?_)
  refine WW.run (pc' := 24) (lv' := [(4, .int (nI 0)), (3, .int ((nI 2) + nI 1)), (2, .int p2.2), (1, .int p2.1), (0, .ref m)]) (st' := []) 2 rfl ?_
  refine WW.pick (lv' := [(4, .int (nI 0)), (3, .int ((nI 2) + nI 1)), (2, .int p2.2), (1, .int p2.1), (0, .ref m)]) [0, 1, 2, 3, 4] rfl ?_
  refine sM_mbLevel (nI 3) p2.1 p2.2 hM8 hS hW ?_
  generalize hp3 : cur.mb1 (nI 3) (p2.1, p2.2) cur.nl = p3
  refine WW.run (pc' := 16) (lv' := [(3, .int ((nI 3) + nI 1)), (2, .int p3.2), (1, .int p3.1), (0, .ref m)]) (st' := []) 2 rfl ?_
  refine WW.run (pc' := 18) (lv' := [(3, .int ((nI 3) + nI 1)), (2, .int p3.2), (1, .int p3.1), (0, .ref m)]) (st' := [.int (nI 4), .int ((nI 3) + nI 1)]) 2 rfl ?_
  refine WW.icmp_ge (tgt := 105) rfl rfl (fun _ => ?_) (fun hno => absurd (by decide) hno)
  refine WW.run (pc' := 106) (lv' := [(3, .int ((nI 3) + nI 1)), (2, .int p3.2), (1, .int p3.1), (0, .ref m)]) (st' := [.int p3.2]) 1 rfl ?_
  subst hp1
  subst hp2
  subst hp3
  exact WW.iret rfl rfl rfl ⟨rfl, ⟨_, _, hM8, rfl, hR.i2 _⟩, fr8⟩
theorem mQ_mostBrightBySums (h : isMm w m A t J cur hn hist sv n ic on oc) (hW : aWf cur) : Sp l G MX3_mostBrightBySums 7 0 0 [.ref m] w (mA m A J cur hn hist sv n ic on oc (.int (nI 0)) (.inr (.int cur.most)) w) := by
  have h0 := h
  obtain ⟨I, F, hM, ht, hR⟩ := h
  refine Sp.of rfl (by decide +kernel) kX3_mostBrightBySums (wd_le rfl) ?_
  refine WW.run (pc' := 1) (lv' := [(0, .ref m)]) (st' := [.ref m]) 1 rfl ?_
  refine WW.callV [] m [] rfl mX3_160 (mQ_mostBright h0 hW) (wdRecv.obj hM.1 rfl) rfl rfl (wd_le rfl) (wd_le rfl) (wd_le rfl) (wd_le rfl) (fun o w' hq => ?_)
  obtain ⟨rfl, h1, h2⟩ := hq
  show WW _ _ _ 4 _ [.int cur.most] _
  exact WW.iret rfl rfl rfl ⟨rfl, h1, h2⟩
end
