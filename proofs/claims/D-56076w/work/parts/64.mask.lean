set_option maxRecDepth 100000
/-! THE MODEL's QUESTIONS, WHOLE -/
section
variable {l : Launch} {G : wdG} {w : wdW} {m : Nat} {A : Nat → Nat} {J : Nat → Int32} {cur : aS} {hn : Nat} {hist : Nat → aS} {sv : Option aS} {n : Nat} {ic : Nat → Int32} {on : Nat} {oc : Nat → Int32} {t : Int32}
theorem nI_le0 : nI 0 ≤ 0 := by decide

theorem mQ_hour (h : isMm w m A t J cur hn hist sv n ic on oc) (hW : aWf cur) : Sp l G MX3_hour 6 0 0 [.ref m] w (mA m A J cur hn hist sv n ic on oc (.int (nI 0)) (.inr (.int cur.hour)) w) := by
  obtain ⟨I, F, hM, ht, hR⟩ := h
  have hS := hR.1
  refine Sp.of rfl (by decide +kernel) kX3_hour (wd_le rfl) ?_
  refine WW.run (pc' := 2) (lv' := [(0, .ref m)]) (st' := [.int (nI 0), .ref m]) 2 rfl ?_
  refine WW.mputI 2 rfl pfX3_42 hM rfl rfl rfl rfl (fun w1 hM1 fr1 => ?_)
  refine WW.run (pc' := 6) (lv' := [(0, .ref m)]) (st' := [.ref m]) 1 rfl ?_
  refine WW.get rfl fX3_9 hM1.1 (show _ = some (.ref (A 0)) from rfl) ?_
  refine WW.run (pc' := 10) (lv' := [(0, .ref m)]) (st' := [.int (nI 3), .ref (A 0)]) 1 rfl ?_
  refine WW.mald 0 3 rfl hM1 (by decide) rfl rfl (by decide) (by decide) (show (F 0) 3 = cur.hour from hS.1.2.2.2.1) ?_
  exact WW.iret rfl rfl rfl ⟨rfl, ⟨_, _, hM1, rfl, hR.i2 _⟩, fr1⟩
theorem mQ_oil (h : isMm w m A t J cur hn hist sv n ic on oc) (hW : aWf cur) : Sp l G MX3_oil 6 0 0 [.ref m] w (mA m A J cur hn hist sv n ic on oc (.int (nI 0)) (.inr (.int cur.oil)) w) := by
  obtain ⟨I, F, hM, ht, hR⟩ := h
  have hS := hR.1
  refine Sp.of rfl (by decide +kernel) kX3_oil (wd_le rfl) ?_
  refine WW.run (pc' := 2) (lv' := [(0, .ref m)]) (st' := [.int (nI 0), .ref m]) 2 rfl ?_
  refine WW.mputI 2 rfl pfX3_42 hM rfl rfl rfl rfl (fun w2 hM2 fr2 => ?_)
  refine WW.run (pc' := 6) (lv' := [(0, .ref m)]) (st' := [.ref m]) 1 rfl ?_
  refine WW.get rfl fX3_9 hM2.1 (show _ = some (.ref (A 0)) from rfl) ?_
  refine WW.run (pc' := 10) (lv' := [(0, .ref m)]) (st' := [.int (nI 2), .ref (A 0)]) 1 rfl ?_
  refine WW.mald 0 2 rfl hM2 (by decide) rfl rfl (by decide) (by decide) (show (F 0) 2 = cur.oil from hS.1.2.2.1) ?_
  exact WW.iret rfl rfl rfl ⟨rfl, ⟨_, _, hM2, rfl, hR.i2 _⟩, fr2⟩
theorem mQ_refusedRenewals (h : isMm w m A t J cur hn hist sv n ic on oc) (hW : aWf cur) : Sp l G MX3_refusedRenewals 6 0 0 [.ref m] w (mA m A J cur hn hist sv n ic on oc (.int (nI 0)) (.inr (.int cur.refused)) w) := by
  obtain ⟨I, F, hM, ht, hR⟩ := h
  have hS := hR.1
  refine Sp.of rfl (by decide +kernel) kX3_refusedRenewals (wd_le rfl) ?_
  refine WW.run (pc' := 2) (lv' := [(0, .ref m)]) (st' := [.int (nI 0), .ref m]) 2 rfl ?_
  refine WW.mputI 2 rfl pfX3_42 hM rfl rfl rfl rfl (fun w3 hM3 fr3 => ?_)
  refine WW.run (pc' := 6) (lv' := [(0, .ref m)]) (st' := [.ref m]) 1 rfl ?_
  refine WW.get rfl fX3_9 hM3.1 (show _ = some (.ref (A 0)) from rfl) ?_
  refine WW.run (pc' := 10) (lv' := [(0, .ref m)]) (st' := [.int (nI 4), .ref (A 0)]) 1 rfl ?_
  refine WW.mald 0 4 rfl hM3 (by decide) rfl rfl (by decide) (by decide) (show (F 0) 4 = cur.refused from hS.1.2.2.2.2.1) ?_
  exact WW.iret rfl rfl rfl ⟨rfl, ⟨_, _, hM3, rfl, hR.i2 _⟩, fr3⟩
theorem mQ_officeCoins (h : isMm w m A t J cur hn hist sv n ic on oc) (hW : aWf cur) : Sp l G MX3_officeCoins 6 0 0 [.ref m] w (mA m A J cur hn hist sv n ic on oc (.int (nI 0)) (.inr (.int cur.office)) w) := by
  obtain ⟨I, F, hM, ht, hR⟩ := h
  have hS := hR.1
  refine Sp.of rfl (by decide +kernel) kX3_officeCoins (wd_le rfl) ?_
  refine WW.run (pc' := 2) (lv' := [(0, .ref m)]) (st' := [.int (nI 0), .ref m]) 2 rfl ?_
  refine WW.mputI 2 rfl pfX3_42 hM rfl rfl rfl rfl (fun w4 hM4 fr4 => ?_)
  refine WW.run (pc' := 6) (lv' := [(0, .ref m)]) (st' := [.ref m]) 1 rfl ?_
  refine WW.get rfl fX3_9 hM4.1 (show _ = some (.ref (A 0)) from rfl) ?_
  refine WW.run (pc' := 10) (lv' := [(0, .ref m)]) (st' := [.int (nI 5), .ref (A 0)]) 1 rfl ?_
  refine WW.mald 0 5 rfl hM4 (by decide) rfl rfl (by decide) (by decide) (show (F 0) 5 = cur.office from hS.1.2.2.2.2.2.1) ?_
  exact WW.iret rfl rfl rfl ⟨rfl, ⟨_, _, hM4, rfl, hR.i2 _⟩, fr4⟩
theorem mQ_shipCount (h : isMm w m A t J cur hn hist sv n ic on oc) (hW : aWf cur) : Sp l G MX3_shipCount 6 0 0 [.ref m] w (mA m A J cur hn hist sv n ic on oc (.int (nI 0)) (.inr (.int (nI cur.ns))) w) := by
  obtain ⟨I, F, hM, ht, hR⟩ := h
  have hS := hR.1
  refine Sp.of rfl (by decide +kernel) kX3_shipCount (wd_le rfl) ?_
  refine WW.run (pc' := 2) (lv' := [(0, .ref m)]) (st' := [.int (nI 0), .ref m]) 2 rfl ?_
  refine WW.mputI 2 rfl pfX3_42 hM rfl rfl rfl rfl (fun w5 hM5 fr5 => ?_)
  refine WW.run (pc' := 6) (lv' := [(0, .ref m)]) (st' := [.ref m]) 1 rfl ?_
  refine WW.get rfl fX3_9 hM5.1 (show _ = some (.ref (A 0)) from rfl) ?_
  refine WW.run (pc' := 10) (lv' := [(0, .ref m)]) (st' := [.int (nI 0), .ref (A 0)]) 1 rfl ?_
  refine WW.mald 0 0 rfl hM5 (by decide) rfl rfl (by decide) (by decide) (show (F 0) 0 = (nI cur.ns) from hS.1.1) ?_
  exact WW.iret rfl rfl rfl ⟨rfl, ⟨_, _, hM5, rfl, hR.i2 _⟩, fr5⟩
theorem mQ_lampCount (h : isMm w m A t J cur hn hist sv n ic on oc) (hW : aWf cur) : Sp l G MX3_lampCount 6 0 0 [.ref m] w (mA m A J cur hn hist sv n ic on oc (.int (nI 0)) (.inr (.int (nI cur.nl))) w) := by
  obtain ⟨I, F, hM, ht, hR⟩ := h
  have hS := hR.1
  refine Sp.of rfl (by decide +kernel) kX3_lampCount (wd_le rfl) ?_
  refine WW.run (pc' := 2) (lv' := [(0, .ref m)]) (st' := [.int (nI 0), .ref m]) 2 rfl ?_
  refine WW.mputI 2 rfl pfX3_42 hM rfl rfl rfl rfl (fun w6 hM6 fr6 => ?_)
  refine WW.run (pc' := 6) (lv' := [(0, .ref m)]) (st' := [.ref m]) 1 rfl ?_
  refine WW.get rfl fX3_9 hM6.1 (show _ = some (.ref (A 0)) from rfl) ?_
  refine WW.run (pc' := 10) (lv' := [(0, .ref m)]) (st' := [.int (nI 1), .ref (A 0)]) 1 rfl ?_
  refine WW.mald 0 1 rfl hM6 (by decide) rfl rfl (by decide) (by decide) (show (F 0) 1 = (nI cur.nl) from hS.1.2.1) ?_
  exact WW.iret rfl rfl rfl ⟨rfl, ⟨_, _, hM6, rfl, hR.i2 _⟩, fr6⟩
theorem mQ_requestCount (h : isMm w m A t J cur hn hist sv n ic on oc) (hW : aWf cur) : Sp l G MX3_requestCount 6 0 0 [.ref m] w (mA m A J cur hn hist sv n ic on oc (.int (nI 0)) (.inr (.int (nI cur.nr))) w) := by
  obtain ⟨I, F, hM, ht, hR⟩ := h
  have hS := hR.1
  refine Sp.of rfl (by decide +kernel) kX3_requestCount (wd_le rfl) ?_
  refine WW.run (pc' := 2) (lv' := [(0, .ref m)]) (st' := [.int (nI 0), .ref m]) 2 rfl ?_
  refine WW.mputI 2 rfl pfX3_42 hM rfl rfl rfl rfl (fun w7 hM7 fr7 => ?_)
  refine WW.run (pc' := 6) (lv' := [(0, .ref m)]) (st' := [.ref m]) 1 rfl ?_
  refine WW.get rfl fX3_9 hM7.1 (show _ = some (.ref (A 0)) from rfl) ?_
  refine WW.run (pc' := 11) (lv' := [(0, .ref m)]) (st' := [.int (nI 6), .ref (A 0)]) 1 rfl ?_
  refine WW.mald 0 6 rfl hM7 (by decide) rfl rfl (by decide) (by decide) (show (F 0) 6 = (nI cur.nr) from hS.1.2.2.2.2.2.2) ?_
  exact WW.iret rfl rfl rfl ⟨rfl, ⟨_, _, hM7, rfl, hR.i2 _⟩, fr7⟩
theorem mQ_undoCount (h : isMm w m A t J cur hn hist sv n ic on oc) (hW : aWf cur) : Sp l G MX3_undoCount 6 0 0 [.ref m] w (mA m A J cur hn hist sv n ic on oc (.int (nI 0)) (.inr (.int (nI hn))) w) := by
  obtain ⟨I, F, hM, ht, hR⟩ := h
  have hS := hR.1
  refine Sp.of rfl (by decide +kernel) kX3_undoCount (wd_le rfl) ?_
  refine WW.run (pc' := 2) (lv' := [(0, .ref m)]) (st' := [.int (nI 0), .ref m]) 2 rfl ?_
  refine WW.mputI 2 rfl pfX3_42 hM rfl rfl rfl rfl (fun w8 hM8 fr8 => ?_)
  refine WW.run (pc' := 6) (lv' := [(0, .ref m)]) (st' := [.ref m]) 1 rfl ?_
  refine WW.get rfl fX3_51 hM8.1 (show _ = some (.int ((va_up I 2 (nI 0)) 1)) from rfl) ?_
  rw [show (va_up I 2 (nI 0)) 1 = nI hn from hR.2.1.2.1]
  exact WW.iret rfl rfl rfl ⟨rfl, ⟨_, _, hM8, rfl, hR.i2 _⟩, fr8⟩
theorem mQ_leasedLamps (h : isMm w m A t J cur hn hist sv n ic on oc) (hW : aWf cur) : Sp l G MX3_leasedLamps 6 0 0 [.ref m] w (mA m A J cur hn hist sv n ic on oc (.int (nI 0)) (.inr (.int cur.leased)) w) := by
  obtain ⟨I, F, hM, ht, hR⟩ := h
  have hS := hR.1
  refine Sp.of rfl (by decide +kernel) kX3_leasedLamps (wd_le rfl) ?_
  refine WW.run (pc' := 2) (lv' := [(0, .ref m)]) (st' := [.int (nI 0), .ref m]) 2 rfl ?_
  refine WW.mputI 2 rfl pfX3_42 hM rfl rfl rfl rfl (fun w9 hM9 fr9 => ?_)
  refine WW.run (pc' := 6) (lv' := [(0, .ref m)]) (st' := [.ref m]) 1 rfl ?_
  refine WW.callV [] m [] rfl mX3_151 (sM_leased hM9 hS hW) (wdRecv.obj hM9.1 rfl) rfl rfl (wd_le rfl) (wd_le rfl) (wd_le rfl) (wd_le rfl) (fun o w' hq => ?_)
  obtain ⟨rfl, hw9⟩ := hq
  show WW _ _ _ 9 _ [.int cur.leased] _
  rw [hw9]
  clear hw9 w'
  exact WW.iret rfl rfl rfl ⟨rfl, ⟨_, _, hM9, rfl, hR.i2 _⟩, fr9⟩
theorem mQ_consumption (h : isMm w m A t J cur hn hist sv n ic on oc) (hW : aWf cur) : Sp l G MX3_consumption 6 0 0 [.ref m] w (mA m A J cur hn hist sv n ic on oc (.int (nI 0)) (.inr (.int cur.needs)) w) := by
  obtain ⟨I, F, hM, ht, hR⟩ := h
  have hS := hR.1
  refine Sp.of rfl (by decide +kernel) kX3_consumption (wd_le rfl) ?_
  refine WW.run (pc' := 2) (lv' := [(0, .ref m)]) (st' := [.int (nI 0), .ref m]) 2 rfl ?_
  refine WW.mputI 2 rfl pfX3_42 hM rfl rfl rfl rfl (fun w10 hM10 fr10 => ?_)
  refine WW.run (pc' := 6) (lv' := [(0, .ref m)]) (st' := [.ref m]) 1 rfl ?_
  refine WW.callV [] m [] rfl mX3_154 (sM_needed hM10 hS hW) (wdRecv.obj hM10.1 rfl) rfl rfl (wd_le rfl) (wd_le rfl) (wd_le rfl) (wd_le rfl) (fun o w' hq => ?_)
  obtain ⟨rfl, hw9⟩ := hq
  show WW _ _ _ 9 _ [.int cur.needs] _
  rw [hw9]
  clear hw9 w'
  exact WW.iret rfl rfl rfl ⟨rfl, ⟨_, _, hM10, rfl, hR.i2 _⟩, fr10⟩
theorem mQ_isConsistent (h : isMm w m A t J cur hn hist sv n ic on oc) (hW : aWf cur) : Sp l G MX3_isConsistent 6 0 0 [.ref m] w (mA m A J cur hn hist sv n ic on oc (.int (nI 0)) (.inr (.int (nI 1))) w) := by
  obtain ⟨I, F, hM, ht, hR⟩ := h
  have hS := hR.1
  refine Sp.of rfl (by decide +kernel) kX3_isConsistent (wd_le rfl) ?_
  refine WW.run (pc' := 2) (lv' := [(0, .ref m)]) (st' := [.int (nI 0), .ref m]) 2 rfl ?_
  refine WW.mputI 2 rfl pfX3_42 hM rfl rfl rfl rfl (fun w11 hM11 fr11 => ?_)
  refine WW.run (pc' := 6) (lv' := [(0, .ref m)]) (st' := [.int (nI 1)]) 1 rfl ?_
  exact WW.iret rfl rfl rfl ⟨rfl, ⟨_, _, hM11, rfl, hR.i2 _⟩, fr11⟩
theorem mQ_coins (h : isMm w m A t J cur hn hist sv n ic on oc) (hW : aWf cur) (x : Int32) : Sp l G MX3_coins 6 0 0 [.ref m, .int x] w (mA m A J cur hn hist sv n ic on oc (.int (nI 0)) (bif cur.ixS x then .inr (.int (cur.sh (tn x)).1) else .inl 1) w) := by
  obtain ⟨I, F, hM, ht, hR⟩ := h
  have hS := hR.1
  refine Sp.of rfl (by decide +kernel) kX3_coins (wd_le rfl) ?_
  refine WW.run (pc' := 3) (lv' := [(0, .ref m), (1, .int x)]) (st' := [.int x, .ref m, .ref m]) 3 rfl ?_
  refine WW.callV [.int x] m [.ref m] rfl mX3_89 (sM_isShip hM hS x) (wdRecv.obj hM.1 rfl) rfl rfl (wd_le rfl) (wd_le rfl) (wd_le rfl) (wd_le rfl) (fun o w' hq => ?_)
  obtain ⟨rfl, hw9⟩ := hq
  show WW _ _ _ 6 _ [.int (bI (cur.ixS x)), .ref m] _
  rw [hw9]
  clear hw9 w'
  cases hx : cur.ixS x with
  | false =>
    refine WW.callV [.int (bI (false))] m [] rfl mX3_144 (sM_isThere hM false) (wdRecv.obj hM.1 rfl) rfl rfl (wd_le rfl) (wd_le rfl) (wd_le rfl) (wd_le rfl) (fun o w' hq => ?_)
    obtain ⟨_, I12, F12, rfl, ⟨rfl, hI12, hF12⟩, hM12, fr12⟩ := hq
    rw [hI12, hF12] at hM12
    clear hI12 hF12 I12 F12
    show WW _ _ _ 9 _ [.int (bI false)] _
    refine WW.if_eq (tgt := 21) rfl rfl (fun _ => ?_) (fun hno => absurd rfl hno)
    refine WW.run (pc' := 22) (lv' := [(0, .ref m), (1, .int x)]) (st' := [.int (nI 0)]) 1 rfl ?_
    exact WW.iret rfl rfl rfl ⟨rfl, ⟨_, _, hM12, rfl, hR.i2 _⟩, fr12⟩
  | true =>
    obtain ⟨j, hj, rfl, tx⟩ := hW.ixS hx
    rw [tx]
    refine WW.callV [.int (bI (true))] m [] rfl mX3_144 (sM_isThere hM true) (wdRecv.obj hM.1 rfl) rfl rfl (wd_le rfl) (wd_le rfl) (wd_le rfl) (wd_le rfl) (fun o w' hq => ?_)
    obtain ⟨_, I13, F13, rfl, ⟨rfl, hI13, hF13⟩, hM13, fr13⟩ := hq
    rw [hI13, hF13] at hM13
    clear hI13 hF13 I13 F13
    show WW _ _ _ 9 _ [.int (bI true)] _
    refine WW.if_eq (tgt := 21) rfl rfl (fun hno => absurd hno (by decide)) (fun _ => ?_)
    refine WW.run (pc' := 15) (lv' := [(0, .ref m), (1, .int (nI j))]) (st' := [.int (nI 0), .int (nI j), .ref m]) 3 rfl ?_
    refine WW.callV [.int (nI j), .int (nI 0)] m [] rfl mX3_99 (sM_co hM13 hS hW hj) (wdRecv.obj hM13.1 rfl) rfl rfl (wd_le rfl) (wd_le rfl) (wd_le rfl) (wd_le rfl) (fun o w' hq => ?_)
    obtain ⟨rfl, hw9⟩ := hq
    show WW _ _ _ 18 _ [.int ((cur.sh j).1)] _
    rw [hw9]
    clear hw9 w'
    refine WW.run (pc' := 22) (lv' := [(0, .ref m), (1, .int (nI j))]) (st' := [.int ((cur.sh j).1)]) 1 rfl ?_
    exact WW.iret rfl rfl rfl ⟨rfl, ⟨_, _, hM13, rfl, hR.i2 _⟩, fr13⟩
theorem mQ_finesPaid (h : isMm w m A t J cur hn hist sv n ic on oc) (hW : aWf cur) (x : Int32) : Sp l G MX3_finesPaid 6 0 0 [.ref m, .int x] w (mA m A J cur hn hist sv n ic on oc (.int (nI 0)) (bif cur.ixS x then .inr (.int (cur.sh (tn x)).2.1) else .inl 1) w) := by
  obtain ⟨I, F, hM, ht, hR⟩ := h
  have hS := hR.1
  refine Sp.of rfl (by decide +kernel) kX3_finesPaid (wd_le rfl) ?_
  refine WW.run (pc' := 3) (lv' := [(0, .ref m), (1, .int x)]) (st' := [.int x, .ref m, .ref m]) 3 rfl ?_
  refine WW.callV [.int x] m [.ref m] rfl mX3_89 (sM_isShip hM hS x) (wdRecv.obj hM.1 rfl) rfl rfl (wd_le rfl) (wd_le rfl) (wd_le rfl) (wd_le rfl) (fun o w' hq => ?_)
  obtain ⟨rfl, hw9⟩ := hq
  show WW _ _ _ 6 _ [.int (bI (cur.ixS x)), .ref m] _
  rw [hw9]
  clear hw9 w'
  cases hx : cur.ixS x with
  | false =>
    refine WW.callV [.int (bI (false))] m [] rfl mX3_144 (sM_isThere hM false) (wdRecv.obj hM.1 rfl) rfl rfl (wd_le rfl) (wd_le rfl) (wd_le rfl) (wd_le rfl) (fun o w' hq => ?_)
    obtain ⟨_, I14, F14, rfl, ⟨rfl, hI14, hF14⟩, hM14, fr14⟩ := hq
    rw [hI14, hF14] at hM14
    clear hI14 hF14 I14 F14
    show WW _ _ _ 9 _ [.int (bI false)] _
    refine WW.if_eq (tgt := 21) rfl rfl (fun _ => ?_) (fun hno => absurd rfl hno)
    refine WW.run (pc' := 22) (lv' := [(0, .ref m), (1, .int x)]) (st' := [.int (nI 0)]) 1 rfl ?_
    exact WW.iret rfl rfl rfl ⟨rfl, ⟨_, _, hM14, rfl, hR.i2 _⟩, fr14⟩
  | true =>
    obtain ⟨j, hj, rfl, tx⟩ := hW.ixS hx
    rw [tx]
    refine WW.callV [.int (bI (true))] m [] rfl mX3_144 (sM_isThere hM true) (wdRecv.obj hM.1 rfl) rfl rfl (wd_le rfl) (wd_le rfl) (wd_le rfl) (wd_le rfl) (fun o w' hq => ?_)
    obtain ⟨_, I15, F15, rfl, ⟨rfl, hI15, hF15⟩, hM15, fr15⟩ := hq
    rw [hI15, hF15] at hM15
    clear hI15 hF15 I15 F15
    show WW _ _ _ 9 _ [.int (bI true)] _
    refine WW.if_eq (tgt := 21) rfl rfl (fun hno => absurd hno (by decide)) (fun _ => ?_)
    refine WW.run (pc' := 15) (lv' := [(0, .ref m), (1, .int (nI j))]) (st' := [.int (nI 1), .int (nI j), .ref m]) 3 rfl ?_
    refine WW.callV [.int (nI j), .int (nI 1)] m [] rfl mX3_99 (sM_fi hM15 hS hW hj) (wdRecv.obj hM15.1 rfl) rfl rfl (wd_le rfl) (wd_le rfl) (wd_le rfl) (wd_le rfl) (fun o w' hq => ?_)
    obtain ⟨rfl, hw9⟩ := hq
    show WW _ _ _ 18 _ [.int ((cur.sh j).2.1)] _
    rw [hw9]
    clear hw9 w'
    refine WW.run (pc' := 22) (lv' := [(0, .ref m), (1, .int (nI j))]) (st' := [.int ((cur.sh j).2.1)]) 1 rfl ?_
    exact WW.iret rfl rfl rfl ⟨rfl, ⟨_, _, hM15, rfl, hR.i2 _⟩, fr15⟩
theorem mQ_darkHours (h : isMm w m A t J cur hn hist sv n ic on oc) (hW : aWf cur) (x : Int32) : Sp l G MX3_darkHours 6 0 0 [.ref m, .int x] w (mA m A J cur hn hist sv n ic on oc (.int (nI 0)) (bif cur.ixS x then .inr (.int (cur.sh (tn x)).2.2) else .inl 1) w) := by
  obtain ⟨I, F, hM, ht, hR⟩ := h
  have hS := hR.1
  refine Sp.of rfl (by decide +kernel) kX3_darkHours (wd_le rfl) ?_
  refine WW.run (pc' := 3) (lv' := [(0, .ref m), (1, .int x)]) (st' := [.int x, .ref m, .ref m]) 3 rfl ?_
  refine WW.callV [.int x] m [.ref m] rfl mX3_89 (sM_isShip hM hS x) (wdRecv.obj hM.1 rfl) rfl rfl (wd_le rfl) (wd_le rfl) (wd_le rfl) (wd_le rfl) (fun o w' hq => ?_)
  obtain ⟨rfl, hw9⟩ := hq
  show WW _ _ _ 6 _ [.int (bI (cur.ixS x)), .ref m] _
  rw [hw9]
  clear hw9 w'
  cases hx : cur.ixS x with
  | false =>
    refine WW.callV [.int (bI (false))] m [] rfl mX3_144 (sM_isThere hM false) (wdRecv.obj hM.1 rfl) rfl rfl (wd_le rfl) (wd_le rfl) (wd_le rfl) (wd_le rfl) (fun o w' hq => ?_)
    obtain ⟨_, I16, F16, rfl, ⟨rfl, hI16, hF16⟩, hM16, fr16⟩ := hq
    rw [hI16, hF16] at hM16
    clear hI16 hF16 I16 F16
    show WW _ _ _ 9 _ [.int (bI false)] _
    refine WW.if_eq (tgt := 21) rfl rfl (fun _ => ?_) (fun hno => absurd rfl hno)
    refine WW.run (pc' := 22) (lv' := [(0, .ref m), (1, .int x)]) (st' := [.int (nI 0)]) 1 rfl ?_
    exact WW.iret rfl rfl rfl ⟨rfl, ⟨_, _, hM16, rfl, hR.i2 _⟩, fr16⟩
  | true =>
    obtain ⟨j, hj, rfl, tx⟩ := hW.ixS hx
    rw [tx]
    refine WW.callV [.int (bI (true))] m [] rfl mX3_144 (sM_isThere hM true) (wdRecv.obj hM.1 rfl) rfl rfl (wd_le rfl) (wd_le rfl) (wd_le rfl) (wd_le rfl) (fun o w' hq => ?_)
    obtain ⟨_, I17, F17, rfl, ⟨rfl, hI17, hF17⟩, hM17, fr17⟩ := hq
    rw [hI17, hF17] at hM17
    clear hI17 hF17 I17 F17
    show WW _ _ _ 9 _ [.int (bI true)] _
    refine WW.if_eq (tgt := 21) rfl rfl (fun hno => absurd hno (by decide)) (fun _ => ?_)
    refine WW.run (pc' := 15) (lv' := [(0, .ref m), (1, .int (nI j))]) (st' := [.int (nI 2), .int (nI j), .ref m]) 3 rfl ?_
    refine WW.callV [.int (nI j), .int (nI 2)] m [] rfl mX3_99 (sM_da hM17 hS hW hj) (wdRecv.obj hM17.1 rfl) rfl rfl (wd_le rfl) (wd_le rfl) (wd_le rfl) (wd_le rfl) (fun o w' hq => ?_)
    obtain ⟨rfl, hw9⟩ := hq
    show WW _ _ _ 18 _ [.int ((cur.sh j).2.2)] _
    rw [hw9]
    clear hw9 w'
    refine WW.run (pc' := 22) (lv' := [(0, .ref m), (1, .int (nI j))]) (st' := [.int ((cur.sh j).2.2)]) 1 rfl ?_
    exact WW.iret rfl rfl rfl ⟨rfl, ⟨_, _, hM17, rfl, hR.i2 _⟩, fr17⟩
theorem mQ_demand (h : isMm w m A t J cur hn hist sv n ic on oc) (hW : aWf cur) (x : Int32) : Sp l G MX3_demand 6 0 0 [.ref m, .int x] w (mA m A J cur hn hist sv n ic on oc (.int (nI 0)) (bif cur.ixS x then .inr (.int (cur.demand (tn x))) else .inl 1) w) := by
  obtain ⟨I, F, hM, ht, hR⟩ := h
  have hS := hR.1
  refine Sp.of rfl (by decide +kernel) kX3_demand (wd_le rfl) ?_
  refine WW.run (pc' := 3) (lv' := [(0, .ref m), (1, .int x)]) (st' := [.int x, .ref m, .ref m]) 3 rfl ?_
  refine WW.callV [.int x] m [.ref m] rfl mX3_89 (sM_isShip hM hS x) (wdRecv.obj hM.1 rfl) rfl rfl (wd_le rfl) (wd_le rfl) (wd_le rfl) (wd_le rfl) (fun o w' hq => ?_)
  obtain ⟨rfl, hw9⟩ := hq
  show WW _ _ _ 6 _ [.int (bI (cur.ixS x)), .ref m] _
  rw [hw9]
  clear hw9 w'
  cases hx : cur.ixS x with
  | false =>
    refine WW.callV [.int (bI (false))] m [] rfl mX3_144 (sM_isThere hM false) (wdRecv.obj hM.1 rfl) rfl rfl (wd_le rfl) (wd_le rfl) (wd_le rfl) (wd_le rfl) (fun o w' hq => ?_)
    obtain ⟨_, I18, F18, rfl, ⟨rfl, hI18, hF18⟩, hM18, fr18⟩ := hq
    rw [hI18, hF18] at hM18
    clear hI18 hF18 I18 F18
    show WW _ _ _ 9 _ [.int (bI false)] _
    refine WW.if_eq (tgt := 20) rfl rfl (fun _ => ?_) (fun hno => absurd rfl hno)
    refine WW.run (pc' := 21) (lv' := [(0, .ref m), (1, .int x)]) (st' := [.int (nI 0)]) 1 rfl ?_
    exact WW.iret rfl rfl rfl ⟨rfl, ⟨_, _, hM18, rfl, hR.i2 _⟩, fr18⟩
  | true =>
    obtain ⟨j, hj, rfl, tx⟩ := hW.ixS hx
    rw [tx]
    refine WW.callV [.int (bI (true))] m [] rfl mX3_144 (sM_isThere hM true) (wdRecv.obj hM.1 rfl) rfl rfl (wd_le rfl) (wd_le rfl) (wd_le rfl) (wd_le rfl) (fun o w' hq => ?_)
    obtain ⟨_, I19, F19, rfl, ⟨rfl, hI19, hF19⟩, hM19, fr19⟩ := hq
    rw [hI19, hF19] at hM19
    clear hI19 hF19 I19 F19
    show WW _ _ _ 9 _ [.int (bI true)] _
    refine WW.if_eq (tgt := 20) rfl rfl (fun hno => absurd hno (by decide)) (fun _ => ?_)
    refine WW.run (pc' := 14) (lv' := [(0, .ref m), (1, .int (nI j))]) (st' := [.int (nI j), .ref m]) 2 rfl ?_
    have h6 := hW.1
    refine WW.callV [.int (nI j)] m [] rfl mX3_148 (sM_wants hM19 hS hW (j := j) (by omega)) (wdRecv.obj hM19.1 rfl) rfl rfl (wd_le rfl) (wd_le rfl) (wd_le rfl) (wd_le rfl) (fun o w' hq => ?_)
    obtain ⟨rfl, hw9⟩ := hq
    show WW _ _ _ 17 _ [.int (cur.demand j)] _
    rw [hw9]
    clear hw9 w'
    refine WW.run (pc' := 21) (lv' := [(0, .ref m), (1, .int (nI j))]) (st' := [.int (cur.demand j)]) 1 rfl ?_
    exact WW.iret rfl rfl rfl ⟨rfl, ⟨_, _, hM19, rfl, hR.i2 _⟩, fr19⟩
theorem mQ_leasesOf (h : isMm w m A t J cur hn hist sv n ic on oc) (hW : aWf cur) (x : Int32) : Sp l G MX3_leasesOf 6 0 0 [.ref m, .int x] w (mA m A J cur hn hist sv n ic on oc (.int (nI 0)) (bif cur.ixS x then .inr (.int (cur.leasesOf (tn x))) else .inl 1) w) := by
  obtain ⟨I, F, hM, ht, hR⟩ := h
  have hS := hR.1
  refine Sp.of rfl (by decide +kernel) kX3_leasesOf (wd_le rfl) ?_
  refine WW.run (pc' := 3) (lv' := [(0, .ref m), (1, .int x)]) (st' := [.int x, .ref m, .ref m]) 3 rfl ?_
  refine WW.callV [.int x] m [.ref m] rfl mX3_89 (sM_isShip hM hS x) (wdRecv.obj hM.1 rfl) rfl rfl (wd_le rfl) (wd_le rfl) (wd_le rfl) (wd_le rfl) (fun o w' hq => ?_)
  obtain ⟨rfl, hw9⟩ := hq
  show WW _ _ _ 6 _ [.int (bI (cur.ixS x)), .ref m] _
  rw [hw9]
  clear hw9 w'
  cases hx : cur.ixS x with
  | false =>
    refine WW.callV [.int (bI (false))] m [] rfl mX3_144 (sM_isThere hM false) (wdRecv.obj hM.1 rfl) rfl rfl (wd_le rfl) (wd_le rfl) (wd_le rfl) (wd_le rfl) (fun o w' hq => ?_)
    obtain ⟨_, I20, F20, rfl, ⟨rfl, hI20, hF20⟩, hM20, fr20⟩ := hq
    rw [hI20, hF20] at hM20
    clear hI20 hF20 I20 F20
    show WW _ _ _ 9 _ [.int (bI false)] _
    refine WW.if_eq (tgt := 21) rfl rfl (fun _ => ?_) (fun hno => absurd rfl hno)
    refine WW.run (pc' := 22) (lv' := [(0, .ref m), (1, .int x)]) (st' := [.int (nI 0)]) 1 rfl ?_
    exact WW.iret rfl rfl rfl ⟨rfl, ⟨_, _, hM20, rfl, hR.i2 _⟩, fr20⟩
  | true =>
    obtain ⟨j, hj, rfl, tx⟩ := hW.ixS hx
    rw [tx]
    refine WW.callV [.int (bI (true))] m [] rfl mX3_144 (sM_isThere hM true) (wdRecv.obj hM.1 rfl) rfl rfl (wd_le rfl) (wd_le rfl) (wd_le rfl) (wd_le rfl) (fun o w' hq => ?_)
    obtain ⟨_, I21, F21, rfl, ⟨rfl, hI21, hF21⟩, hM21, fr21⟩ := hq
    rw [hI21, hF21] at hM21
    clear hI21 hF21 I21 F21
    show WW _ _ _ 9 _ [.int (bI true)] _
    refine WW.if_eq (tgt := 21) rfl rfl (fun hno => absurd hno (by decide)) (fun _ => ?_)
    refine WW.run (pc' := 15) (lv' := [(0, .ref m), (1, .int (nI j))]) (st' := [.int (nI 0), .int (nI j), .ref m]) 3 rfl ?_
    have h6 := hW.1
    refine WW.callV [.int (nI j), .int (nI 0)] m [] rfl mX3_120 (sM_lampsOf hM21 hS hW (j := j) (by omega) false) (wdRecv.obj hM21.1 rfl) rfl rfl (wd_le rfl) (wd_le rfl) (wd_le rfl) (wd_le rfl) (fun o w' hq => ?_)
    obtain ⟨rfl, hw9⟩ := hq
    show WW _ _ _ 18 _ [.int (cur.lampsOf j false)] _
    rw [hw9]
    clear hw9 w'
    refine WW.run (pc' := 22) (lv' := [(0, .ref m), (1, .int (nI j))]) (st' := [.int (cur.lampsOf j false)]) 1 rfl ?_
    have e9 : cur.lampsOf j false = cur.leasesOf j := by unfold aS.lampsOf aS.leasesOf; simp
    rw [← e9]
    exact WW.iret rfl rfl rfl ⟨rfl, ⟨_, _, hM21, rfl, hR.i2 _⟩, fr21⟩
theorem mQ_level (h : isMm w m A t J cur hn hist sv n ic on oc) (hW : aWf cur) (x : Int32) : Sp l G MX3_level 6 0 0 [.ref m, .int x] w (mA m A J cur hn hist sv n ic on oc (.int (nI 0)) (bif cur.ixL x then .inr (.int (cur.la (tn x)).lv) else .inl 1) w) := by
  obtain ⟨I, F, hM, ht, hR⟩ := h
  have hS := hR.1
  refine Sp.of rfl (by decide +kernel) kX3_level (wd_le rfl) ?_
  refine WW.run (pc' := 3) (lv' := [(0, .ref m), (1, .int x)]) (st' := [.int x, .ref m, .ref m]) 3 rfl ?_
  refine WW.callV [.int x] m [.ref m] rfl mX3_93 (sM_isLamp hM hS x) (wdRecv.obj hM.1 rfl) rfl rfl (wd_le rfl) (wd_le rfl) (wd_le rfl) (wd_le rfl) (fun o w' hq => ?_)
  obtain ⟨rfl, hw9⟩ := hq
  show WW _ _ _ 6 _ [.int (bI (cur.ixL x)), .ref m] _
  rw [hw9]
  clear hw9 w'
  cases hx : cur.ixL x with
  | false =>
    refine WW.callV [.int (bI (false))] m [] rfl mX3_144 (sM_isThere hM false) (wdRecv.obj hM.1 rfl) rfl rfl (wd_le rfl) (wd_le rfl) (wd_le rfl) (wd_le rfl) (fun o w' hq => ?_)
    obtain ⟨_, I22, F22, rfl, ⟨rfl, hI22, hF22⟩, hM22, fr22⟩ := hq
    rw [hI22, hF22] at hM22
    clear hI22 hF22 I22 F22
    show WW _ _ _ 9 _ [.int (bI false)] _
    refine WW.if_eq (tgt := 21) rfl rfl (fun _ => ?_) (fun hno => absurd rfl hno)
    refine WW.run (pc' := 22) (lv' := [(0, .ref m), (1, .int x)]) (st' := [.int (nI 0)]) 1 rfl ?_
    exact WW.iret rfl rfl rfl ⟨rfl, ⟨_, _, hM22, rfl, hR.i2 _⟩, fr22⟩
  | true =>
    obtain ⟨j, hj, rfl, tx⟩ := hW.ixL hx
    rw [tx]
    refine WW.callV [.int (bI (true))] m [] rfl mX3_144 (sM_isThere hM true) (wdRecv.obj hM.1 rfl) rfl rfl (wd_le rfl) (wd_le rfl) (wd_le rfl) (wd_le rfl) (fun o w' hq => ?_)
    obtain ⟨_, I23, F23, rfl, ⟨rfl, hI23, hF23⟩, hM23, fr23⟩ := hq
    rw [hI23, hF23] at hM23
    clear hI23 hF23 I23 F23
    show WW _ _ _ 9 _ [.int (bI true)] _
    refine WW.if_eq (tgt := 21) rfl rfl (fun hno => absurd hno (by decide)) (fun _ => ?_)
    refine WW.run (pc' := 15) (lv' := [(0, .ref m), (1, .int (nI j))]) (st' := [.int (nI 0), .int (nI j), .ref m]) 3 rfl ?_
    refine WW.callV [.int (nI j), .int (nI 0)] m [] rfl mX3_58 (sM_lv hM23 hS hW hj) (wdRecv.obj hM23.1 rfl) rfl rfl (wd_le rfl) (wd_le rfl) (wd_le rfl) (wd_le rfl) (fun o w' hq => ?_)
    obtain ⟨rfl, hw9⟩ := hq
    show WW _ _ _ 18 _ [.int ((cur.la j).lv)] _
    rw [hw9]
    clear hw9 w'
    refine WW.run (pc' := 22) (lv' := [(0, .ref m), (1, .int (nI j))]) (st' := [.int ((cur.la j).lv)]) 1 rfl ?_
    exact WW.iret rfl rfl rfl ⟨rfl, ⟨_, _, hM23, rfl, hR.i2 _⟩, fr23⟩
theorem mQ_brightHours (h : isMm w m A t J cur hn hist sv n ic on oc) (hW : aWf cur) (x : Int32) : Sp l G MX3_brightHours 6 0 0 [.ref m, .int x] w (mA m A J cur hn hist sv n ic on oc (.int (nI 0)) (bif cur.ixL x then .inr (.int (cur.la (tn x)).br) else .inl 1) w) := by
  obtain ⟨I, F, hM, ht, hR⟩ := h
  have hS := hR.1
  refine Sp.of rfl (by decide +kernel) kX3_brightHours (wd_le rfl) ?_
  refine WW.run (pc' := 3) (lv' := [(0, .ref m), (1, .int x)]) (st' := [.int x, .ref m, .ref m]) 3 rfl ?_
  refine WW.callV [.int x] m [.ref m] rfl mX3_93 (sM_isLamp hM hS x) (wdRecv.obj hM.1 rfl) rfl rfl (wd_le rfl) (wd_le rfl) (wd_le rfl) (wd_le rfl) (fun o w' hq => ?_)
  obtain ⟨rfl, hw9⟩ := hq
  show WW _ _ _ 6 _ [.int (bI (cur.ixL x)), .ref m] _
  rw [hw9]
  clear hw9 w'
  cases hx : cur.ixL x with
  | false =>
    refine WW.callV [.int (bI (false))] m [] rfl mX3_144 (sM_isThere hM false) (wdRecv.obj hM.1 rfl) rfl rfl (wd_le rfl) (wd_le rfl) (wd_le rfl) (wd_le rfl) (fun o w' hq => ?_)
    obtain ⟨_, I24, F24, rfl, ⟨rfl, hI24, hF24⟩, hM24, fr24⟩ := hq
    rw [hI24, hF24] at hM24
    clear hI24 hF24 I24 F24
    show WW _ _ _ 9 _ [.int (bI false)] _
    refine WW.if_eq (tgt := 21) rfl rfl (fun _ => ?_) (fun hno => absurd rfl hno)
    refine WW.run (pc' := 22) (lv' := [(0, .ref m), (1, .int x)]) (st' := [.int (nI 0)]) 1 rfl ?_
    exact WW.iret rfl rfl rfl ⟨rfl, ⟨_, _, hM24, rfl, hR.i2 _⟩, fr24⟩
  | true =>
    obtain ⟨j, hj, rfl, tx⟩ := hW.ixL hx
    rw [tx]
    refine WW.callV [.int (bI (true))] m [] rfl mX3_144 (sM_isThere hM true) (wdRecv.obj hM.1 rfl) rfl rfl (wd_le rfl) (wd_le rfl) (wd_le rfl) (wd_le rfl) (fun o w' hq => ?_)
    obtain ⟨_, I25, F25, rfl, ⟨rfl, hI25, hF25⟩, hM25, fr25⟩ := hq
    rw [hI25, hF25] at hM25
    clear hI25 hF25 I25 F25
    show WW _ _ _ 9 _ [.int (bI true)] _
    refine WW.if_eq (tgt := 21) rfl rfl (fun hno => absurd hno (by decide)) (fun _ => ?_)
    refine WW.run (pc' := 15) (lv' := [(0, .ref m), (1, .int (nI j))]) (st' := [.int (nI 3), .int (nI j), .ref m]) 3 rfl ?_
    refine WW.callV [.int (nI j), .int (nI 3)] m [] rfl mX3_58 (sM_br hM25 hS hW hj) (wdRecv.obj hM25.1 rfl) rfl rfl (wd_le rfl) (wd_le rfl) (wd_le rfl) (wd_le rfl) (fun o w' hq => ?_)
    obtain ⟨rfl, hw9⟩ := hq
    show WW _ _ _ 18 _ [.int ((cur.la j).br)] _
    rw [hw9]
    clear hw9 w'
    refine WW.run (pc' := 22) (lv' := [(0, .ref m), (1, .int (nI j))]) (st' := [.int ((cur.la j).br)]) 1 rfl ?_
    exact WW.iret rfl rfl rfl ⟨rfl, ⟨_, _, hM25, rfl, hR.i2 _⟩, fr25⟩
theorem mQ_isLeased (h : isMm w m A t J cur hn hist sv n ic on oc) (hW : aWf cur) (x : Int32) : Sp l G MX3_isLeased 6 0 0 [.ref m, .int x] w (mA m A J cur hn hist sv n ic on oc (.int (nI 0)) (bif cur.ixL x then .inr (.int (bI (Nat.blt 0 (cur.la (tn x)).le))) else .inl 1) w) := by
  obtain ⟨I, F, hM, ht, hR⟩ := h
  have hS := hR.1
  refine Sp.of rfl (by decide +kernel) kX3_isLeased (wd_le rfl) ?_
  refine WW.run (pc' := 3) (lv' := [(0, .ref m), (1, .int x)]) (st' := [.int x, .ref m, .ref m]) 3 rfl ?_
  refine WW.callV [.int x] m [.ref m] rfl mX3_93 (sM_isLamp hM hS x) (wdRecv.obj hM.1 rfl) rfl rfl (wd_le rfl) (wd_le rfl) (wd_le rfl) (wd_le rfl) (fun o w' hq => ?_)
  obtain ⟨rfl, hw9⟩ := hq
  show WW _ _ _ 6 _ [.int (bI (cur.ixL x)), .ref m] _
  rw [hw9]
  clear hw9 w'
  cases hx : cur.ixL x with
  | false =>
    refine WW.callV [.int (bI (false))] m [] rfl mX3_144 (sM_isThere hM false) (wdRecv.obj hM.1 rfl) rfl rfl (wd_le rfl) (wd_le rfl) (wd_le rfl) (wd_le rfl) (fun o w' hq => ?_)
    obtain ⟨_, I26, F26, rfl, ⟨rfl, hI26, hF26⟩, hM26, fr26⟩ := hq
    rw [hI26, hF26] at hM26
    clear hI26 hF26 I26 F26
    show WW _ _ _ 9 _ [.int (bI false)] _
    refine WW.if_eq (tgt := 24) rfl rfl (fun _ => ?_) (fun hno => absurd rfl hno)
    refine WW.run (pc' := 25) (lv' := [(0, .ref m), (1, .int x)]) (st' := [.int (nI 0)]) 1 rfl ?_
    exact WW.iret rfl rfl rfl ⟨rfl, ⟨_, _, hM26, rfl, hR.i2 _⟩, fr26⟩
  | true =>
    obtain ⟨j, hj, rfl, tx⟩ := hW.ixL hx
    rw [tx]
    refine WW.callV [.int (bI (true))] m [] rfl mX3_144 (sM_isThere hM true) (wdRecv.obj hM.1 rfl) rfl rfl (wd_le rfl) (wd_le rfl) (wd_le rfl) (wd_le rfl) (fun o w' hq => ?_)
    obtain ⟨_, I27, F27, rfl, ⟨rfl, hI27, hF27⟩, hM27, fr27⟩ := hq
    rw [hI27, hF27] at hM27
    clear hI27 hF27 I27 F27
    show WW _ _ _ 9 _ [.int (bI true)] _
    refine WW.if_eq (tgt := 24) rfl rfl (fun hno => absurd hno (by decide)) (fun _ => ?_)
    refine WW.run (pc' := 14) (lv' := [(0, .ref m), (1, .int (nI j))]) (st' := [.int (nI j), .ref m]) 2 rfl ?_
    refine WW.callV [.int (nI j)] m [] rfl mX3_96 (sM_isOut hM27 hS hW hj) (wdRecv.obj hM27.1 rfl) rfl rfl (wd_le rfl) (wd_le rfl) (wd_le rfl) (wd_le rfl) (fun o w' hq => ?_)
    obtain ⟨rfl, hw9⟩ := hq
    show WW _ _ _ 17 _ [.int (bI (Nat.blt 0 (cur.la j).le))] _
    rw [hw9]
    clear hw9 w'
    refine WW.join (pc' := 25) (lv' := [(0, .ref m), (1, .int (nI j))]) (st' := [.int (bI (Nat.blt 0 (cur.la j).le))]) ?_ ?_
    rotate_left
    · cases hb : (Nat.blt 0 (cur.la j).le) with
      | false =>
        intro H
        refine WW.if_eq (tgt := 24) rfl rfl (fun _ => ?_) (fun hno => absurd rfl hno)
        refine WW.run (pc' := 25) (lv' := [(0, .ref m), (1, .int (nI j))]) (st' := [.int (nI 0)]) 1 rfl ?_
        exact H
      | true =>
        intro H
        refine WW.if_eq (tgt := 24) rfl rfl (fun hno => absurd hno (by decide)) (fun _ => ?_)
        refine WW.run (pc' := 25) (lv' := [(0, .ref m), (1, .int (nI j))]) (st' := [.int (nI 1)]) 2 rfl ?_
        exact H
    exact WW.iret rfl rfl (nar_b _) ⟨rfl, ⟨_, _, hM27, rfl, hR.i2 _⟩, fr27⟩
theorem mQ_wasBright (h : isMm w m A t J cur hn hist sv n ic on oc) (hW : aWf cur) (x : Int32) : Sp l G MX3_wasBright 6 0 0 [.ref m, .int x] w (mA m A J cur hn hist sv n ic on oc (.int (nI 0)) (bif cur.ixL x then .inr (.int (bI (cur.la (tn x)).was)) else .inl 1) w) := by
  obtain ⟨I, F, hM, ht, hR⟩ := h
  have hS := hR.1
  refine Sp.of rfl (by decide +kernel) kX3_wasBright (wd_le rfl) ?_
  refine WW.run (pc' := 3) (lv' := [(0, .ref m), (1, .int x)]) (st' := [.int x, .ref m, .ref m]) 3 rfl ?_
  refine WW.callV [.int x] m [.ref m] rfl mX3_93 (sM_isLamp hM hS x) (wdRecv.obj hM.1 rfl) rfl rfl (wd_le rfl) (wd_le rfl) (wd_le rfl) (wd_le rfl) (fun o w' hq => ?_)
  obtain ⟨rfl, hw9⟩ := hq
  show WW _ _ _ 6 _ [.int (bI (cur.ixL x)), .ref m] _
  rw [hw9]
  clear hw9 w'
  cases hx : cur.ixL x with
  | false =>
    refine WW.callV [.int (bI (false))] m [] rfl mX3_144 (sM_isThere hM false) (wdRecv.obj hM.1 rfl) rfl rfl (wd_le rfl) (wd_le rfl) (wd_le rfl) (wd_le rfl) (fun o w' hq => ?_)
    obtain ⟨_, I28, F28, rfl, ⟨rfl, hI28, hF28⟩, hM28, fr28⟩ := hq
    rw [hI28, hF28] at hM28
    clear hI28 hF28 I28 F28
    show WW _ _ _ 9 _ [.int (bI false)] _
    refine WW.if_eq (tgt := 26) rfl rfl (fun _ => ?_) (fun hno => absurd rfl hno)
    refine WW.run (pc' := 27) (lv' := [(0, .ref m), (1, .int x)]) (st' := [.int (nI 0)]) 1 rfl ?_
    exact WW.iret rfl rfl rfl ⟨rfl, ⟨_, _, hM28, rfl, hR.i2 _⟩, fr28⟩
  | true =>
    obtain ⟨j, hj, rfl, tx⟩ := hW.ixL hx
    rw [tx]
    refine WW.callV [.int (bI (true))] m [] rfl mX3_144 (sM_isThere hM true) (wdRecv.obj hM.1 rfl) rfl rfl (wd_le rfl) (wd_le rfl) (wd_le rfl) (wd_le rfl) (fun o w' hq => ?_)
    obtain ⟨_, I29, F29, rfl, ⟨rfl, hI29, hF29⟩, hM29, fr29⟩ := hq
    rw [hI29, hF29] at hM29
    clear hI29 hF29 I29 F29
    show WW _ _ _ 9 _ [.int (bI true)] _
    refine WW.if_eq (tgt := 26) rfl rfl (fun hno => absurd hno (by decide)) (fun _ => ?_)
    refine WW.run (pc' := 15) (lv' := [(0, .ref m), (1, .int (nI j))]) (st' := [.int (nI 4), .int (nI j), .ref m]) 3 rfl ?_
    refine WW.callV [.int (nI j), .int (nI 4)] m [] rfl mX3_58 (sM_was hM29 hS hW hj) (wdRecv.obj hM29.1 rfl) rfl rfl (wd_le rfl) (wd_le rfl) (wd_le rfl) (wd_le rfl) (fun o w' hq => ?_)
    obtain ⟨rfl, hw9⟩ := hq
    show WW _ _ _ 18 _ [.int (bI (cur.la j).was)] _
    rw [hw9]
    clear hw9 w'
    refine WW.run (pc' := 19) (lv' := [(0, .ref m), (1, .int (nI j))]) (st' := [.int (nI 1), .int (bI (cur.la j).was)]) 1 rfl ?_
    refine WW.join (pc' := 27) (lv' := [(0, .ref m), (1, .int (nI j))]) (st' := [.int (bI (cur.la j).was)]) ?_ ?_
    rotate_left
    · cases hb : ((cur.la j).was) with
      | false =>
        intro H
        refine WW.icmp_ne (tgt := 26) rfl rfl (fun _ => ?_) (fun hno => absurd hno (by decide))
        refine WW.run (pc' := 27) (lv' := [(0, .ref m), (1, .int (nI j))]) (st' := [.int (nI 0)]) 1 rfl ?_
        exact H
      | true =>
        intro H
        refine WW.icmp_ne (tgt := 26) rfl rfl (fun hno => absurd rfl hno) (fun _ => ?_)
        refine WW.run (pc' := 27) (lv' := [(0, .ref m), (1, .int (nI j))]) (st' := [.int (nI 1)]) 2 rfl ?_
        exact H
    exact WW.iret rfl rfl (nar_b _) ⟨rfl, ⟨_, _, hM29, rfl, hR.i2 _⟩, fr29⟩
theorem mQ_requestedLamp (h : isMm w m A t J cur hn hist sv n ic on oc) (hW : aWf cur) (x : Int32) : Sp l G MX3_requestedLamp 6 0 0 [.ref m, .int x] w (mA m A J cur hn hist sv n ic on oc (.int (nI 0)) (bif cur.ixR x then .inr (.int (nI (cur.rq (tn x)).1)) else .inl 1) w) := by
  obtain ⟨I, F, hM, ht, hR⟩ := h
  have hS := hR.1
  refine Sp.of rfl (by decide +kernel) kX3_requestedLamp (wd_le rfl) ?_
  refine WW.run (pc' := 3) (lv' := [(0, .ref m), (1, .int x)]) (st' := [.int x, .ref m, .ref m]) 3 rfl ?_
  refine WW.callV [.int x] m [.ref m] rfl mX3_169 (sM_isRequest hM hS x) (wdRecv.obj hM.1 rfl) rfl rfl (wd_le rfl) (wd_le rfl) (wd_le rfl) (wd_le rfl) (fun o w' hq => ?_)
  obtain ⟨rfl, hw9⟩ := hq
  show WW _ _ _ 6 _ [.int (bI (cur.ixR x)), .ref m] _
  rw [hw9]
  clear hw9 w'
  cases hx : cur.ixR x with
  | false =>
    refine WW.callV [.int (bI (false))] m [] rfl mX3_144 (sM_isThere hM false) (wdRecv.obj hM.1 rfl) rfl rfl (wd_le rfl) (wd_le rfl) (wd_le rfl) (wd_le rfl) (fun o w' hq => ?_)
    obtain ⟨_, I30, F30, rfl, ⟨rfl, hI30, hF30⟩, hM30, fr30⟩ := hq
    rw [hI30, hF30] at hM30
    clear hI30 hF30 I30 F30
    show WW _ _ _ 9 _ [.int (bI false)] _
    refine WW.if_eq (tgt := 26) rfl rfl (fun _ => ?_) (fun hno => absurd rfl hno)
    refine WW.run (pc' := 27) (lv' := [(0, .ref m), (1, .int x)]) (st' := [.int (nI 0)]) 1 rfl ?_
    exact WW.iret rfl rfl rfl ⟨rfl, ⟨_, _, hM30, rfl, hR.i2 _⟩, fr30⟩
  | true =>
    obtain ⟨j, hj, rfl, tx⟩ := hW.ixR hx
    rw [tx]
    refine WW.callV [.int (bI (true))] m [] rfl mX3_144 (sM_isThere hM true) (wdRecv.obj hM.1 rfl) rfl rfl (wd_le rfl) (wd_le rfl) (wd_le rfl) (wd_le rfl) (fun o w' hq => ?_)
    obtain ⟨_, I31, F31, rfl, ⟨rfl, hI31, hF31⟩, hM31, fr31⟩ := hq
    rw [hI31, hF31] at hM31
    clear hI31 hF31 I31 F31
    show WW _ _ _ 9 _ [.int (bI true)] _
    refine WW.if_eq (tgt := 26) rfl rfl (fun hno => absurd hno (by decide)) (fun _ => ?_)
    have h8 := hW.2.2.1
    refine WW.run (pc' := 13) (lv' := [(0, .ref m), (1, .int (nI j))]) (st' := [.ref m]) 1 rfl ?_
    refine WW.get rfl fX3_9 hM31.1 (show _ = some (.ref (A 0)) from rfl) ?_
    refine WW.run (pc' := 22) (lv' := [(0, .ref m), (1, .int (nI j))]) (st' := [.int ((nI 65) + ((nI 2) * (nI j))), .ref (A 0)]) 5 rfl ?_
    refine WW.mald 0 (65 + (2 * j)) rfl hM31 (by decide) rfl (wn_add rfl (wn_mul rfl rfl)) (by show _ < 81; omega) (by decide) (show (F 0) (65 + (2 * j)) = nI ((cur.rq j).1) from (hS.2.2.2 j hj).1) ?_
    refine WW.run (pc' := 27) (lv' := [(0, .ref m), (1, .int (nI j))]) (st' := [.int (nI ((cur.rq j).1))]) 1 rfl ?_

    exact WW.iret rfl rfl rfl ⟨rfl, ⟨_, _, hM31, rfl, hR.i2 _⟩, fr31⟩
theorem mQ_requestedHours (h : isMm w m A t J cur hn hist sv n ic on oc) (hW : aWf cur) (x : Int32) : Sp l G MX3_requestedHours 6 0 0 [.ref m, .int x] w (mA m A J cur hn hist sv n ic on oc (.int (nI 0)) (bif cur.ixR x then .inr (.int (cur.rq (tn x)).2) else .inl 1) w) := by
  obtain ⟨I, F, hM, ht, hR⟩ := h
  have hS := hR.1
  refine Sp.of rfl (by decide +kernel) kX3_requestedHours (wd_le rfl) ?_
  refine WW.run (pc' := 3) (lv' := [(0, .ref m), (1, .int x)]) (st' := [.int x, .ref m, .ref m]) 3 rfl ?_
  refine WW.callV [.int x] m [.ref m] rfl mX3_169 (sM_isRequest hM hS x) (wdRecv.obj hM.1 rfl) rfl rfl (wd_le rfl) (wd_le rfl) (wd_le rfl) (wd_le rfl) (fun o w' hq => ?_)
  obtain ⟨rfl, hw9⟩ := hq
  show WW _ _ _ 6 _ [.int (bI (cur.ixR x)), .ref m] _
  rw [hw9]
  clear hw9 w'
  cases hx : cur.ixR x with
  | false =>
    refine WW.callV [.int (bI (false))] m [] rfl mX3_144 (sM_isThere hM false) (wdRecv.obj hM.1 rfl) rfl rfl (wd_le rfl) (wd_le rfl) (wd_le rfl) (wd_le rfl) (fun o w' hq => ?_)
    obtain ⟨_, I32, F32, rfl, ⟨rfl, hI32, hF32⟩, hM32, fr32⟩ := hq
    rw [hI32, hF32] at hM32
    clear hI32 hF32 I32 F32
    show WW _ _ _ 9 _ [.int (bI false)] _
    refine WW.if_eq (tgt := 28) rfl rfl (fun _ => ?_) (fun hno => absurd rfl hno)
    refine WW.run (pc' := 29) (lv' := [(0, .ref m), (1, .int x)]) (st' := [.int (nI 0)]) 1 rfl ?_
    exact WW.iret rfl rfl rfl ⟨rfl, ⟨_, _, hM32, rfl, hR.i2 _⟩, fr32⟩
  | true =>
    obtain ⟨j, hj, rfl, tx⟩ := hW.ixR hx
    rw [tx]
    refine WW.callV [.int (bI (true))] m [] rfl mX3_144 (sM_isThere hM true) (wdRecv.obj hM.1 rfl) rfl rfl (wd_le rfl) (wd_le rfl) (wd_le rfl) (wd_le rfl) (fun o w' hq => ?_)
    obtain ⟨_, I33, F33, rfl, ⟨rfl, hI33, hF33⟩, hM33, fr33⟩ := hq
    rw [hI33, hF33] at hM33
    clear hI33 hF33 I33 F33
    show WW _ _ _ 9 _ [.int (bI true)] _
    refine WW.if_eq (tgt := 28) rfl rfl (fun hno => absurd hno (by decide)) (fun _ => ?_)
    have h8 := hW.2.2.1
    refine WW.run (pc' := 13) (lv' := [(0, .ref m), (1, .int (nI j))]) (st' := [.ref m]) 1 rfl ?_
    refine WW.get rfl fX3_9 hM33.1 (show _ = some (.ref (A 0)) from rfl) ?_
    refine WW.run (pc' := 24) (lv' := [(0, .ref m), (1, .int (nI j))]) (st' := [.int (((nI 65) + ((nI 2) * (nI j))) + (nI 1)), .ref (A 0)]) 7 rfl ?_
    refine WW.mald 0 ((65 + (2 * j)) + 1) rfl hM33 (by decide) rfl (wn_add (wn_add rfl (wn_mul rfl rfl)) rfl) (by show _ < 81; omega) (by decide) (show (F 0) ((65 + (2 * j)) + 1) = (cur.rq j).2 from (hS.2.2.2 j hj).2) ?_
    refine WW.run (pc' := 29) (lv' := [(0, .ref m), (1, .int (nI j))]) (st' := [.int ((cur.rq j).2)]) 1 rfl ?_

    exact WW.iret rfl rfl rfl ⟨rfl, ⟨_, _, hM33, rfl, hR.i2 _⟩, fr33⟩
theorem mQ_lessee (h : isMm w m A t J cur hn hist sv n ic on oc) (hW : aWf cur) (x : Int32) : Sp l G MX3_lessee 6 0 0 [.ref m, .int x] w (mA m A J cur hn hist sv n ic on oc (.int (nI 0)) (bif cur.ixL x then (bif Nat.blt 0 (cur.la (tn x)).le then .inr (.int (nI (cur.la (tn x)).le - nI 1)) else .inl 2) else .inl 1) w) := by
  obtain ⟨I, F, hM, ht, hR⟩ := h
  have hS := hR.1
  refine Sp.of rfl (by decide +kernel) kX3_lessee (wd_le rfl) ?_
  refine WW.run (pc' := 3) (lv' := [(0, .ref m), (1, .int x)]) (st' := [.int x, .ref m, .ref m]) 3 rfl ?_
  refine WW.callV [.int x] m [.ref m] rfl mX3_93 (sM_isLamp hM hS x) (wdRecv.obj hM.1 rfl) rfl rfl (wd_le rfl) (wd_le rfl) (wd_le rfl) (wd_le rfl) (fun o w' hq => ?_)
  obtain ⟨rfl, hw9⟩ := hq
  show WW _ _ _ 6 _ [.int (bI (cur.ixL x)), .ref m] _
  rw [hw9]
  clear hw9 w'
  cases hx : cur.ixL x with
  | false =>
    refine WW.if_ne (tgt := 13) rfl rfl (fun hno => absurd rfl hno) (fun _ => ?_)
    refine WW.run (pc' := 26) (lv' := [(0, .ref m), (1, .int x)]) (st' := [.int (nI 1), .ref m]) 2 rfl ?_
    refine WW.mputI 2 rfl pfX3_42 hM rfl rfl rfl rfl (fun w34 hM34 fr34 => ?_)
    refine WW.run (pc' := 30) (lv' := [(0, .ref m), (1, .int x)]) (st' := [.ref m]) 1 rfl ?_
    refine WW.get rfl fX3_42 hM34.1 (show _ = some (.int (nI 1)) from rfl) ?_
    refine WW.if_le (tgt := 40) rfl rfl (fun hno => absurd hno (by decide)) (fun _ => ?_)
    refine WW.run (pc' := 48) (lv' := [(0, .ref m), (1, .int x)]) (st' := [.int (nI 0)]) 2 rfl ?_
    exact WW.iret rfl rfl rfl ⟨rfl, ⟨_, _, hM34, rfl, hR.i2 _⟩, fr34⟩
  | true =>
    obtain ⟨j, hj, rfl, tx⟩ := hW.ixL hx
    rw [tx]
    refine WW.if_ne (tgt := 13) rfl rfl (fun _ => ?_) (fun hno => absurd hno (by decide))
    refine WW.run (pc' := 15) (lv' := [(0, .ref m), (1, .int (nI j))]) (st' := [.int (nI j), .ref m, .ref m]) 2 rfl ?_
    refine WW.callV [.int (nI j)] m [.ref m] rfl mX3_96 (sM_isOut hM hS hW hj) (wdRecv.obj hM.1 rfl) rfl rfl (wd_le rfl) (wd_le rfl) (wd_le rfl) (wd_le rfl) (fun o w' hq => ?_)
    obtain ⟨rfl, hw9⟩ := hq
    show WW _ _ _ 18 _ [.int (bI (Nat.blt 0 (cur.la j).le)), .ref m] _
    rw [hw9]
    clear hw9 w'
    cases hb : Nat.blt 0 (cur.la j).le with
    | false =>
      refine WW.if_ne (tgt := 25) rfl rfl (fun hno => absurd rfl hno) (fun _ => ?_)
      refine WW.run (pc' := 26) (lv' := [(0, .ref m), (1, .int (nI j))]) (st' := [.int (nI 2), .ref m]) 2 rfl ?_
      refine WW.mputI 2 rfl pfX3_42 hM rfl rfl rfl rfl (fun w35 hM35 fr35 => ?_)
      refine WW.run (pc' := 30) (lv' := [(0, .ref m), (1, .int (nI j))]) (st' := [.ref m]) 1 rfl ?_
      refine WW.get rfl fX3_42 hM35.1 (show _ = some (.int (nI 2)) from rfl) ?_
      refine WW.if_le (tgt := 40) rfl rfl (fun hno => absurd hno (by decide)) (fun _ => ?_)
      refine WW.run (pc' := 48) (lv' := [(0, .ref m), (1, .int (nI j))]) (st' := [.int (nI 0)]) 2 rfl ?_
      exact WW.iret rfl rfl rfl ⟨rfl, ⟨_, _, hM35, rfl, hR.i2 _⟩, fr35⟩
    | true =>
      have hle : ¬ (cur.la j).le = 0 := by
        intro e
        rw [e] at hb
        cases hb
      refine WW.if_ne (tgt := 25) rfl rfl (fun _ => ?_) (fun hno => absurd hno (by decide))
      refine WW.run (pc' := 26) (lv' := [(0, .ref m), (1, .int (nI j))]) (st' := [.int (nI 0), .ref m]) 1 rfl ?_
      refine WW.mputI 2 rfl pfX3_42 hM rfl rfl rfl rfl (fun w36 hM36 fr36 => ?_)
      refine WW.run (pc' := 30) (lv' := [(0, .ref m), (1, .int (nI j))]) (st' := [.ref m]) 1 rfl ?_
      refine WW.get rfl fX3_42 hM36.1 (show _ = some (.int (nI 0)) from rfl) ?_
      refine WW.if_le (tgt := 40) rfl rfl (fun _ => ?_) (fun hno => absurd (by decide) hno)
      refine WW.run (pc' := 43) (lv' := [(0, .ref m), (1, .int (nI j))]) (st' := [.int (nI 1), .int (nI j), .ref m]) 3 rfl ?_
      refine WW.callV [.int (nI j), .int (nI 1)] m [] rfl mX3_58 (sM_le hM36 hS hW hj) (wdRecv.obj hM36.1 rfl) rfl rfl (wd_le rfl) (wd_le rfl) (wd_le rfl) (wd_le rfl) (fun o w' hq => ?_)
      obtain ⟨rfl, hw9⟩ := hq
      show WW _ _ _ 46 _ [.int (nI ((cur.la j).le))] _
      rw [hw9]
      clear hw9 w'
      refine WW.run (pc' := 48) (lv' := [(0, .ref m), (1, .int (nI j))]) (st' := [.int ((nI ((cur.la j).le)) - (nI 1))]) 2 rfl ?_
      exact WW.iret rfl rfl rfl ⟨rfl, ⟨_, _, hM36, rfl, hR.i2 _⟩, fr36⟩
theorem mQ_endHour (h : isMm w m A t J cur hn hist sv n ic on oc) (hW : aWf cur) (x : Int32) : Sp l G MX3_endHour 6 0 0 [.ref m, .int x] w (mA m A J cur hn hist sv n ic on oc (.int (nI 0)) (bif cur.ixL x then (bif Nat.blt 0 (cur.la (tn x)).le then .inr (.int ((cur.la (tn x)).en)) else .inl 2) else .inl 1) w) := by
  obtain ⟨I, F, hM, ht, hR⟩ := h
  have hS := hR.1
  refine Sp.of rfl (by decide +kernel) kX3_endHour (wd_le rfl) ?_
  refine WW.run (pc' := 3) (lv' := [(0, .ref m), (1, .int x)]) (st' := [.int x, .ref m, .ref m]) 3 rfl ?_
  refine WW.callV [.int x] m [.ref m] rfl mX3_93 (sM_isLamp hM hS x) (wdRecv.obj hM.1 rfl) rfl rfl (wd_le rfl) (wd_le rfl) (wd_le rfl) (wd_le rfl) (fun o w' hq => ?_)
  obtain ⟨rfl, hw9⟩ := hq
  show WW _ _ _ 6 _ [.int (bI (cur.ixL x)), .ref m] _
  rw [hw9]
  clear hw9 w'
  cases hx : cur.ixL x with
  | false =>
    refine WW.if_ne (tgt := 13) rfl rfl (fun hno => absurd rfl hno) (fun _ => ?_)
    refine WW.run (pc' := 26) (lv' := [(0, .ref m), (1, .int x)]) (st' := [.int (nI 1), .ref m]) 2 rfl ?_
    refine WW.mputI 2 rfl pfX3_42 hM rfl rfl rfl rfl (fun w37 hM37 fr37 => ?_)
    refine WW.run (pc' := 30) (lv' := [(0, .ref m), (1, .int x)]) (st' := [.ref m]) 1 rfl ?_
    refine WW.get rfl fX3_42 hM37.1 (show _ = some (.int (nI 1)) from rfl) ?_
    refine WW.if_le (tgt := 40) rfl rfl (fun hno => absurd hno (by decide)) (fun _ => ?_)
    refine WW.run (pc' := 46) (lv' := [(0, .ref m), (1, .int x)]) (st' := [.int (nI 0)]) 2 rfl ?_
    exact WW.iret rfl rfl rfl ⟨rfl, ⟨_, _, hM37, rfl, hR.i2 _⟩, fr37⟩
  | true =>
    obtain ⟨j, hj, rfl, tx⟩ := hW.ixL hx
    rw [tx]
    refine WW.if_ne (tgt := 13) rfl rfl (fun _ => ?_) (fun hno => absurd hno (by decide))
    refine WW.run (pc' := 15) (lv' := [(0, .ref m), (1, .int (nI j))]) (st' := [.int (nI j), .ref m, .ref m]) 2 rfl ?_
    refine WW.callV [.int (nI j)] m [.ref m] rfl mX3_96 (sM_isOut hM hS hW hj) (wdRecv.obj hM.1 rfl) rfl rfl (wd_le rfl) (wd_le rfl) (wd_le rfl) (wd_le rfl) (fun o w' hq => ?_)
    obtain ⟨rfl, hw9⟩ := hq
    show WW _ _ _ 18 _ [.int (bI (Nat.blt 0 (cur.la j).le)), .ref m] _
    rw [hw9]
    clear hw9 w'
    cases hb : Nat.blt 0 (cur.la j).le with
    | false =>
      refine WW.if_ne (tgt := 25) rfl rfl (fun hno => absurd rfl hno) (fun _ => ?_)
      refine WW.run (pc' := 26) (lv' := [(0, .ref m), (1, .int (nI j))]) (st' := [.int (nI 2), .ref m]) 2 rfl ?_
      refine WW.mputI 2 rfl pfX3_42 hM rfl rfl rfl rfl (fun w38 hM38 fr38 => ?_)
      refine WW.run (pc' := 30) (lv' := [(0, .ref m), (1, .int (nI j))]) (st' := [.ref m]) 1 rfl ?_
      refine WW.get rfl fX3_42 hM38.1 (show _ = some (.int (nI 2)) from rfl) ?_
      refine WW.if_le (tgt := 40) rfl rfl (fun hno => absurd hno (by decide)) (fun _ => ?_)
      refine WW.run (pc' := 46) (lv' := [(0, .ref m), (1, .int (nI j))]) (st' := [.int (nI 0)]) 2 rfl ?_
      exact WW.iret rfl rfl rfl ⟨rfl, ⟨_, _, hM38, rfl, hR.i2 _⟩, fr38⟩
    | true =>
      have hle : ¬ (cur.la j).le = 0 := by
        intro e
        rw [e] at hb
        cases hb
      refine WW.if_ne (tgt := 25) rfl rfl (fun _ => ?_) (fun hno => absurd hno (by decide))
      refine WW.run (pc' := 26) (lv' := [(0, .ref m), (1, .int (nI j))]) (st' := [.int (nI 0), .ref m]) 1 rfl ?_
      refine WW.mputI 2 rfl pfX3_42 hM rfl rfl rfl rfl (fun w39 hM39 fr39 => ?_)
      refine WW.run (pc' := 30) (lv' := [(0, .ref m), (1, .int (nI j))]) (st' := [.ref m]) 1 rfl ?_
      refine WW.get rfl fX3_42 hM39.1 (show _ = some (.int (nI 0)) from rfl) ?_
      refine WW.if_le (tgt := 40) rfl rfl (fun _ => ?_) (fun hno => absurd (by decide) hno)
      refine WW.run (pc' := 43) (lv' := [(0, .ref m), (1, .int (nI j))]) (st' := [.int (nI 2), .int (nI j), .ref m]) 3 rfl ?_
      have hen := sM_en (l := l) (G := G) hM39 hS hW hj
      rw [if_neg hle] at hen
      refine WW.callV [.int (nI j), .int (nI 2)] m [] rfl mX3_58 hen (wdRecv.obj hM39.1 rfl) rfl rfl (wd_le rfl) (wd_le rfl) (wd_le rfl) (wd_le rfl) (fun o w' hq => ?_)
      obtain ⟨rfl, hw9⟩ := hq
      show WW _ _ _ 46 _ [.int ((cur.la j).en)] _
      rw [hw9]
      clear hw9 w'
      exact WW.iret rfl rfl rfl ⟨rfl, ⟨_, _, hM39, rfl, hR.i2 _⟩, fr39⟩
theorem mQ_errorPosition (h : isMm w m A t J cur hn hist sv n ic on oc) (hW : aWf cur) (hJ : J 1 = -1 ∨ 0 ≤ J 1) : Sp l G MX3_errorPosition 6 0 0 [.ref m] w (mA m A J cur hn hist sv n ic on oc (.int (nI 0)) (bif decide (J 1 = -1) then .inl 1 else .inr (.int (J 1))) w) := by
  obtain ⟨I, F, hM, ht, hR⟩ := h
  have hS := hR.1
  refine Sp.of rfl (by decide +kernel) kX3_errorPosition (wd_le rfl) ?_
  have e1 : I 7 = J 1 := hR.2.2.2.2.2.1
  have e1' : I 7 = J 1 := hR.2.2.2.2.2.1
  refine WW.run (pc' := 2) (lv' := [(0, .ref m)]) (st' := [.ref m, .ref m]) 2 rfl ?_
  refine WW.get rfl fX3_32 hM.1 (show _ = some (.int (I 7)) from rfl) ?_
  rw [e1]
  cases hd : decide (J 1 = -1) with
  | true =>
    have hd' := of_decide_eq_true hd
    refine WW.if_lt (tgt := 12) rfl rfl (fun _ => ?_) (fun hno => absurd (by rw [hd']; decide) hno)
    refine WW.run (pc' := 13) (lv' := [(0, .ref m)]) (st' := [.int (nI 0), .ref m]) 1 rfl ?_
    refine WW.callV [.int (nI 0)] m [] rfl mX3_144 (sM_isThere hM false) (wdRecv.obj hM.1 rfl) rfl rfl (wd_le rfl) (wd_le rfl) (wd_le rfl) (wd_le rfl) (fun o w' hq => ?_)
    obtain ⟨_, I40, F40, rfl, ⟨rfl, hI40, hF40⟩, hM40, fr40⟩ := hq
    rw [hI40, hF40] at hM40
    clear hI40 hF40 I40 F40
    show WW _ _ _ 16 _ [.int (bI false)] _
    refine WW.if_eq (tgt := 26) rfl rfl (fun _ => ?_) (fun hno => absurd rfl hno)
    refine WW.run (pc' := 27) (lv' := [(0, .ref m)]) (st' := [.int (nI 0)]) 1 rfl ?_
    exact WW.iret rfl rfl rfl ⟨rfl, ⟨_, _, hM40, rfl, hR.i2 _⟩, fr40⟩
  | false =>
    have hd' : 0 ≤ J 1 := hJ.resolve_left (of_decide_eq_false hd)
    refine WW.if_lt (tgt := 12) rfl rfl (fun hno => absurd hno (Int32.not_lt.mpr hd')) (fun _ => ?_)
    refine WW.run (pc' := 13) (lv' := [(0, .ref m)]) (st' := [.int (nI 1), .ref m]) 2 rfl ?_
    refine WW.callV [.int (nI 1)] m [] rfl mX3_144 (sM_isThere hM true) (wdRecv.obj hM.1 rfl) rfl rfl (wd_le rfl) (wd_le rfl) (wd_le rfl) (wd_le rfl) (fun o w' hq => ?_)
    obtain ⟨_, I41, F41, rfl, ⟨rfl, hI41, hF41⟩, hM41, fr41⟩ := hq
    rw [hI41, hF41] at hM41
    clear hI41 hF41 I41 F41
    show WW _ _ _ 16 _ [.int (bI true)] _
    refine WW.if_eq (tgt := 26) rfl rfl (fun hno => absurd hno (by decide)) (fun _ => ?_)
    refine WW.run (pc' := 20) (lv' := [(0, .ref m)]) (st' := [.ref m]) 1 rfl ?_
    refine WW.get rfl fX3_32 hM41.1 (show _ = some (.int ((va_up I 2 (bI false)) 7)) from rfl) ?_
    refine WW.run (pc' := 27) (lv' := [(0, .ref m)]) (st' := [.int ((va_up I 2 (bI false)) 7)]) 1 rfl ?_
    exact WW.iret rfl rfl rfl ⟨(show (Sum.inl (some (Value.int (I 7))) : wdO) = Sum.inl (some (Value.int (J 1))) from by rw [e1']), ⟨_, _, hM41, rfl, hR.i2 _⟩, fr41⟩
theorem mQ_failedCommand (h : isMm w m A t J cur hn hist sv n ic on oc) (hW : aWf cur) (hJ : J 2 = -1 ∨ 0 ≤ J 2) : Sp l G MX3_failedCommand 6 0 0 [.ref m] w (mA m A J cur hn hist sv n ic on oc (.int (nI 0)) (bif decide (J 2 = -1) then .inl 1 else .inr (.int (J 2))) w) := by
  obtain ⟨I, F, hM, ht, hR⟩ := h
  have hS := hR.1
  refine Sp.of rfl (by decide +kernel) kX3_failedCommand (wd_le rfl) ?_
  have e2 : I 8 = J 2 := hR.2.2.2.2.2.2.1
  have e2' : I 8 = J 2 := hR.2.2.2.2.2.2.1
  refine WW.run (pc' := 2) (lv' := [(0, .ref m)]) (st' := [.ref m, .ref m]) 2 rfl ?_
  refine WW.get rfl fX3_36 hM.1 (show _ = some (.int (I 8)) from rfl) ?_
  rw [e2]
  cases hd : decide (J 2 = -1) with
  | true =>
    have hd' := of_decide_eq_true hd
    refine WW.if_lt (tgt := 12) rfl rfl (fun _ => ?_) (fun hno => absurd (by rw [hd']; decide) hno)
    refine WW.run (pc' := 13) (lv' := [(0, .ref m)]) (st' := [.int (nI 0), .ref m]) 1 rfl ?_
    refine WW.callV [.int (nI 0)] m [] rfl mX3_144 (sM_isThere hM false) (wdRecv.obj hM.1 rfl) rfl rfl (wd_le rfl) (wd_le rfl) (wd_le rfl) (wd_le rfl) (fun o w' hq => ?_)
    obtain ⟨_, I42, F42, rfl, ⟨rfl, hI42, hF42⟩, hM42, fr42⟩ := hq
    rw [hI42, hF42] at hM42
    clear hI42 hF42 I42 F42
    show WW _ _ _ 16 _ [.int (bI false)] _
    refine WW.if_eq (tgt := 26) rfl rfl (fun _ => ?_) (fun hno => absurd rfl hno)
    refine WW.run (pc' := 27) (lv' := [(0, .ref m)]) (st' := [.int (nI 0)]) 1 rfl ?_
    exact WW.iret rfl rfl rfl ⟨rfl, ⟨_, _, hM42, rfl, hR.i2 _⟩, fr42⟩
  | false =>
    have hd' : 0 ≤ J 2 := hJ.resolve_left (of_decide_eq_false hd)
    refine WW.if_lt (tgt := 12) rfl rfl (fun hno => absurd hno (Int32.not_lt.mpr hd')) (fun _ => ?_)
    refine WW.run (pc' := 13) (lv' := [(0, .ref m)]) (st' := [.int (nI 1), .ref m]) 2 rfl ?_
    refine WW.callV [.int (nI 1)] m [] rfl mX3_144 (sM_isThere hM true) (wdRecv.obj hM.1 rfl) rfl rfl (wd_le rfl) (wd_le rfl) (wd_le rfl) (wd_le rfl) (fun o w' hq => ?_)
    obtain ⟨_, I43, F43, rfl, ⟨rfl, hI43, hF43⟩, hM43, fr43⟩ := hq
    rw [hI43, hF43] at hM43
    clear hI43 hF43 I43 F43
    show WW _ _ _ 16 _ [.int (bI true)] _
    refine WW.if_eq (tgt := 26) rfl rfl (fun hno => absurd hno (by decide)) (fun _ => ?_)
    refine WW.run (pc' := 20) (lv' := [(0, .ref m)]) (st' := [.ref m]) 1 rfl ?_
    refine WW.get rfl fX3_36 hM43.1 (show _ = some (.int ((va_up I 2 (bI false)) 8)) from rfl) ?_
    refine WW.run (pc' := 27) (lv' := [(0, .ref m)]) (st' := [.int ((va_up I 2 (bI false)) 8)]) 1 rfl ?_
    exact WW.iret rfl rfl rfl ⟨(show (Sum.inl (some (Value.int (I 8))) : wdO) = Sum.inl (some (Value.int (J 2))) from by rw [e2']), ⟨_, _, hM43, rfl, hR.i2 _⟩, fr43⟩
theorem mQ_failureReason (h : isMm w m A t J cur hn hist sv n ic on oc) (hW : aWf cur) (hJ : J 2 = -1 ∨ 0 ≤ J 2) (hch : narrow .char (.int (J 3)) = .int (J 3)) : Sp l G MX3_failureReason 6 0 0 [.ref m] w (mA m A J cur hn hist sv n ic on oc (.int (nI 32)) (bif decide (J 2 = -1) then .inl 1 else .inr (.int (J 3))) w) := by
  obtain ⟨I, F, hM, ht, hR⟩ := h
  have hS := hR.1
  refine Sp.of rfl (by decide +kernel) kX3_failureReason (wd_le rfl) ?_
  have e2 : I 8 = J 2 := hR.2.2.2.2.2.2.1
  have e3' : I 9 = J 3 := hR.2.2.2.2.2.2.2
  refine WW.run (pc' := 2) (lv' := [(0, .ref m)]) (st' := [.ref m, .ref m]) 2 rfl ?_
  refine WW.get rfl fX3_36 hM.1 (show _ = some (.int (I 8)) from rfl) ?_
  rw [e2]
  cases hd : decide (J 2 = -1) with
  | true =>
    have hd' := of_decide_eq_true hd
    refine WW.if_lt (tgt := 12) rfl rfl (fun _ => ?_) (fun hno => absurd (by rw [hd']; decide) hno)
    refine WW.run (pc' := 13) (lv' := [(0, .ref m)]) (st' := [.int (nI 0), .ref m]) 1 rfl ?_
    refine WW.callV [.int (nI 0)] m [] rfl mX3_144 (sM_isThere hM false) (wdRecv.obj hM.1 rfl) rfl rfl (wd_le rfl) (wd_le rfl) (wd_le rfl) (wd_le rfl) (fun o w' hq => ?_)
    obtain ⟨_, I44, F44, rfl, ⟨rfl, hI44, hF44⟩, hM44, fr44⟩ := hq
    rw [hI44, hF44] at hM44
    clear hI44 hF44 I44 F44
    show WW _ _ _ 16 _ [.int (bI false)] _
    refine WW.if_eq (tgt := 26) rfl rfl (fun _ => ?_) (fun hno => absurd rfl hno)
    refine WW.run (pc' := 28) (lv' := [(0, .ref m)]) (st' := [.int (nI 32)]) 1 rfl ?_
    exact WW.iret rfl rfl rfl ⟨rfl, ⟨_, _, hM44, rfl, hR.i2 _⟩, fr44⟩
  | false =>
    have hd' : 0 ≤ J 2 := hJ.resolve_left (of_decide_eq_false hd)
    refine WW.if_lt (tgt := 12) rfl rfl (fun hno => absurd hno (Int32.not_lt.mpr hd')) (fun _ => ?_)
    refine WW.run (pc' := 13) (lv' := [(0, .ref m)]) (st' := [.int (nI 1), .ref m]) 2 rfl ?_
    refine WW.callV [.int (nI 1)] m [] rfl mX3_144 (sM_isThere hM true) (wdRecv.obj hM.1 rfl) rfl rfl (wd_le rfl) (wd_le rfl) (wd_le rfl) (wd_le rfl) (fun o w' hq => ?_)
    obtain ⟨_, I45, F45, rfl, ⟨rfl, hI45, hF45⟩, hM45, fr45⟩ := hq
    rw [hI45, hF45] at hM45
    clear hI45 hF45 I45 F45
    show WW _ _ _ 16 _ [.int (bI true)] _
    refine WW.if_eq (tgt := 26) rfl rfl (fun hno => absurd hno (by decide)) (fun _ => ?_)
    refine WW.run (pc' := 20) (lv' := [(0, .ref m)]) (st' := [.ref m]) 1 rfl ?_
    refine WW.get rfl fX3_250 hM45.1 (show _ = some (.int ((va_up I 2 (bI false)) 9)) from rfl) ?_
    refine WW.run (pc' := 28) (lv' := [(0, .ref m)]) (st' := [.int ((va_up I 2 (bI false)) 9)]) 1 rfl ?_
    exact WW.iret rfl rfl (show narrow .char (.int (I 9)) = .int (I 9) from by rw [e3']; exact hch) ⟨(show (Sum.inl (some (Value.int (I 9))) : wdO) = Sum.inl (some (Value.int (J 3))) from by rw [e3']), ⟨_, _, hM45, rfl, hR.i2 _⟩, fr45⟩
end
