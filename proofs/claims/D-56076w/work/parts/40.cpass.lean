set_option maxRecDepth 100000
section
variable {l : Launch} {G : wdG} {w : wdW} {lo a : Nat} {Z gs gl gr : Nat → Nat} {S : aS}
theorem cS_passHour (hS : isS G w lo a Z gs gl gr S) (hW : aWf S) : Sp l G MX2_passHour 7 22 104 [.ref a] w (fun o w' => o = .inl (some (.int S.hourN)) ∧ (∃ gr', isS G w' lo a Z gs gl gr' S.hourS) ∧ wFr (hP lo) w w') := by
  refine Sp.of rfl (by decide +kernel) kX2_passHour (wd_le rfl) ?_
  have h1 := hS.1.1
  refine WW.run (pc' := 1) (lv' := [(0, .ref a)]) (st' := [.ref a]) 1 rfl ?_
  refine WW.callVH [] a [] rfl mX2_168 (cS_processRequests hS hW) (wdRecv.obj h1 rfl) rfl rfl (wd_le rfl) (wd_le rfl) (wd_le rfl) (wd_le rfl) (fun o w1 hq => ?_)
  obtain ⟨rfl, hS1, fr1⟩ := hq
  show WW _ _ _ 4 _ [] _
  have hW1 := hW.renew
  have hb1 := hS1.1.1
  refine WW.run (pc' := 5) (lv' := [(0, .ref a)]) (st' := [.ref a]) 1 rfl ?_
  refine WW.callV [] a [] rfl mX2_171 (cS_burn hS1 hW1) (wdRecv.obj hb1 rfl) rfl rfl (wd_le rfl) (wd_le rfl) (wd_le rfl) (wd_le rfl) (fun o w2 hq => ?_)
  obtain ⟨rfl, hS2, fr2⟩ := hq
  show WW _ _ _ 8 _ [.int S.renew.brights] _
  have hW2 : aWf S.renew.burn := hW1.burnTo S.renew.nl
  replace hS2 : isS G w2 lo a Z gs gl gr S.renew.burn := hS2
  have frA : wFr (hP lo) w w2 := fr1.thn fr2 (fun _ _ z => z)
  have hN : S.hourN = (S.renew.burn.fine.tick).endN (S.renew.burn.fine.tick).nl := rfl
  have hSS : S.hourS = (S.renew.burn.fine.tick).endTo (S.renew.burn.fine.tick).nl := rfl
  rw [hN, hSS]
  refine WW.run (pc' := 11) (lv' := [(1, .int (nI 0)), (0, .ref a)]) (st' := []) 3 rfl ?_
  obtain ⟨T0, hT0⟩ : ∃ T, T = S.renew.burn := ⟨_, rfl⟩
  rw [← hT0] at hS2 hW2 ⊢
  have hn6 := hW2.1
  have hn8 := hW2.2.1
  refine WW.upW T0.ns (fun j => 12 - 2 * j) (fun j => 48 - 8 * j) (fun j => [(1, .int (nI j)), (0, .ref a)]) (fun j u => isS G u lo a Z gs gl gr (T0.fineTo j) ∧ wFr (hP lo) w u) (fun j u hj hI ih => ?_) (fun u hI => ?_) ⟨hS2, frA⟩
  · obtain ⟨hS3, fr3⟩ := hI
    have hW3 := hW2.fineTo j
    have hsame := fineTo_same T0 j
    rw [show T0.fineTo (j + 1) = (T0.fineTo j).fine1 j from rfl] at ih
    generalize T0.fineTo j = T at hS3 hW3 hsame ih
    have hjn : j < T.ns := by omega
    have hb := hS3.1.1
    have hl := hS3.2.1.1
    obtain ⟨mc0, hl0⟩ := hl.1
    refine WW.ok fun ok => ?_
    replace ok : wdOk G u := ok
    refine WW.run (pc' := 13) (lv' := [(1, .int (nI j)), (0, .ref a)]) (st' := [.ref a, .int (nI j)]) 2 rfl ?_
    refine WW.get rfl fX2_12 hb (show _ = some (.ref (Z 0)) from rfl) ?_
    refine WW.callV [] (Z 0) [.int (nI j)] rfl mX2_69 (sL_size hl) (wdRecv.obj hl0 rfl) rfl rfl (wd_le rfl) (wd_le rfl) (by omega) (by omega) (fun o w' hq => ?_)
    obtain ⟨rfl, hw9⟩ := hq
    show WW _ _ _ 19 _ [.int (nI T.ns), .int (nI j)] _
    rw [hw9]
    clear hw9 w'
    refine WW.icmp_ge (tgt := 72) rfl rfl (fun hno => absurd hno (nI_ge hjn (by omega))) (fun _ => ?_)
    refine WW.run (pc' := 24) (lv' := [(1, .int (nI j)), (0, .ref a)]) (st' := [.int (nI j), .ref a]) 2 rfl ?_
    refine WW.callV [.int (nI j)] a [] rfl mX2_173 (cS_leasesOf hS3 hW3 (j := j) (by omega)) (wdRecv.obj hb rfl) rfl rfl (wd_le rfl) (wd_le rfl) (by omega) (by omega) (fun o u1 hq => ?_)
    obtain ⟨rfl, g1⟩ := hq
    show WW _ _ _ 27 _ [.int (T.leasesOf j)] _
    have hS4 := hS3.fr ok g1
    have frB : wFr (hP lo) w u1 := fr3.thn0 g1
    have hb4 := hS4.1.1
    have ok3 := ok
    refine WW.ok fun ok => ?_
    replace ok : wdOk G u1 := ok
    refine WW.run (pc' := 29) (lv' := [(2, .int (T.leasesOf j)), (1, .int (nI j)), (0, .ref a)]) (st' := [.int (T.leasesOf j)]) 2 rfl ?_
    refine WW.if_le (tgt := 66) rfl rfl (fun e1 => ?_) (fun e1 => ?_)
    · skip
      refine WW.run (pc' := 11) (lv' := [(1, .int ((nI j) + nI 1)), (2, .int (T.leasesOf j)), (0, .ref a)]) (st' := []) 2 rfl ?_
      refine WW.pick (lv' := [(1, .int ((nI j) + nI 1)), (0, .ref a)]) [0, 2] rfl ?_
      rw [nI_add]
      refine WW.less (by omega) (by omega) (ih _ ⟨?_, frB⟩)
      unfold aS.fine1
      rw [show decide (nI 0 < T.leasesOf j) = false from decide_eq_false (Int32.not_lt.mpr e1)]
      exact hS4
    have e1' : nI 0 < T.leasesOf j := Int32.not_le.mp e1
    refine WW.run (pc' := 34) (lv' := [(2, .int (T.leasesOf j)), (1, .int (nI j)), (0, .ref a)]) (st' := [.int (nI j), .ref a]) 2 rfl ?_
    refine WW.callV [.int (nI j)] a [] rfl mX2_176 (cS_hasLight hS4 hW3 (j := j) (by omega)) (wdRecv.obj hb4 rfl) rfl rfl (wd_le rfl) (wd_le rfl) (by omega) (by omega) (fun o u2 hq => ?_)
    obtain ⟨rfl, g2⟩ := hq
    show WW _ _ _ 37 _ [.int (bI (T.lit j))] _
    have hS5 := hS4.fr ok g2
    have frC : wFr (hP lo) w u2 := frB.thn0 g2
    cases e2 : T.lit j with
    | true =>
      refine WW.if_ne (tgt := 66) rfl rfl (fun _ => ?_) (fun hno => absurd hno (by decide))
      refine WW.run (pc' := 11) (lv' := [(1, .int ((nI j) + nI 1)), (2, .int (T.leasesOf j)), (0, .ref a)]) (st' := []) 2 rfl ?_
      refine WW.pick (lv' := [(1, .int ((nI j) + nI 1)), (0, .ref a)]) [0, 2] rfl ?_
      rw [nI_add]
      refine WW.less (by omega) (by omega) (ih _ ⟨?_, frC⟩)
      unfold aS.fine1
      rw [show decide (nI 0 < T.leasesOf j) = true from decide_eq_true e1', e2]
      exact hS5
    | false =>
      have hb5 := hS5.1.1
      have hl5 := hS5.2.1.1
      obtain ⟨mc5, hl05⟩ := hl5.1
      have hsh := (hS5.2.2.2.1.1 j hjn).1
      have hlo := (hS5.2.2.2.1.1 j hjn).2
      refine WW.if_ne (tgt := 66) rfl rfl (fun hno => absurd rfl hno) (fun _ => ?_)
      refine WW.run (pc' := 42) (lv' := [(2, .int (T.leasesOf j)), (1, .int (nI j)), (0, .ref a)]) (st' := [.ref a, .ref a]) 2 rfl ?_
      refine WW.get rfl fX2_63 hb5 (show _ = some (.int T.office) from rfl) ?_
      refine WW.run (pc' := 46) (lv' := [(2, .int (T.leasesOf j)), (1, .int (nI j)), (0, .ref a)]) (st' := [.ref a, .int T.office, .ref a]) 1 rfl ?_
      refine WW.get rfl fX2_12 hb5 (show _ = some (.ref (Z 0)) from rfl) ?_
      refine WW.run (pc' := 50) (lv' := [(2, .int (T.leasesOf j)), (1, .int (nI j)), (0, .ref a)]) (st' := [.int (nI j), .ref (Z 0), .int T.office, .ref a]) 1 rfl ?_
      refine WW.callV [.int (nI j)] (Z 0) [.int T.office, .ref a] rfl mX2_81 (sL_get hl5 hjn) (wdRecv.obj hl05 rfl) rfl rfl (wd_le rfl) (wd_le rfl) (by omega) (by omega) (fun o w' hq => ?_)
      obtain ⟨rfl, hw9⟩ := hq
      show WW _ _ _ 53 _ [.ref (gs j), .int T.office, .ref a] _
      rw [hw9]
      clear hw9 w'
      refine WW.castY rfl hsh rfl lX2_39 (Or.inl rfl) ?_
      refine WW.run (pc' := 59) (lv' := [(2, .int (T.leasesOf j)), (1, .int (nI j)), (0, .ref a)]) (st' := [.int ((nI 2) * (T.leasesOf j)), .ref (gs j), .int T.office, .ref a]) 3 rfl ?_
      refine WW.callV [.int ((nI 2) * (T.leasesOf j))] (gs j) [.int T.office, .ref a] rfl mX2_179 (sH_fine hsh (nI 2 * T.leasesOf j)) (wdRecv.obj hsh rfl) rfl rfl (wd_le rfl) (wd_le rfl) (by omega) (by omega) (fun o w' hq => ?_)
      obtain ⟨rfl, hw9⟩ := hq
      show WW _ _ _ 62 _ [.int (iMin (T.sh j).1 (nI 2 * T.leasesOf j)), .int T.office, .ref a] _
      rw [hw9]
      generalize hx : iMin (T.sh j).1 (nI 2 * T.leasesOf j) = x
      have hS6 := hS5.putSh (i := j) hjn ((T.sh j).1 - x, (T.sh j).2.1 + x, (T.sh j).2.2 + nI 1)
      have frD : wFr (hP lo) w (wPut u2 3 (gs j) (.inl (shF ((T.sh j).1 - x, (T.sh j).2.1 + x, (T.sh j).2.2 + nI 1)))) := frC.put (Or.inl hlo)
      generalize wPut u2 3 (gs j) (.inl (shF ((T.sh j).1 - x, (T.sh j).2.1 + x, (T.sh j).2.2 + nI 1))) = u3 at hS6 frD
      have hb6 := hS6.1.1
      refine WW.run (pc' := 63) (lv' := [(2, .int (T.leasesOf j)), (1, .int (nI j)), (0, .ref a)]) (st' := [.int (T.office + x), .ref a]) 1 rfl ?_
      refine WW.put [.ref (Z 0), .ref (Z 1), .ref (Z 2), .int T.oil, .int T.hour, .int (T.office + x), .int T.refused] rfl pfX2_63 hb6 (wd_le rfl) rfl rfl rfl ?_
      have h7 : (wPut u3 1 a (.inl [.ref (Z 0), .ref (Z 1), .ref (Z 2), .int T.oil, .int T.hour, .int (T.office + x), .int T.refused])).1 1 a = some (.inl [.ref (Z 0), .ref (Z 1), .ref (Z 2), .int T.oil, .int T.hour, .int (T.office + x), .int T.refused]) := wPut_same _ _ _ _
      refine WW.run (pc' := 11) (lv' := [(1, .int ((nI j) + nI 1)), (2, .int (T.leasesOf j)), (0, .ref a)]) (st' := []) 2 rfl ?_
      refine WW.pick (lv' := [(1, .int ((nI j) + nI 1)), (0, .ref a)]) [0, 2] rfl ?_
      rw [nI_add]
      refine WW.less (by omega) (by omega) (ih _ ⟨?_, frD.put (Or.inl hS3.1.2)⟩)
      have hS7 := hS6.putO (T.fine1 j) (by unfold aS.fine1; rw [show decide (nI 0 < T.leasesOf j) = true from decide_eq_true e1', e2, hx]; rfl) (by unfold aS.fine1; rw [show decide (nI 0 < T.leasesOf j) = true from decide_eq_true e1', e2]; rfl) (by unfold aS.fine1; rw [show decide (nI 0 < T.leasesOf j) = true from decide_eq_true e1', e2]; rfl)
      have e3 : stF Z (T.fine1 j) = [.ref (Z 0), .ref (Z 1), .ref (Z 2), .int T.oil, .int T.hour, .int (T.office + x), .int T.refused] := by
        unfold aS.fine1
        rw [show decide (nI 0 < T.leasesOf j) = true from decide_eq_true e1', e2, hx]
        rfl
      rw [e3] at hS7
      exact hS7
  · obtain ⟨hS3, fr3⟩ := hI
    have hW3 := hW2.fineTo T0.ns
    have hsame := fineTo_same T0 T0.ns
    rw [show T0.fine = T0.fineTo T0.ns from rfl]
    generalize T0.fineTo T0.ns = T at hS3 hW3 hsame
    have hb := hS3.1.1
    have hl := hS3.2.1.1
    obtain ⟨mc0, hl0⟩ := hl.1
    refine WW.run (pc' := 13) (lv' := [(1, .int (nI T0.ns)), (0, .ref a)]) (st' := [.ref a, .int (nI T0.ns)]) 2 rfl ?_
    refine WW.get rfl fX2_12 hb (show _ = some (.ref (Z 0)) from rfl) ?_
    refine WW.callV [] (Z 0) [.int (nI T0.ns)] rfl mX2_69 (sL_size hl) (wdRecv.obj hl0 rfl) rfl rfl (wd_le rfl) (wd_le rfl) (by omega) (by omega) (fun o w' hq => ?_)
    obtain ⟨rfl, hw9⟩ := hq
    show WW _ _ _ 19 _ [.int (nI T.ns), .int (nI T0.ns)] _
    rw [hw9]
    clear hw9 w'
    refine WW.icmp_ge (tgt := 72) rfl rfl (fun _ => ?_) (fun hno => absurd (by rw [hsame.1]; exact Int32.le_refl _) hno)
    refine WW.run (pc' := 74) (lv' := [(1, .int (nI T0.ns)), (0, .ref a)]) (st' := [.ref a, .ref a]) 2 rfl ?_
    refine WW.get rfl fX2_60 hb (show _ = some (.int T.hour) from rfl) ?_
    refine WW.run (pc' := 79) (lv' := [(1, .int (nI T0.ns)), (0, .ref a)]) (st' := [.int (T.hour + (nI 1)), .ref a]) 2 rfl ?_
    refine WW.put [.ref (Z 0), .ref (Z 1), .ref (Z 2), .int T.oil, .int (T.hour + (nI 1)), .int T.office, .int T.refused] rfl pfX2_60 hb (wd_le rfl) rfl rfl rfl ?_
    have h7 : (wPut u 1 a (.inl [.ref (Z 0), .ref (Z 1), .ref (Z 2), .int T.oil, .int (T.hour + (nI 1)), .int T.office, .int T.refused])).1 1 a = some (.inl [.ref (Z 0), .ref (Z 1), .ref (Z 2), .int T.oil, .int (T.hour + (nI 1)), .int T.office, .int T.refused]) := wPut_same _ _ _ _
    have hS4 : isS G (wPut u 1 a (.inl [.ref (Z 0), .ref (Z 1), .ref (Z 2), .int T.oil, .int (T.hour + (nI 1)), .int T.office, .int T.refused])) lo a Z gs gl gr T.tick := hS3.putO T.tick rfl rfl rfl
    have fr4 : wFr (hP lo) w (wPut u 1 a (.inl [.ref (Z 0), .ref (Z 1), .ref (Z 2), .int T.oil, .int (T.hour + (nI 1)), .int T.office, .int T.refused])) := fr3.put (Or.inl hS3.1.2)
    refine WW.run (pc' := 83) (lv' := [(1, .int (nI T0.ns)), (0, .ref a)]) (st' := [.ref a]) 1 rfl ?_
    refine WW.callV [] a [] rfl mX2_182 (cS_endLeases hS4 hW3.tick) (wdRecv.obj h7 rfl) rfl rfl (wd_le rfl) (wd_le rfl) (by omega) (by omega) (fun o w' hq => ?_)
    obtain ⟨rfl, hS5, fr5⟩ := hq
    show WW _ _ _ 86 _ [.int (T.tick.endN T.tick.nl)] _
    exact WW.iret rfl rfl rfl ⟨rfl, hS5, fr4.thn fr5 (fun _ _ z => z)⟩
theorem cS_passHours (hS : isS G w lo a Z gs gl gr S) (hW : aWf S) (x : Int32) : Sp l G MX2_passHours 8 1057 4998 [.ref a, .int x] w (cQ G lo a [14] (S.doWait x) w) := by
  refine Sp.of rfl (by decide +kernel) kX2_passHours (wd_le rfl) ?_
  have h1 := hS.1.1
  obtain ⟨r, hr⟩ : ∃ r, r = S.doWait x := ⟨_, rfl⟩
  rw [← hr]
  unfold aS.doWait at hr
  refine WW.run (pc' := 4) (lv' := [(0, .ref a), (1, .int x)]) (st' := [.int (nI 48), .int (nI 1), .int x]) 3 rfl ?_
  refine WW.callSN [.int x, .int (nI 1), .int (nI 48)] [] rfl mX2_73 (sO_between x (nI 1) (nI 48)) rfl rfl (wd_le rfl) (wd_le rfl) (wd_le rfl) (wd_le rfl) (fun o w' hq => ?_)
  obtain ⟨rfl, hw9⟩ := hq
  show WW _ _ _ 7 _ [.int (bI (inR x (nI 1) (nI 48)))] _
  rw [hw9]
  clear hw9 w'
  refine WW.callSN [.int (bI (inR x (nI 1) (nI 48)))] [] rfl mX2_108 (sO_requireArgument (inR x (nI 1) (nI 48))) rfl rfl (wd_le rfl) (wd_le rfl) (wd_le rfl) (wd_le rfl) (fun o w' hq => ?_)
  cases hc : (inR x (nI 1) (nI 48)) with
  | false =>
    rw [hc] at hq
    try rw [hc] at hr
    try subst hr
    obtain ⟨q, g2, rfl, g3, g4⟩ := hq
    show WX _ _ _ 7 _ [] _ _ _
    exact WX.out (fun _ h => nomatch h) (cQ.thr (G := G) (a := a) rfl ⟨q, g2, rfl, g3, g4⟩)
  | true =>
  rw [hc] at hq
  try rw [hc] at hr
  obtain ⟨rfl, hw9⟩ := hq
  show WW _ _ _ 10 _ [] _
  rw [hw9]
  clear hw9 w'
  obtain ⟨n, -, hn, rfl, ty⟩ := inR_at (by decide) hc (by decide)
  rw [ty] at hr
  subst hr
  refine WW.run (pc' := 14) (lv' := [(3, .int (nI 0)), (2, .int (nI 0)), (0, .ref a), (1, .int (nI n))]) (st' := []) 4 rfl ?_
  refine WW.upW n (fun k => 1056 - 22 * k) (fun k => 4992 - 104 * k) (fun k => [(3, .int (nI k)), (2, .int (S.passN k)), (0, .ref a), (1, .int (nI n))]) (fun k u => (∃ gr', isS G u lo a Z gs gl gr' (S.passTo k)) ∧ wFr (hP lo) w u) (fun k u hk hI ih => ?_) (fun u hI => ?_) ⟨⟨gr, hS⟩, wFr.refl _ _⟩
  · obtain ⟨⟨gr1, hS1⟩, fr⟩ := hI
    have hW1 := hW.passTo k
    rw [show S.passN (k + 1) = S.passN k + (S.passTo k).hourN from rfl, show S.passTo (k + 1) = (S.passTo k).hourS from rfl] at ih
    generalize S.passTo k = T at hS1 hW1 ih
    generalize S.passN k = acc at ih
    have hb := hS1.1.1
    refine WW.run (pc' := 16) (lv' := [(3, .int (nI k)), (2, .int acc), (0, .ref a), (1, .int (nI n))]) (st' := [.int (nI n), .int (nI k)]) 2 rfl ?_
    refine WW.icmp_ge (tgt := 32) rfl rfl (fun hno => absurd hno (nI_ge hk (by omega))) (fun _ => ?_)
    refine WW.run (pc' := 21) (lv' := [(3, .int (nI k)), (2, .int acc), (0, .ref a), (1, .int (nI n))]) (st' := [.ref a, .int acc]) 2 rfl ?_
    refine WW.callV [] a [.int acc] rfl mX2_185 (cS_passHour hS1 hW1) (wdRecv.obj hb rfl) rfl rfl (wd_le rfl) (wd_le rfl) (by omega) (by omega) (fun o w' hq => ?_)
    obtain ⟨rfl, hS2, fr2⟩ := hq
    show WW _ _ _ 24 _ [.int T.hourN, .int acc] _
    refine WW.run (pc' := 14) (lv' := [(3, .int ((nI k) + nI 1)), (2, .int (acc + T.hourN)), (0, .ref a), (1, .int (nI n))]) (st' := []) 4 rfl ?_
    refine WW.pick (lv' := [(3, .int ((nI k) + nI 1)), (2, .int (acc + T.hourN)), (0, .ref a), (1, .int (nI n))]) [0, 1, 2, 3] rfl ?_
    rw [nI_add]
    exact WW.less (by omega) (by omega) (ih _ ⟨hS2, fr.thn fr2 (fun _ _ z => z)⟩)
  · obtain ⟨⟨gr1, hS1⟩, fr⟩ := hI
    refine WW.run (pc' := 16) (lv' := [(3, .int (nI n)), (2, .int (S.passN n)), (0, .ref a), (1, .int (nI n))]) (st' := [.int (nI n), .int (nI n)]) 2 rfl ?_
    refine WW.icmp_ge (tgt := 32) rfl rfl (fun _ => ?_) (fun hno => absurd (Int32.le_refl _) hno)
    refine WW.run (pc' := 33) (lv' := [(3, .int (nI n)), (2, .int (S.passN n)), (0, .ref a), (1, .int (nI n))]) (st' := [.int (S.passN n)]) 1 rfl ?_
    exact WW.iret rfl rfl rfl ⟨rfl, ⟨_, _, _, _, hS1⟩, fr⟩
theorem cS_giveUp (hS : isS G w lo a Z gs gl gr S) (hW : aWf S) (y : Int32) : Sp l G MX2_giveUp 9 2 12 [.ref a, .int y] w (cQ G lo a [13, 16] (S.doDrop y) w) := by
  refine Sp.of rfl (by decide +kernel) kX2_giveUp (wd_le rfl) ?_
  have h1 := hS.1.1
  obtain ⟨r, hr⟩ : ∃ r, r = S.doDrop y := ⟨_, rfl⟩
  rw [← hr]
  unfold aS.doDrop at hr
  refine WW.run (pc' := 2) (lv' := [(0, .ref a), (1, .int y)]) (st' := [.int y, .ref a]) 2 rfl ?_
  refine WW.callV [.int y] a [] rfl mX2_136 (cS_leasedLamp hS hW y) (wdRecv.obj h1 rfl) rfl rfl (wd_le rfl) (wd_le rfl) (wd_le rfl) (wd_le rfl) (fun o w' hq => ?_)
  cases hx : S.ixL y with
  | false =>
    rw [hx] at hq hr
    subst hr
    obtain ⟨q, g2, rfl, g3, g4⟩ := hq
    show WX _ _ _ 2 _ [] _ _ _
    exact WX.out (fun _ h => nomatch h) (cQ.thr (G := G) (a := a) rfl ⟨q, g2, rfl, g3, g4⟩)
  | true =>
  rw [hx] at hq hr
  obtain ⟨i, hi, rfl, ty⟩ := hW.ixL hx
  rw [ty] at hr hq
  cases hb : Nat.blt 0 (S.la i).le with
  | false =>
    rw [hb] at hq hr
    subst hr
    obtain ⟨q, g2, rfl, g3, g4⟩ := hq
    show WX _ _ _ 2 _ [] _ _ _
    exact WX.out (fun _ h => nomatch h) (cQ.thr (G := G) (a := a) rfl ⟨q, g2, rfl, g3, g4⟩)
  | true =>
  rw [hb] at hq hr
  subst hr
  obtain ⟨rfl, hw9⟩ := hq
  show WW _ _ _ 5 _ [.ref (gl i)] _
  rw [hw9]
  clear hw9 w'
  have hla := (hS.2.2.2.2.1.1 i hi).1
  have h1 := hS.1.1
  refine WW.get rfl fX2_133 hla (show _ = some (.int ((S.la i).2.2.1)) from rfl) ?_
  refine WW.run (pc' := 9) (lv' := [(0, .ref a), (1, .int (nI i))]) (st' := [.ref a, .int ((S.la i).2.2.1)]) 1 rfl ?_
  refine WW.get rfl fX2_60 h1 (show _ = some (.int S.hour) from rfl) ?_
  refine WW.run (pc' := 16) (lv' := [(2, .int (((S.la i).2.2.1) - S.hour)), (0, .ref a), (1, .int (nI i))]) (st' := [.int (nI i), .ref a]) 4 rfl ?_
  refine WW.callV [.int (nI i)] a [] rfl mX2_148 (cS_endLease hS hW hi) (wdRecv.obj h1 rfl) rfl rfl (wd_le rfl) (wd_le rfl) (wd_le rfl) (wd_le rfl) (fun o w' hq => ?_)
  obtain ⟨rfl, ⟨gr', hS2⟩, fr2⟩ := hq
  show WW _ _ _ 19 _ [] _
  refine WW.run (pc' := 20) (lv' := [(2, .int (((S.la i).2.2.1) - S.hour)), (0, .ref a), (1, .int (nI i))]) (st' := [.int (((S.la i).2.2.1) - S.hour)]) 1 rfl ?_
  exact WW.iret rfl rfl rfl ⟨rfl, ⟨_, _, _, _, hS2⟩, fr2⟩
theorem cS_lease (hS : isS G w lo a Z gs gl gr S) (hW : aWf S) (x y h : Int32) : Sp l G MX2_lease 8 6 40 [.ref a, .int x, .int y, .int h] w (cQ G lo a [13, 14, 15, 17] (S.doLease x y h) w) := by
  have h6 := hW.1
  refine Sp.ofH rfl (by decide +kernel) kX2_lease (wd_le rfl) ?_
  refine WW.ok fun ok => ?_
  replace ok : wdOk G w := ok
  have h1 := hS.1.1
  obtain ⟨r, hr⟩ : ∃ r, r = S.doLease x y h := ⟨_, rfl⟩
  rw [← hr]
  unfold aS.doLease at hr
  refine WW.run (pc' := 2) (lv' := [(0, .ref a), (1, .int x), (2, .int y), (3, .int h)]) (st' := [.int x, .ref a]) 2 rfl ?_
  refine WW.callV [.int x] a [] rfl mX2_114 (cS_ship hS hW x) (wdRecv.obj h1 rfl) rfl rfl (wd_le rfl) (wd_le rfl) (wd_le rfl) (wd_le rfl) (fun o w' hq => ?_)
  cases hx : S.ixS x with
  | false =>
    rw [hx] at hq hr
    subst hr
    obtain ⟨q, g2, rfl, g3, g4⟩ := hq
    show WX _ _ _ 2 _ [] _ _ _
    exact WX.out (fun z hz => by rcases List.mem_singleton.mp hz with rfl; rfl) (cQ.thr (G := G) (a := a) rfl ⟨q, g2, rfl, g3, g4⟩)
  | true =>
  rw [hx] at hq hr
  obtain ⟨j, hj, rfl, tx⟩ := hW.ixS hx
  rw [tx] at hr hq
  obtain ⟨rfl, hw9⟩ := hq
  show WW _ _ _ 5 _ [.ref (gs j)] _
  rw [hw9]
  clear hw9 w'
  have h1 := hS.1.1
  refine WW.run (pc' := 9) (lv' := [(4, .ref (gs j)), (0, .ref a), (1, .int (nI j)), (2, .int y), (3, .int h)]) (st' := [.int y, .ref a]) 3 rfl ?_
  refine WW.callV [.int y] a [] rfl mX2_85 (cS_lamp hS hW y) (wdRecv.obj h1 rfl) rfl rfl (wd_le rfl) (wd_le rfl) (wd_le rfl) (wd_le rfl) (fun o w' hq => ?_)
  cases hx2 : S.ixL y with
  | false =>
    rw [hx2] at hq hr
    subst hr
    obtain ⟨q, g2, rfl, g3, g4⟩ := hq
    show WX _ _ _ 9 _ [] _ _ _
    exact WX.out (fun z hz => by rcases List.mem_singleton.mp hz with rfl; rfl) (cQ.thr (G := G) (a := a) rfl ⟨q, g2, rfl, g3, g4⟩)
  | true =>
  rw [hx2] at hq hr
  obtain ⟨i, hi, rfl, ty⟩ := hW.ixL hx2
  rw [ty] at hr hq
  obtain ⟨rfl, hw9⟩ := hq
  show WW _ _ _ 12 _ [.ref (gl i)] _
  rw [hw9]
  clear hw9 w'
  have hla := (hS.2.2.2.2.1.1 i hi).1
  have hlo := (hS.2.2.2.2.1.1 i hi).2
  have hsh := (hS.2.2.2.1.1 j hj).1
  have hlo3 := (hS.2.2.2.1.1 j hj).2
  have h1 := hS.1.1
  refine WW.run (pc' := 18) (lv' := [(5, .ref (gl i)), (4, .ref (gs j)), (0, .ref a), (1, .int (nI j)), (2, .int (nI i)), (3, .int h)]) (st' := [.int (nI 24), .int (nI 1), .int h]) 4 rfl ?_
  refine WW.callSN [.int h, .int (nI 1), .int (nI 24)] [] rfl mX2_73 (sO_between h (nI 1) (nI 24)) rfl rfl (wd_le rfl) (wd_le rfl) (wd_le rfl) (wd_le rfl) (fun o w' hq => ?_)
  obtain ⟨rfl, hw9⟩ := hq
  show WW _ _ _ 21 _ [.int (bI (inR h (nI 1) (nI 24)))] _
  rw [hw9]
  clear hw9 w'
  refine WW.callSN [.int (bI (inR h (nI 1) (nI 24)))] [] rfl mX2_108 (sO_requireArgument (inR h (nI 1) (nI 24))) rfl rfl (wd_le rfl) (wd_le rfl) (wd_le rfl) (wd_le rfl) (fun o w' hq => ?_)
  cases hc : (inR h (nI 1) (nI 24)) with
  | false =>
    rw [hc] at hq
    try rw [hc] at hr
    try subst hr
    obtain ⟨q, g2, rfl, g3, g4⟩ := hq
    show WX _ _ _ 21 _ [] _ _ _
    exact WX.out (fun z hz => by rcases List.mem_singleton.mp hz with rfl; rfl) (cQ.thr (G := G) (a := a) rfl ⟨q, g2, rfl, g3, g4⟩)
  | true =>
  rw [hc] at hq
  try rw [hc] at hr
  obtain ⟨rfl, hw9⟩ := hq
  show WW _ _ _ 24 _ [] _
  rw [hw9]
  clear hw9 w'
  refine WW.run (pc' := 26) (lv' := [(5, .ref (gl i)), (4, .ref (gs j)), (0, .ref a), (1, .int (nI j)), (2, .int (nI i)), (3, .int h)]) (st' := [.ref (gl i)]) 1 rfl ?_
  refine WW.callV [] (gl i) [] rfl mX2_89 (sP_isLeased hla (hW.le hi)) (wdRecv.obj hla rfl) rfl rfl (wd_le rfl) (wd_le rfl) (wd_le rfl) (wd_le rfl) (fun o w' hq => ?_)
  obtain ⟨rfl, hw9⟩ := hq
  show WW _ _ _ 29 _ [.int (bI (Nat.blt 0 (S.la i).le))] _
  rw [hw9]
  clear hw9 w'
  obtain ⟨c, hcc⟩ : ∃ c, c = (S.la i).lv * h := ⟨_, rfl⟩
  replace hr : r = bif !Nat.blt 0 (S.la i).le then (if (S.sh j).1 < c then (Sum.inl 4 : aR) else .inr (S.hour + h, (S.pays j c).wLa i ((S.la i).lv, j + 1, S.hour + h, (S.la i).br, (S.la i).was))) else .inl 3 := by
    rw [hr, hcc]
    cases Nat.blt 0 (S.la i).le <;> rfl
  generalize hbb : Nat.blt 0 (S.la i).le = bb at hr
  refine WW.join (pc' := 37) (lv' := [(5, .ref (gl i)), (4, .ref (gs j)), (0, .ref a), (1, .int (nI j)), (2, .int (nI i)), (3, .int h)]) (st' := [.int (bI (!bb))]) ?_ ?_
  rotate_left
  · cases hb : bb with
    | false =>
      intro H
      refine WW.if_ne (tgt := 36) rfl rfl (fun hno => absurd rfl hno) (fun _ => ?_)
      refine WW.run (pc' := 37) (lv' := [(5, .ref (gl i)), (4, .ref (gs j)), (0, .ref a), (1, .int (nI j)), (2, .int (nI i)), (3, .int h)]) (st' := [.int (nI 1)]) 2 rfl ?_
      exact H
    | true =>
      intro H
      refine WW.if_ne (tgt := 36) rfl rfl (fun _ => ?_) (fun hno => absurd hno (by decide))
      refine WW.run (pc' := 37) (lv' := [(5, .ref (gl i)), (4, .ref (gs j)), (0, .ref a), (1, .int (nI j)), (2, .int (nI i)), (3, .int h)]) (st' := [.int (nI 0)]) 1 rfl ?_
      exact H
  refine WW.callSN [.int (bI (!bb))] [] rfl mX2_104 (sO_requireState (!bb)) rfl rfl (wd_le rfl) (wd_le rfl) (wd_le rfl) (wd_le rfl) (fun o w' hq => ?_)
  cases hc : (!bb) with
  | false =>
    rw [hc] at hq
    try rw [hc] at hr
    try subst hr
    obtain ⟨q, g2, rfl, g3, g4⟩ := hq
    show WX _ _ _ 37 _ [] _ _ _
    exact WX.out (fun z hz => by rcases List.mem_singleton.mp hz with rfl; rfl) (cQ.thr (G := G) (a := a) rfl ⟨q, g2, rfl, g3, g4⟩)
  | true =>
  rw [hc] at hq
  try rw [hc] at hr
  obtain ⟨rfl, hw9⟩ := hq
  show WW _ _ _ 40 _ [] _
  rw [hw9]
  clear hw9 w'
  refine WW.run (pc' := 42) (lv' := [(5, .ref (gl i)), (4, .ref (gs j)), (0, .ref a), (1, .int (nI j)), (2, .int (nI i)), (3, .int h)]) (st' := [.ref a, .ref a]) 2 rfl ?_
  refine WW.get rfl fX2_63 h1 (show _ = some (.int S.office) from rfl) ?_
  refine WW.run (pc' := 50) (lv' := [(5, .ref (gl i)), (4, .ref (gs j)), (0, .ref a), (1, .int (nI j)), (2, .int (nI i)), (3, .int h)]) (st' := [.int h, .ref (gl i), .ref (gs j), .int S.office, .ref a]) 3 rfl ?_
  refine WW.callV [.int h] (gl i) [.ref (gs j), .int S.office, .ref a] rfl mX2_118 (sP_cost hla h) (wdRecv.obj hla rfl) rfl rfl (wd_le rfl) (wd_le rfl) (wd_le rfl) (wd_le rfl) (fun o w' hq => ?_)
  obtain ⟨rfl, hw9⟩ := hq
  show WW _ _ _ 53 _ [.int ((S.la i).lv * h), .ref (gs j), .int S.office, .ref a] _
  rw [hw9]
  clear hw9 w'
  rw [show (S.la i).lv * h = c from hcc.symm]
  refine WW.callV [.int c] (gs j) [.int S.office, .ref a] rfl mX2_122 (sH_pay hsh c) (wdRecv.obj hsh rfl) rfl rfl (wd_le rfl) (wd_le rfl) (wd_le rfl) (wd_le rfl) (fun o w' hq => ?_)
  by_cases hlt : (S.sh j).1 < c
  · skip
    rw [if_pos hlt] at hq
    replace hr := hr.trans (if_pos hlt)
    subst hr
    obtain ⟨q, rfl, fr⟩ := hq
    show WX _ _ _ 53 _ [.int S.office, .ref a] _ _ _
    refine WX.catch_ [] _ [] "LampLeaseOffice$PoorException" rfl (fun _ h => nomatch h) rfl (by decide) lX2_125 nq1090 ?_
    refine WW.run (pc' := 65) (lv' := [(6, .ref q), (5, .ref (gl i)), (4, .ref (gs j)), (0, .ref a), (1, .int (nI j)), (2, .int (nI i)), (3, .int h)]) (st' := []) 1 rfl ?_
    refine WW.make0 rfl rfl rfl mkX2_129 moX2_129 (ci := 17) rfl (by decide) (wd_le rfl) (wd_le rfl) (wd_le rfl) (wd_le rfl) (wd_le rfl) (wd_le rfl) (fun q2 hq2 => ?_)
    have ha : (wNew w' 17 q2 (.inl [])).1 17 q2 = some (.inl []) := wNew_same _ _ _ _
    refine WW.athrow rfl ha rfl ?_
    exact WX.out (fun z hz => by rcases List.mem_singleton.mp hz with rfl; rfl) (cQ.thr (G := G) (a := a) rfl ⟨q2, Nat.le_trans fr.2 hq2, rfl, fr.new hq2, ha⟩)
  · skip
    rw [if_neg hlt] at hq
    replace hr := hr.trans (if_neg hlt)
    subst hr
    obtain ⟨rfl, hw9⟩ := hq
    show WW _ _ _ 56 _ [.int c, .int S.office, .ref a] _
    rw [hw9]
    clear hw9 w'
    have hS1 := hS.putSh hj ((S.sh j).1 - c, (S.sh j).2.1, (S.sh j).2.2)
    have fr1 : wFr (hP lo) w (wPut w 3 (gs j) (.inl (shF ((S.sh j).1 - c, (S.sh j).2.1, (S.sh j).2.2)))) := (wFr.refl _ _).put (Or.inl hlo3)
    generalize wPut w 3 (gs j) (.inl (shF ((S.sh j).1 - c, (S.sh j).2.1, (S.sh j).2.2))) = w1 at hS1 fr1
    have h1b := hS1.1.1
    refine WW.run (pc' := 57) (lv' := [(5, .ref (gl i)), (4, .ref (gs j)), (0, .ref a), (1, .int (nI j)), (2, .int (nI i)), (3, .int h)]) (st' := [.int (S.office + c), .ref a]) 1 rfl ?_
    refine WW.put [.ref (Z 0), .ref (Z 1), .ref (Z 2), .int S.oil, .int S.hour, .int (S.office + c), .int S.refused] rfl pfX2_63 h1b (wd_le rfl) rfl rfl rfl ?_
    have h2 : (wPut w1 1 a (.inl [.ref (Z 0), .ref (Z 1), .ref (Z 2), .int S.oil, .int S.hour, .int (S.office + c), .int S.refused])).1 1 a = some (.inl [.ref (Z 0), .ref (Z 1), .ref (Z 2), .int S.oil, .int S.hour, .int (S.office + c), .int S.refused]) := wPut_same _ _ _ _
    have hS2 : isS G (wPut w1 1 a (.inl [.ref (Z 0), .ref (Z 1), .ref (Z 2), .int S.oil, .int S.hour, .int (S.office + c), .int S.refused])) lo a Z gs gl gr (S.pays j c) := hS1.putO (S.pays j c) rfl rfl rfl
    have fr2 : wFr (hP lo) w (wPut w1 1 a (.inl [.ref (Z 0), .ref (Z 1), .ref (Z 2), .int S.oil, .int S.hour, .int (S.office + c), .int S.refused])) := fr1.put (Or.inl hS.1.2)
    obtain ⟨w2, hw2⟩ : ∃ w2, w2 = (wPut w1 1 a (.inl [.ref (Z 0), .ref (Z 1), .ref (Z 2), .int S.oil, .int S.hour, .int (S.office + c), .int S.refused])) := ⟨_, rfl⟩
    rw [← hw2] at fr2 hS2 ⊢
    have hla2 := (hS2.2.2.2.2.1.1 i hi).1
    have hb2 := hS2.1.1
    refine WW.run (pc' := 76) (lv' := [(5, .ref (gl i)), (4, .ref (gs j)), (0, .ref a), (1, .int (nI j)), (2, .int (nI i)), (3, .int h)]) (st' := [.int (nI j), .ref (gl i)]) 3 rfl ?_
    refine WW.put [.int ((S.la i).1), .int (nI j), .int ((S.la i).2.2.1), .int ((S.la i).2.2.2.1), .int (bI (S.la i).2.2.2.2)] rfl pfX2_130 hla2 (wd_le rfl) rfl rfl rfl ?_
    have h3 : (wPut w2 4 (gl i) (.inl [.int ((S.la i).1), .int (nI j), .int ((S.la i).2.2.1), .int ((S.la i).2.2.2.1), .int (bI (S.la i).2.2.2.2)])).1 4 (gl i) = some (.inl [.int ((S.la i).1), .int (nI j), .int ((S.la i).2.2.1), .int ((S.la i).2.2.2.1), .int (bI (S.la i).2.2.2.2)]) := wPut_same _ _ _ _
    refine WW.run (pc' := 82) (lv' := [(5, .ref (gl i)), (4, .ref (gs j)), (0, .ref a), (1, .int (nI j)), (2, .int (nI i)), (3, .int h)]) (st' := [.ref a, .ref (gl i)]) 2 rfl ?_
    refine WW.get rfl fX2_60 hb2 (show _ = some (.int S.hour) from rfl) ?_
    refine WW.run (pc' := 87) (lv' := [(5, .ref (gl i)), (4, .ref (gs j)), (0, .ref a), (1, .int (nI j)), (2, .int (nI i)), (3, .int h)]) (st' := [.int (S.hour + h), .ref (gl i)]) 2 rfl ?_
    refine WW.put [.int ((S.la i).1), .int (nI j), .int (S.hour + h), .int ((S.la i).2.2.2.1), .int (bI (S.la i).2.2.2.2)] rfl pfX2_133 h3 (wd_le rfl) rfl rfl rfl ?_
    have h4 : (wPut (wPut w2 4 (gl i) (.inl [.int ((S.la i).1), .int (nI j), .int ((S.la i).2.2.1), .int ((S.la i).2.2.2.1), .int (bI (S.la i).2.2.2.2)])) 4 (gl i) (.inl [.int ((S.la i).1), .int (nI j), .int (S.hour + h), .int ((S.la i).2.2.2.1), .int (bI (S.la i).2.2.2.2)])).1 4 (gl i) = some (.inl [.int ((S.la i).1), .int (nI j), .int (S.hour + h), .int ((S.la i).2.2.2.1), .int (bI (S.la i).2.2.2.2)]) := wPut_same _ _ _ _
    refine WW.run (pc' := 92) (lv' := [(5, .ref (gl i)), (4, .ref (gs j)), (0, .ref a), (1, .int (nI j)), (2, .int (nI i)), (3, .int h)]) (st' := [.ref (gl i)]) 1 rfl ?_
    refine WW.get rfl fX2_133 h4 (show _ = some (.int (S.hour + h)) from rfl) ?_
    have hS3 := hS2.putLa (i := i) hi ((S.la i).lv, j + 1, S.hour + h, (S.la i).br, (S.la i).was)
    rw [show laF ((S.la i).lv, j + 1, S.hour + h, (S.la i).br, (S.la i).was) = [.int (S.la i).1, .int (nI j), .int (S.hour + h), .int (S.la i).2.2.2.1, .int (bI (S.la i).2.2.2.2)] from by
      show [Value.int _, .int (nI (j + 1) - nI 1), _, _, _] = _
      rw [(wn_sub rfl rfl (by omega) : nI (j + 1) - nI 1 = nI (j + 1 - 1))]
      rfl] at hS3
    exact WW.iret rfl rfl rfl ⟨rfl, ⟨_, _, _, _, by rw [wPut_put]; exact hS3⟩, (fr2.put (Or.inl hlo)).put (Or.inl hlo)⟩
end
