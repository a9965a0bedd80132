set_option maxRecDepth 100000
section
variable {l : Launch} {G : wdG} {w : wdW} {o hl inp sb m : Nat} {A : Nat → Nat} {ou od : Nat} {cur : aS} {hn : Nat} {hist : Nat → aS} {sv : Option aS} {n : Nat} {ic : Nat → Int32} {on : Nat} {oc : Nat → Int32} {J : Nat → Int32} {mc ms kc ks i : Nat}
theorem lK16 (hL : lI G w o hl inp sb m A ou od cur hn hist sv n ic on oc J) (hi : i + 3 < G.2.2.2.2.2.2.1) (hlen : G.2.2.2.2.2.2.1 < 2 ^ 31) (hkc : 40000 ≤ kc) (hks : 200000 ≤ ks) {q b : Bool} (hx : Sp l G MX1_isLeased 8 1 6 [.ref o, .int (G.2.2.2.2.2.2.2 (i + 1))] w (oA G o hl inp sb J cur hn hist sv ic on oc [13] (bif q then .inr (.int (bI b)) else .inl 1) w)) (hy : ∀ w1 t, isMm w1 m A t J cur hn hist sv n ic on oc → Sp l G MX3_isLeased 6 0 0 [.ref m, .int (G.2.2.2.2.2.2.2 (i + 1))] w1 (mA m A J cur hn hist sv n ic on oc (.int (nI 0)) (bif q then .inr (.int (bI b)) else .inl 1) w1)) (kk : lNx l G mc ms kc ks i o hl inp sb m A ou od cur hn hist sv n ic on oc J) : WW (lX l G mc ms) kc ks 1059 (lLV G i o m ou od) [] w := by
  obtain ⟨r, er⟩ : ∃ z : Nat ⊕ Value, z = (bif q then .inr (.int (bI b)) else .inl 1) := ⟨_, rfl⟩
  rw [← er] at hx hy
  have hr : rOb r := by rw [er]; cases q; exact rfl; exact ⟨b, rfl⟩
  obtain ⟨hO, hJ0, ⟨t, J1, hm, j1, j2, j3⟩, ⟨fL, h35⟩, ⟨fD, h36⟩, hA⟩ := hL
  have hm := hm.j j1.symm j2.symm j3.symm
  refine WW.ok fun ok => ?_
  replace ok : wdOk G w := ok
  refine WW.run (pc' := 1065) (lv' := [(5, .int (nI i)), (4, .ref od), (3, .ref ou), (2, .ref m), (1, .ref o), (0, .ref (G.2.2.2.1 3))]) (st' := [.int ((nI i) + (nI 1)), .ref (G.2.2.2.1 3), .ref o]) 5 rfl ?_
  refine WW.scr (i + 1) rfl (wn_add rfl rfl) (by show _ < G.2.2.2.2.2.2.1; omega) hlen ?_
  refine WW.run (pc' := 1067) (lv' := [(5, .int (nI i)), (4, .ref od), (3, .ref ou), (2, .ref m), (1, .ref o), (0, .ref (G.2.2.2.1 3))]) (st' := [.ref ou, .int (G.2.2.2.2.2.2.2 (i + 1)), .ref o]) 1 rfl ?_
  refine WW.callSH [.ref o, .int (G.2.2.2.2.2.2.2 (i + 1)), .ref ou] [] rfl mX0_203 (lW_isLeased (G.2.2.2.2.2.2.2 (i + 1)) hO h35 hx hr) rfl rfl (wd_le rfl) (wd_le rfl) (by omega) (by omega) (fun o w1 hq => ?_)
  obtain ⟨l1, hO1, fL1, k35, hq⟩ := hq
  have k36 := l1.2 _ _ _ h36 (Or.inr (Or.inr (Or.inl rfl)))
  have hm1 := hm.lFr hA l1
  obtain ⟨I1, F1, hM1, ht1⟩ := hm1.cell
  clear er
  cases r with
  | inl p =>
    have hp : p = 1 := hr
    obtain rfl := hq
    have hp1 : 1 ≤ p := by omega
    have hpN : p ≤ 1 := by omega
    show WW _ _ _ 1070 _ [.int (nI p)] _
    refine WW.ok fun ok => ?_
    replace ok : wdOk G w1 := ok
    refine WW.run (pc' := 1078) (lv' := [(6, .int (nI p)), (5, .int (nI i)), (4, .ref od), (3, .ref ou), (2, .ref m), (1, .ref o), (0, .ref (G.2.2.2.1 3))]) (st' := [.int ((nI i) + (nI 1)), .ref (G.2.2.2.1 3), .ref m]) 6 rfl ?_
    refine WW.scr (i + 1) rfl (wn_add rfl rfl) (by show _ < G.2.2.2.2.2.2.1; omega) hlen ?_
    refine WW.callV [.int (G.2.2.2.2.2.2.2 (i + 1))] m [] rfl mX0_205 (hy w1 t hm1) (wdRecv.obj hM1.1 rfl) rfl rfl (wd_le rfl) (wd_le rfl) (by omega) (by omega) (fun o w2 hq => ?_)
    obtain ⟨rfl, hm2, fr2⟩ := hq
    show WW _ _ _ 1082 _ [.int (nI 0)] _
    have hO2 := isOf.mFr ok hO1 hM1 hA fr2
    have q35 := mFr.keep ok hM1 fr2 k35 (Or.inl rfl)
    have q36 := mFr.keep ok hM1 fr2 k36 (Or.inr rfl)
    obtain ⟨I2, F2, hM2, ht2⟩ := hm2.cell
    refine WW.run (pc' := 1085) (lv' := [(7, .int (nI 0)), (6, .int (nI p)), (5, .int (nI i)), (4, .ref od), (3, .ref ou), (2, .ref m), (1, .ref o), (0, .ref (G.2.2.2.1 3))]) (st' := [.ref m]) 2 rfl ?_
    refine WW.callV [] m [] rfl mX0_149 (sM_thrown hM2) (wdRecv.obj hM2.1 rfl) rfl rfl (wd_le rfl) (wd_le rfl) (by omega) (by omega) (fun o w' hq => ?_)
    obtain ⟨rfl, hw9⟩ := hq
    show WW _ _ _ 1088 _ [.int (I2 2)] _
    rw [hw9]
    clear hw9 w'
    rw [ht2]
    refine WW.run (pc' := 1090) (lv' := [(7, .int (nI 0)), (6, .int (nI p)), (5, .int (nI i)), (4, .ref od), (3, .ref ou), (2, .ref m), (1, .ref o), (0, .ref (G.2.2.2.1 3))]) (st' := [.int (nI p), .int (nI p)]) 1 rfl ?_
    refine WW.icmp_eq (tgt := 1095) rfl rfl (fun _ => ?_) (fun hno => absurd rfl hno)
    refine WW.run (pc' := 1097) (lv' := [(7, .int (nI 0)), (6, .int (nI p)), (5, .int (nI i)), (4, .ref od), (3, .ref ou), (2, .ref m), (1, .ref o), (0, .ref (G.2.2.2.1 3))]) (st' := [.int (nI p)]) 1 rfl ?_
    refine WW.if_ne (tgt := 1119) rfl rfl (fun _ => ?_) (fun hno => absurd hno (nI_ne0 hp1 (by omega)))
    refine WW.run (pc' := 2455) (lv' := [(7, .int (nI 0)), (6, .int (nI p)), (5, .int (nI i)), (4, .ref od), (3, .ref ou), (2, .ref m), (1, .ref o), (0, .ref (G.2.2.2.1 3))]) (st' := []) 1 rfl ?_
    refine WW.pick (lv' := [(5, .int (nI i)), (4, .ref od), (3, .ref ou), (2, .ref m), (1, .ref o), (0, .ref (G.2.2.2.1 3))]) [2, 3, 4, 5, 6, 7] rfl ?_
    exact WW.less (by omega) (by omega) (kk w2 ⟨hO2, hJ0, ⟨_, J, hm2, rfl, rfl, rfl⟩, ⟨_, q35⟩, ⟨_, q36⟩, hA⟩)
  | inr v =>
    obtain ⟨y, rfl⟩ := hr
    obtain ⟨rfl, hf0⟩ := hq
    have hf0 : fL1 0 = (bI y).toInt64 := hf0
    show WW _ _ _ 1070 _ [.int (nI 0)] _
    refine WW.ok fun ok => ?_
    replace ok : wdOk G w1 := ok
    refine WW.run (pc' := 1078) (lv' := [(6, .int (nI 0)), (5, .int (nI i)), (4, .ref od), (3, .ref ou), (2, .ref m), (1, .ref o), (0, .ref (G.2.2.2.1 3))]) (st' := [.int ((nI i) + (nI 1)), .ref (G.2.2.2.1 3), .ref m]) 6 rfl ?_
    refine WW.scr (i + 1) rfl (wn_add rfl rfl) (by show _ < G.2.2.2.2.2.2.1; omega) hlen ?_
    refine WW.callV [.int (G.2.2.2.2.2.2.2 (i + 1))] m [] rfl mX0_205 (hy w1 t hm1) (wdRecv.obj hM1.1 rfl) rfl rfl (wd_le rfl) (wd_le rfl) (by omega) (by omega) (fun o w2 hq => ?_)
    obtain ⟨rfl, hm2, fr2⟩ := hq
    show WW _ _ _ 1082 _ [.int (bI y)] _
    have hO2 := isOf.mFr ok hO1 hM1 hA fr2
    have q35 := mFr.keep ok hM1 fr2 k35 (Or.inl rfl)
    have q36 := mFr.keep ok hM1 fr2 k36 (Or.inr rfl)
    obtain ⟨I2, F2, hM2, ht2⟩ := hm2.cell
    refine WW.run (pc' := 1085) (lv' := [(7, .int (bI y)), (6, .int (nI 0)), (5, .int (nI i)), (4, .ref od), (3, .ref ou), (2, .ref m), (1, .ref o), (0, .ref (G.2.2.2.1 3))]) (st' := [.ref m]) 2 rfl ?_
    refine WW.callV [] m [] rfl mX0_149 (sM_thrown hM2) (wdRecv.obj hM2.1 rfl) rfl rfl (wd_le rfl) (wd_le rfl) (by omega) (by omega) (fun o w' hq => ?_)
    obtain ⟨rfl, hw9⟩ := hq
    show WW _ _ _ 1088 _ [.int (I2 2)] _
    rw [hw9]
    clear hw9 w'
    rw [ht2]
    refine WW.run (pc' := 1090) (lv' := [(7, .int (bI y)), (6, .int (nI 0)), (5, .int (nI i)), (4, .ref od), (3, .ref ou), (2, .ref m), (1, .ref o), (0, .ref (G.2.2.2.1 3))]) (st' := [.int (nI 0), .int (nI 0)]) 1 rfl ?_
    refine WW.icmp_eq (tgt := 1095) rfl rfl (fun _ => ?_) (fun hno => absurd rfl hno)
    refine WW.run (pc' := 1097) (lv' := [(7, .int (bI y)), (6, .int (nI 0)), (5, .int (nI i)), (4, .ref od), (3, .ref ou), (2, .ref m), (1, .ref o), (0, .ref (G.2.2.2.1 3))]) (st' := [.int (nI 0)]) 1 rfl ?_
    refine WW.if_ne (tgt := 1119) rfl rfl (fun hno => absurd rfl hno) (fun _ => ?_)
    refine WW.run (pc' := 1102) (lv' := [(7, .int (bI y)), (6, .int (nI 0)), (5, .int (nI i)), (4, .ref od), (3, .ref ou), (2, .ref m), (1, .ref o), (0, .ref (G.2.2.2.1 3))]) (st' := [.int (nI 0), .ref ou]) 2 rfl ?_
    refine WW.lald rfl q35 one_in ?_
    show WW _ _ _ 1103 _ [.long (fL1 0)] _
    rw [hf0]
    refine WW.run (pc' := 1105) (lv' := [(7, .int (bI y)), (6, .int (nI 0)), (5, .int (nI i)), (4, .ref od), (3, .ref ou), (2, .ref m), (1, .ref o), (0, .ref (G.2.2.2.1 3))]) (st' := [.int (bI y), .long ((bI y).toInt64)]) 1 rfl ?_
    cases y with
    | true =>
      refine WW.if_eq (tgt := 1112) rfl rfl (fun hno => absurd hno (by decide)) (fun _ => ?_)
      refine WW.run (pc' := 1113) (lv' := [(7, .int (bI true)), (6, .int (nI 0)), (5, .int (nI i)), (4, .ref od), (3, .ref ou), (2, .ref m), (1, .ref o), (0, .ref (G.2.2.2.1 3))]) (st' := [.long (Int64.ofNat 1), .long ((bI true).toInt64)]) 2 rfl ?_
      refine WW.lcmp rfl ?_
      rw [show lg_cmp (bI true).toInt64 (Int64.ofNat 1) = 0 from lg_cmp_self _]
      refine WW.if_eq (tgt := 1119) rfl rfl (fun _ => ?_) (fun hno => absurd rfl hno)
      refine WW.run (pc' := 2455) (lv' := [(7, .int (bI true)), (6, .int (nI 0)), (5, .int (nI i)), (4, .ref od), (3, .ref ou), (2, .ref m), (1, .ref o), (0, .ref (G.2.2.2.1 3))]) (st' := []) 1 rfl ?_
      refine WW.pick (lv' := [(5, .int (nI i)), (4, .ref od), (3, .ref ou), (2, .ref m), (1, .ref o), (0, .ref (G.2.2.2.1 3))]) [2, 3, 4, 5, 6, 7] rfl ?_
      exact WW.less (by omega) (by omega) (kk w2 ⟨hO2, hJ0, ⟨_, J, hm2, rfl, rfl, rfl⟩, ⟨_, q35⟩, ⟨_, q36⟩, hA⟩)
    | false =>
      refine WW.if_eq (tgt := 1112) rfl rfl (fun _ => ?_) (fun hno => absurd rfl hno)
      refine WW.run (pc' := 1113) (lv' := [(7, .int (bI false)), (6, .int (nI 0)), (5, .int (nI i)), (4, .ref od), (3, .ref ou), (2, .ref m), (1, .ref o), (0, .ref (G.2.2.2.1 3))]) (st' := [.long (Int64.ofNat 0), .long ((bI false).toInt64)]) 1 rfl ?_
      refine WW.lcmp rfl ?_
      rw [show lg_cmp (bI false).toInt64 (Int64.ofNat 0) = 0 from lg_cmp_self _]
      refine WW.if_eq (tgt := 1119) rfl rfl (fun _ => ?_) (fun hno => absurd rfl hno)
      refine WW.run (pc' := 2455) (lv' := [(7, .int (bI false)), (6, .int (nI 0)), (5, .int (nI i)), (4, .ref od), (3, .ref ou), (2, .ref m), (1, .ref o), (0, .ref (G.2.2.2.1 3))]) (st' := []) 1 rfl ?_
      refine WW.pick (lv' := [(5, .int (nI i)), (4, .ref od), (3, .ref ou), (2, .ref m), (1, .ref o), (0, .ref (G.2.2.2.1 3))]) [2, 3, 4, 5, 6, 7] rfl ?_
      exact WW.less (by omega) (by omega) (kk w2 ⟨hO2, hJ0, ⟨_, J, hm2, rfl, rfl, rfl⟩, ⟨_, q35⟩, ⟨_, q36⟩, hA⟩)
theorem lK20 (hL : lI G w o hl inp sb m A ou od cur hn hist sv n ic on oc J) (hi : i + 3 < G.2.2.2.2.2.2.1) (hlen : G.2.2.2.2.2.2.1 < 2 ^ 31) (hkc : 40000 ≤ kc) (hks : 200000 ≤ ks) {q b : Bool} (hx : Sp l G MX1_wasBright 8 1 6 [.ref o, .int (G.2.2.2.2.2.2.2 (i + 1))] w (oA G o hl inp sb J cur hn hist sv ic on oc [13] (bif q then .inr (.int (bI b)) else .inl 1) w)) (hy : ∀ w1 t, isMm w1 m A t J cur hn hist sv n ic on oc → Sp l G MX3_wasBright 6 0 0 [.ref m, .int (G.2.2.2.2.2.2.2 (i + 1))] w1 (mA m A J cur hn hist sv n ic on oc (.int (nI 0)) (bif q then .inr (.int (bI b)) else .inl 1) w1)) (kk : lNx l G mc ms kc ks i o hl inp sb m A ou od cur hn hist sv n ic on oc J) : WW (lX l G mc ms) kc ks 1290 (lLV G i o m ou od) [] w := by
  obtain ⟨r, er⟩ : ∃ z : Nat ⊕ Value, z = (bif q then .inr (.int (bI b)) else .inl 1) := ⟨_, rfl⟩
  rw [← er] at hx hy
  have hr : rOb r := by rw [er]; cases q; exact rfl; exact ⟨b, rfl⟩
  obtain ⟨hO, hJ0, ⟨t, J1, hm, j1, j2, j3⟩, ⟨fL, h35⟩, ⟨fD, h36⟩, hA⟩ := hL
  have hm := hm.j j1.symm j2.symm j3.symm
  refine WW.ok fun ok => ?_
  replace ok : wdOk G w := ok
  refine WW.run (pc' := 1296) (lv' := [(5, .int (nI i)), (4, .ref od), (3, .ref ou), (2, .ref m), (1, .ref o), (0, .ref (G.2.2.2.1 3))]) (st' := [.int ((nI i) + (nI 1)), .ref (G.2.2.2.1 3), .ref o]) 5 rfl ?_
  refine WW.scr (i + 1) rfl (wn_add rfl rfl) (by show _ < G.2.2.2.2.2.2.1; omega) hlen ?_
  refine WW.run (pc' := 1298) (lv' := [(5, .int (nI i)), (4, .ref od), (3, .ref ou), (2, .ref m), (1, .ref o), (0, .ref (G.2.2.2.1 3))]) (st' := [.ref ou, .int (G.2.2.2.2.2.2.2 (i + 1)), .ref o]) 1 rfl ?_
  refine WW.callSH [.ref o, .int (G.2.2.2.2.2.2.2 (i + 1)), .ref ou] [] rfl mX0_215 (lW_wasBright (G.2.2.2.2.2.2.2 (i + 1)) hO h35 hx hr) rfl rfl (wd_le rfl) (wd_le rfl) (by omega) (by omega) (fun o w1 hq => ?_)
  obtain ⟨l1, hO1, fL1, k35, hq⟩ := hq
  have k36 := l1.2 _ _ _ h36 (Or.inr (Or.inr (Or.inl rfl)))
  have hm1 := hm.lFr hA l1
  obtain ⟨I1, F1, hM1, ht1⟩ := hm1.cell
  clear er
  cases r with
  | inl p =>
    have hp : p = 1 := hr
    obtain rfl := hq
    have hp1 : 1 ≤ p := by omega
    have hpN : p ≤ 1 := by omega
    show WW _ _ _ 1301 _ [.int (nI p)] _
    refine WW.ok fun ok => ?_
    replace ok : wdOk G w1 := ok
    refine WW.run (pc' := 1309) (lv' := [(6, .int (nI p)), (5, .int (nI i)), (4, .ref od), (3, .ref ou), (2, .ref m), (1, .ref o), (0, .ref (G.2.2.2.1 3))]) (st' := [.int ((nI i) + (nI 1)), .ref (G.2.2.2.1 3), .ref m]) 6 rfl ?_
    refine WW.scr (i + 1) rfl (wn_add rfl rfl) (by show _ < G.2.2.2.2.2.2.1; omega) hlen ?_
    refine WW.callV [.int (G.2.2.2.2.2.2.2 (i + 1))] m [] rfl mX0_217 (hy w1 t hm1) (wdRecv.obj hM1.1 rfl) rfl rfl (wd_le rfl) (wd_le rfl) (by omega) (by omega) (fun o w2 hq => ?_)
    obtain ⟨rfl, hm2, fr2⟩ := hq
    show WW _ _ _ 1313 _ [.int (nI 0)] _
    have hO2 := isOf.mFr ok hO1 hM1 hA fr2
    have q35 := mFr.keep ok hM1 fr2 k35 (Or.inl rfl)
    have q36 := mFr.keep ok hM1 fr2 k36 (Or.inr rfl)
    obtain ⟨I2, F2, hM2, ht2⟩ := hm2.cell
    refine WW.run (pc' := 1316) (lv' := [(7, .int (nI 0)), (6, .int (nI p)), (5, .int (nI i)), (4, .ref od), (3, .ref ou), (2, .ref m), (1, .ref o), (0, .ref (G.2.2.2.1 3))]) (st' := [.ref m]) 2 rfl ?_
    refine WW.callV [] m [] rfl mX0_149 (sM_thrown hM2) (wdRecv.obj hM2.1 rfl) rfl rfl (wd_le rfl) (wd_le rfl) (by omega) (by omega) (fun o w' hq => ?_)
    obtain ⟨rfl, hw9⟩ := hq
    show WW _ _ _ 1319 _ [.int (I2 2)] _
    rw [hw9]
    clear hw9 w'
    rw [ht2]
    refine WW.run (pc' := 1321) (lv' := [(7, .int (nI 0)), (6, .int (nI p)), (5, .int (nI i)), (4, .ref od), (3, .ref ou), (2, .ref m), (1, .ref o), (0, .ref (G.2.2.2.1 3))]) (st' := [.int (nI p), .int (nI p)]) 1 rfl ?_
    refine WW.icmp_eq (tgt := 1326) rfl rfl (fun _ => ?_) (fun hno => absurd rfl hno)
    refine WW.run (pc' := 1328) (lv' := [(7, .int (nI 0)), (6, .int (nI p)), (5, .int (nI i)), (4, .ref od), (3, .ref ou), (2, .ref m), (1, .ref o), (0, .ref (G.2.2.2.1 3))]) (st' := [.int (nI p)]) 1 rfl ?_
    refine WW.if_ne (tgt := 1350) rfl rfl (fun _ => ?_) (fun hno => absurd hno (nI_ne0 hp1 (by omega)))
    refine WW.run (pc' := 2455) (lv' := [(7, .int (nI 0)), (6, .int (nI p)), (5, .int (nI i)), (4, .ref od), (3, .ref ou), (2, .ref m), (1, .ref o), (0, .ref (G.2.2.2.1 3))]) (st' := []) 1 rfl ?_
    refine WW.pick (lv' := [(5, .int (nI i)), (4, .ref od), (3, .ref ou), (2, .ref m), (1, .ref o), (0, .ref (G.2.2.2.1 3))]) [2, 3, 4, 5, 6, 7] rfl ?_
    exact WW.less (by omega) (by omega) (kk w2 ⟨hO2, hJ0, ⟨_, J, hm2, rfl, rfl, rfl⟩, ⟨_, q35⟩, ⟨_, q36⟩, hA⟩)
  | inr v =>
    obtain ⟨y, rfl⟩ := hr
    obtain ⟨rfl, hf0⟩ := hq
    have hf0 : fL1 0 = (bI y).toInt64 := hf0
    show WW _ _ _ 1301 _ [.int (nI 0)] _
    refine WW.ok fun ok => ?_
    replace ok : wdOk G w1 := ok
    refine WW.run (pc' := 1309) (lv' := [(6, .int (nI 0)), (5, .int (nI i)), (4, .ref od), (3, .ref ou), (2, .ref m), (1, .ref o), (0, .ref (G.2.2.2.1 3))]) (st' := [.int ((nI i) + (nI 1)), .ref (G.2.2.2.1 3), .ref m]) 6 rfl ?_
    refine WW.scr (i + 1) rfl (wn_add rfl rfl) (by show _ < G.2.2.2.2.2.2.1; omega) hlen ?_
    refine WW.callV [.int (G.2.2.2.2.2.2.2 (i + 1))] m [] rfl mX0_217 (hy w1 t hm1) (wdRecv.obj hM1.1 rfl) rfl rfl (wd_le rfl) (wd_le rfl) (by omega) (by omega) (fun o w2 hq => ?_)
    obtain ⟨rfl, hm2, fr2⟩ := hq
    show WW _ _ _ 1313 _ [.int (bI y)] _
    have hO2 := isOf.mFr ok hO1 hM1 hA fr2
    have q35 := mFr.keep ok hM1 fr2 k35 (Or.inl rfl)
    have q36 := mFr.keep ok hM1 fr2 k36 (Or.inr rfl)
    obtain ⟨I2, F2, hM2, ht2⟩ := hm2.cell
    refine WW.run (pc' := 1316) (lv' := [(7, .int (bI y)), (6, .int (nI 0)), (5, .int (nI i)), (4, .ref od), (3, .ref ou), (2, .ref m), (1, .ref o), (0, .ref (G.2.2.2.1 3))]) (st' := [.ref m]) 2 rfl ?_
    refine WW.callV [] m [] rfl mX0_149 (sM_thrown hM2) (wdRecv.obj hM2.1 rfl) rfl rfl (wd_le rfl) (wd_le rfl) (by omega) (by omega) (fun o w' hq => ?_)
    obtain ⟨rfl, hw9⟩ := hq
    show WW _ _ _ 1319 _ [.int (I2 2)] _
    rw [hw9]
    clear hw9 w'
    rw [ht2]
    refine WW.run (pc' := 1321) (lv' := [(7, .int (bI y)), (6, .int (nI 0)), (5, .int (nI i)), (4, .ref od), (3, .ref ou), (2, .ref m), (1, .ref o), (0, .ref (G.2.2.2.1 3))]) (st' := [.int (nI 0), .int (nI 0)]) 1 rfl ?_
    refine WW.icmp_eq (tgt := 1326) rfl rfl (fun _ => ?_) (fun hno => absurd rfl hno)
    refine WW.run (pc' := 1328) (lv' := [(7, .int (bI y)), (6, .int (nI 0)), (5, .int (nI i)), (4, .ref od), (3, .ref ou), (2, .ref m), (1, .ref o), (0, .ref (G.2.2.2.1 3))]) (st' := [.int (nI 0)]) 1 rfl ?_
    refine WW.if_ne (tgt := 1350) rfl rfl (fun hno => absurd rfl hno) (fun _ => ?_)
    refine WW.run (pc' := 1333) (lv' := [(7, .int (bI y)), (6, .int (nI 0)), (5, .int (nI i)), (4, .ref od), (3, .ref ou), (2, .ref m), (1, .ref o), (0, .ref (G.2.2.2.1 3))]) (st' := [.int (nI 0), .ref ou]) 2 rfl ?_
    refine WW.lald rfl q35 one_in ?_
    show WW _ _ _ 1334 _ [.long (fL1 0)] _
    rw [hf0]
    refine WW.run (pc' := 1336) (lv' := [(7, .int (bI y)), (6, .int (nI 0)), (5, .int (nI i)), (4, .ref od), (3, .ref ou), (2, .ref m), (1, .ref o), (0, .ref (G.2.2.2.1 3))]) (st' := [.int (bI y), .long ((bI y).toInt64)]) 1 rfl ?_
    cases y with
    | true =>
      refine WW.if_eq (tgt := 1343) rfl rfl (fun hno => absurd hno (by decide)) (fun _ => ?_)
      refine WW.run (pc' := 1344) (lv' := [(7, .int (bI true)), (6, .int (nI 0)), (5, .int (nI i)), (4, .ref od), (3, .ref ou), (2, .ref m), (1, .ref o), (0, .ref (G.2.2.2.1 3))]) (st' := [.long (Int64.ofNat 1), .long ((bI true).toInt64)]) 2 rfl ?_
      refine WW.lcmp rfl ?_
      rw [show lg_cmp (bI true).toInt64 (Int64.ofNat 1) = 0 from lg_cmp_self _]
      refine WW.if_eq (tgt := 1350) rfl rfl (fun _ => ?_) (fun hno => absurd rfl hno)
      refine WW.run (pc' := 2455) (lv' := [(7, .int (bI true)), (6, .int (nI 0)), (5, .int (nI i)), (4, .ref od), (3, .ref ou), (2, .ref m), (1, .ref o), (0, .ref (G.2.2.2.1 3))]) (st' := []) 1 rfl ?_
      refine WW.pick (lv' := [(5, .int (nI i)), (4, .ref od), (3, .ref ou), (2, .ref m), (1, .ref o), (0, .ref (G.2.2.2.1 3))]) [2, 3, 4, 5, 6, 7] rfl ?_
      exact WW.less (by omega) (by omega) (kk w2 ⟨hO2, hJ0, ⟨_, J, hm2, rfl, rfl, rfl⟩, ⟨_, q35⟩, ⟨_, q36⟩, hA⟩)
    | false =>
      refine WW.if_eq (tgt := 1343) rfl rfl (fun _ => ?_) (fun hno => absurd rfl hno)
      refine WW.run (pc' := 1344) (lv' := [(7, .int (bI false)), (6, .int (nI 0)), (5, .int (nI i)), (4, .ref od), (3, .ref ou), (2, .ref m), (1, .ref o), (0, .ref (G.2.2.2.1 3))]) (st' := [.long (Int64.ofNat 0), .long ((bI false).toInt64)]) 1 rfl ?_
      refine WW.lcmp rfl ?_
      rw [show lg_cmp (bI false).toInt64 (Int64.ofNat 0) = 0 from lg_cmp_self _]
      refine WW.if_eq (tgt := 1350) rfl rfl (fun _ => ?_) (fun hno => absurd rfl hno)
      refine WW.run (pc' := 2455) (lv' := [(7, .int (bI false)), (6, .int (nI 0)), (5, .int (nI i)), (4, .ref od), (3, .ref ou), (2, .ref m), (1, .ref o), (0, .ref (G.2.2.2.1 3))]) (st' := []) 1 rfl ?_
      refine WW.pick (lv' := [(5, .int (nI i)), (4, .ref od), (3, .ref ou), (2, .ref m), (1, .ref o), (0, .ref (G.2.2.2.1 3))]) [2, 3, 4, 5, 6, 7] rfl ?_
      exact WW.less (by omega) (by omega) (kk w2 ⟨hO2, hJ0, ⟨_, J, hm2, rfl, rfl, rfl⟩, ⟨_, q35⟩, ⟨_, q36⟩, hA⟩)
theorem lK50 (hL : lI G w o hl inp sb m A ou od cur hn hist sv n ic on oc J) (hi : i + 3 < G.2.2.2.2.2.2.1) (hlen : G.2.2.2.2.2.2.1 < 2 ^ 31) (hkc : 40000 ≤ kc) (hks : 200000 ≤ ks) (hx : Sp l G MX1_save 6 60 340 [.ref o] w (fun q w' => oFr inp w w' ∧ q = .inl (some (.int (nI cur.nl))) ∧ isOf G w' o hl inp sb J cur hn hist (some cur) ic on oc)) (hy : ∀ w1 t, isMm w1 m A t J cur hn hist sv n ic on oc → Sp l G MX3_save 6 0 0 [.ref m] w1 (fun o w' => mFr m A w1 w' ∧ o = .inl (some (.int (nI cur.nl))) ∧ isMm w' m A (nI 0) J cur hn hist (some cur) n ic on oc)) (kk : lNx l G mc ms kc ks i o hl inp sb m A ou od cur hn hist (some cur) n ic on oc J) : WW (lX l G mc ms) kc ks 2398 (lLV G i o m ou od) [] w := by
  obtain ⟨hO, hJ0, ⟨t, J1, hm, j1, j2, j3⟩, ⟨fL, h35⟩, ⟨fD, h36⟩, hA⟩ := hL
  have hm := hm.j j1.symm j2.symm j3.symm
  refine WW.ok fun ok => ?_
  replace ok : wdOk G w := ok
  obtain ⟨fs, hc⟩ := hO.cell
  refine WW.run (pc' := 2399) (lv' := [(5, .int (nI i)), (4, .ref od), (3, .ref ou), (2, .ref m), (1, .ref o), (0, .ref (G.2.2.2.1 3))]) (st' := [.ref o]) 1 rfl ?_
  refine WW.callV [] o [] rfl mX0_320 hx (wdRecv.obj hc rfl) rfl rfl (wd_le rfl) (wd_le rfl) (by omega) (by omega) (fun o w1 hq => ?_)
  obtain ⟨f1, rfl, hO1⟩ := hq
  have l1 : lFr inp 35 w w1 := lFr.of (Or.inl rfl) f1
  have k35 := f1.2 _ _ _ h35 (Or.inr (Or.inr (Or.inl rfl)))
  have k36 := f1.2 _ _ _ h36 (Or.inr (Or.inr (Or.inr (Or.inl rfl))))
  have hm1 := hm.lFr hA l1
  obtain ⟨I1, F1, hM1, ht1⟩ := hm1.cell
  show WW _ _ _ 2402 _ [.int (nI cur.nl)] _
  refine WW.ok fun ok => ?_
  replace ok : wdOk G w1 := ok
  refine WW.run (pc' := 2403) (lv' := [(5, .int (nI i)), (4, .ref od), (3, .ref ou), (2, .ref m), (1, .ref o), (0, .ref (G.2.2.2.1 3))]) (st' := [.ref m, .int (nI cur.nl)]) 1 rfl ?_
  refine WW.callV [] m [.int (nI cur.nl)] rfl mX0_323 (hy w1 t hm1) (wdRecv.obj hM1.1 rfl) rfl rfl (wd_le rfl) (wd_le rfl) (by omega) (by omega) (fun o w2 hq => ?_)
  obtain ⟨fr2, rfl, hm2⟩ := hq
  show WW _ _ _ 2406 _ [.int (nI cur.nl), .int (nI cur.nl)] _
  have hO2 := isOf.mFr ok hO1 hM1 hA fr2
  have q35 := mFr.keep ok hM1 fr2 k35 (Or.inl rfl)
  have q36 := mFr.keep ok hM1 fr2 k36 (Or.inr rfl)
  refine WW.icmp_eq (tgt := 2455) rfl rfl (fun _ => ?_) (fun hno => absurd rfl hno)
  exact WW.less (by omega) (by omega) (kk w2 ⟨hO2, hJ0, ⟨_, J, hm2, rfl, rfl, rfl⟩, ⟨_, q35⟩, ⟨_, q36⟩, hA⟩)
theorem lK46 (hL : lI G w o hl inp sb m A ou od cur hn hist sv n ic on oc J) (hi : i + 3 < G.2.2.2.2.2.2.1) (hlen : G.2.2.2.2.2.2.1 < 2 ^ 31) (hkc : 40000 ≤ kc) (hks : 200000 ≤ ks) (hx : Sp l G MX1_writeLamps 10 200 40000 [.ref o] w (oWQ G o hl inp sb J cur hn hist sv ic w)) (hy : ∀ w1 t, isMm w1 m A t J cur hn hist sv n ic on oc → Sp l G MX3_writeLamps 7 0 0 [.ref m] w1 (mWQ m A J cur hn hist sv n ic w1)) (kk : lNx l G mc ms kc ks i o hl inp sb m A ou od cur hn hist sv n ic (cur.txt (fun _ => nI 0) cur.nl).1 (cur.txt (fun _ => nI 0) cur.nl).2 J) : WW (lX l G mc ms) kc ks 2272 (lLV G i o m ou od) [] w := by
  obtain ⟨hO, hJ0, ⟨t, J1, hm, j1, j2, j3⟩, ⟨fL, h35⟩, ⟨fD, h36⟩, hA⟩ := hL
  have hm := hm.j j1.symm j2.symm j3.symm
  refine WW.ok fun ok => ?_
  replace ok : wdOk G w := ok
  obtain ⟨fs, hc⟩ := hO.cell
  refine WW.run (pc' := 2273) (lv' := [(5, .int (nI i)), (4, .ref od), (3, .ref ou), (2, .ref m), (1, .ref o), (0, .ref (G.2.2.2.1 3))]) (st' := [.ref o]) 1 rfl ?_
  refine WW.callV [] o [] rfl mX0_306 hx (wdRecv.obj hc rfl) rfl rfl (wd_le rfl) (wd_le rfl) (by omega) (by omega) (fun o w1 hq => ?_)
  obtain ⟨rfl, hO1, f1⟩ := hq
  have l1 : lFr inp 35 w w1 := lFr.of (Or.inl rfl) f1
  have k35 := f1.2 _ _ _ h35 (Or.inr (Or.inr (Or.inl rfl)))
  have k36 := f1.2 _ _ _ h36 (Or.inr (Or.inr (Or.inr (Or.inl rfl))))
  have hm1 := hm.lFr hA l1
  obtain ⟨I1, F1, hM1, ht1⟩ := hm1.cell
  show WW _ _ _ 2276 _ [.int (nI (cur.txt (fun _ => nI 0) cur.nl).1)] _
  refine WW.ok fun ok => ?_
  replace ok : wdOk G w1 := ok
  refine WW.run (pc' := 2277) (lv' := [(5, .int (nI i)), (4, .ref od), (3, .ref ou), (2, .ref m), (1, .ref o), (0, .ref (G.2.2.2.1 3))]) (st' := [.ref m, .int (nI (cur.txt (fun _ => nI 0) cur.nl).1)]) 1 rfl ?_
  refine WW.callV [] m [.int (nI (cur.txt (fun _ => nI 0) cur.nl).1)] rfl mX0_309 (hy w1 t hm1) (wdRecv.obj hM1.1 rfl) rfl rfl (wd_le rfl) (wd_le rfl) (by omega) (by omega) (fun o w2 hq => ?_)
  obtain ⟨rfl, hm2, fr2⟩ := hq
  show WW _ _ _ 2280 _ [.int (nI (cur.txt (fun _ => nI 0) cur.nl).1), .int (nI (cur.txt (fun _ => nI 0) cur.nl).1)] _
  have hO2 := isOf.mFr ok hO1 hM1 hA fr2
  have q35 := mFr.keep ok hM1 fr2 k35 (Or.inl rfl)
  have q36 := mFr.keep ok hM1 fr2 k36 (Or.inr rfl)
  refine WW.icmp_eq (tgt := 2455) rfl rfl (fun _ => ?_) (fun hno => absurd rfl hno)
  exact WW.less (by omega) (by omega) (kk w2 ⟨hO2, hJ0, ⟨_, J, hm2, rfl, rfl, rfl⟩, ⟨_, q35⟩, ⟨_, q36⟩, hA⟩)
theorem lK38 (hL : lI G w o hl inp sb m A ou od cur hn hist sv n ic on oc J) (hi : i + 3 < G.2.2.2.2.2.2.1) (hlen : G.2.2.2.2.2.2.1 < 2 ^ 31) (hkc : 40000 ≤ kc) (hks : 200000 ≤ ks) {r : Nat ⊕ UInt64} (hx : Sp l G MX1_meanCoins 8 2061 8346 [.ref o] w (oA G o hl inp sb J cur hn hist sv ic on oc [18] (rD r) w)) (hr : ∀ p, r = .inl p → p = 1) (hy : ∀ w1 t, isMm w1 m A t J cur hn hist sv n ic on oc → Sp l G MX3_meanCoins 6 0 0 [.ref m] w1 (mA m A J cur hn hist sv n ic on oc (.double 0) (rD r) w1)) (kk : lNx l G mc ms kc ks i o hl inp sb m A ou od cur hn hist sv n ic on oc J) : WW (lX l G mc ms) kc ks 1894 (lLV G i o m ou od) [] w := by
  obtain ⟨hO, hJ0, ⟨t, J1, hm, j1, j2, j3⟩, ⟨fL, h35⟩, ⟨fD, h36⟩, hA⟩ := hL
  have hm := hm.j j1.symm j2.symm j3.symm
  refine WW.ok fun ok => ?_
  replace ok : wdOk G w := ok
  refine WW.run (pc' := 1897) (lv' := [(5, .int (nI i)), (4, .ref od), (3, .ref ou), (2, .ref m), (1, .ref o), (0, .ref (G.2.2.2.1 3))]) (st' := [.ref od, .ref o]) 2 rfl ?_
  refine WW.callSH [.ref o, .ref od] [] rfl mX0_278 (lW_meanCoins hO h36 hx hr) rfl rfl (wd_le rfl) (wd_le rfl) (by omega) (by omega) (fun o w1 hq => ?_)
  obtain ⟨l1, hO1, fD1, k36, hq⟩ := hq
  have k35 := l1.2 _ _ _ h35 (Or.inr (Or.inr (Or.inl rfl)))
  have hm1 := hm.lFr hA l1
  obtain ⟨I1, F1, hM1, ht1⟩ := hm1.cell
  cases r with
  | inl p =>
    have hp := hr p rfl
    obtain rfl := hq
    have hp1 : 1 ≤ p := by omega
    show WW _ _ _ 1900 _ [.int (nI p)] _
    refine WW.ok fun ok => ?_
    replace ok : wdOk G w1 := ok
    refine WW.run (pc' := 1903) (lv' := [(6, .int (nI p)), (5, .int (nI i)), (4, .ref od), (3, .ref ou), (2, .ref m), (1, .ref o), (0, .ref (G.2.2.2.1 3))]) (st' := [.ref m]) 2 rfl ?_
    refine WW.callV [] m [] rfl mX0_281 (hy w1 t hm1) (wdRecv.obj hM1.1 rfl) rfl rfl (wd_le rfl) (wd_le rfl) (by omega) (by omega) (fun o w2 hq => ?_)
    obtain ⟨rfl, hm2, fr2⟩ := hq
    show WW _ _ _ 1906 _ [.double 0] _
    have hO2 := isOf.mFr ok hO1 hM1 hA fr2
    have q35 := mFr.keep ok hM1 fr2 k35 (Or.inl rfl)
    have q36 := mFr.keep ok hM1 fr2 k36 (Or.inr rfl)
    obtain ⟨I2, F2, hM2, ht2⟩ := hm2.cell
    refine WW.run (pc' := 1909) (lv' := [(7, .double 0), (6, .int (nI p)), (5, .int (nI i)), (4, .ref od), (3, .ref ou), (2, .ref m), (1, .ref o), (0, .ref (G.2.2.2.1 3))]) (st' := [.ref m]) 2 rfl ?_
    refine WW.callV [] m [] rfl mX0_149 (sM_thrown hM2) (wdRecv.obj hM2.1 rfl) rfl rfl (wd_le rfl) (wd_le rfl) (by omega) (by omega) (fun o w' hq => ?_)
    obtain ⟨rfl, hw9⟩ := hq
    show WW _ _ _ 1912 _ [.int (I2 2)] _
    rw [hw9]
    clear hw9 w'
    rw [ht2]
    refine WW.run (pc' := 1914) (lv' := [(7, .double 0), (6, .int (nI p)), (5, .int (nI i)), (4, .ref od), (3, .ref ou), (2, .ref m), (1, .ref o), (0, .ref (G.2.2.2.1 3))]) (st' := [.int (nI p), .int (nI p)]) 1 rfl ?_
    refine WW.icmp_eq (tgt := 1919) rfl rfl (fun _ => ?_) (fun hno => absurd rfl hno)
    refine WW.run (pc' := 1921) (lv' := [(7, .double 0), (6, .int (nI p)), (5, .int (nI i)), (4, .ref od), (3, .ref ou), (2, .ref m), (1, .ref o), (0, .ref (G.2.2.2.1 3))]) (st' := [.int (nI p)]) 1 rfl ?_
    refine WW.if_ne (tgt := 1956) rfl rfl (fun _ => ?_) (fun hno => absurd hno (nI_ne0 hp1 (by omega)))
    refine WW.run (pc' := 2455) (lv' := [(7, .double 0), (6, .int (nI p)), (5, .int (nI i)), (4, .ref od), (3, .ref ou), (2, .ref m), (1, .ref o), (0, .ref (G.2.2.2.1 3))]) (st' := []) 1 rfl ?_
    refine WW.pick (lv' := [(5, .int (nI i)), (4, .ref od), (3, .ref ou), (2, .ref m), (1, .ref o), (0, .ref (G.2.2.2.1 3))]) [2, 3, 4, 5, 6, 7] rfl ?_
    exact WW.less (by omega) (by omega) (kk w2 ⟨hO2, hJ0, ⟨_, J, hm2, rfl, rfl, rfl⟩, ⟨_, q35⟩, ⟨_, q36⟩, hA⟩)
  | inr v =>
    obtain ⟨rfl, hf0⟩ := hq
    show WW _ _ _ 1900 _ [.int (nI 0)] _
    refine WW.ok fun ok => ?_
    replace ok : wdOk G w1 := ok
    refine WW.run (pc' := 1903) (lv' := [(6, .int (nI 0)), (5, .int (nI i)), (4, .ref od), (3, .ref ou), (2, .ref m), (1, .ref o), (0, .ref (G.2.2.2.1 3))]) (st' := [.ref m]) 2 rfl ?_
    refine WW.callV [] m [] rfl mX0_281 (hy w1 t hm1) (wdRecv.obj hM1.1 rfl) rfl rfl (wd_le rfl) (wd_le rfl) (by omega) (by omega) (fun o w2 hq => ?_)
    obtain ⟨rfl, hm2, fr2⟩ := hq
    show WW _ _ _ 1906 _ [.double v] _
    have hO2 := isOf.mFr ok hO1 hM1 hA fr2
    have q35 := mFr.keep ok hM1 fr2 k35 (Or.inl rfl)
    have q36 := mFr.keep ok hM1 fr2 k36 (Or.inr rfl)
    obtain ⟨I2, F2, hM2, ht2⟩ := hm2.cell
    refine WW.run (pc' := 1909) (lv' := [(7, .double v), (6, .int (nI 0)), (5, .int (nI i)), (4, .ref od), (3, .ref ou), (2, .ref m), (1, .ref o), (0, .ref (G.2.2.2.1 3))]) (st' := [.ref m]) 2 rfl ?_
    refine WW.callV [] m [] rfl mX0_149 (sM_thrown hM2) (wdRecv.obj hM2.1 rfl) rfl rfl (wd_le rfl) (wd_le rfl) (by omega) (by omega) (fun o w' hq => ?_)
    obtain ⟨rfl, hw9⟩ := hq
    show WW _ _ _ 1912 _ [.int (I2 2)] _
    rw [hw9]
    clear hw9 w'
    rw [ht2]
    refine WW.run (pc' := 1914) (lv' := [(7, .double v), (6, .int (nI 0)), (5, .int (nI i)), (4, .ref od), (3, .ref ou), (2, .ref m), (1, .ref o), (0, .ref (G.2.2.2.1 3))]) (st' := [.int (nI 0), .int (nI 0)]) 1 rfl ?_
    refine WW.icmp_eq (tgt := 1919) rfl rfl (fun _ => ?_) (fun hno => absurd rfl hno)
    refine WW.run (pc' := 1921) (lv' := [(7, .double v), (6, .int (nI 0)), (5, .int (nI i)), (4, .ref od), (3, .ref ou), (2, .ref m), (1, .ref o), (0, .ref (G.2.2.2.1 3))]) (st' := [.int (nI 0)]) 1 rfl ?_
    refine WW.if_ne (tgt := 1956) rfl rfl (fun hno => absurd rfl hno) (fun _ => ?_)
    refine WW.run (pc' := 1927) (lv' := [(7, .double v), (6, .int (nI 0)), (5, .int (nI i)), (4, .ref od), (3, .ref ou), (2, .ref m), (1, .ref o), (0, .ref (G.2.2.2.1 3))]) (st' := [.int (nI 0), .ref od]) 2 rfl ?_
    refine WW.dald rfl q36 one_in ?_
    show WW _ _ _ 1928 _ [.double (fD1 0)] _
    rw [hf0]
    refine WW.run (pc' := 1930) (lv' := [(7, .double v), (6, .int (nI 0)), (5, .int (nI i)), (4, .ref od), (3, .ref ou), (2, .ref m), (1, .ref o), (0, .ref (G.2.2.2.1 3))]) (st' := [.double v, .double v]) 1 rfl ?_
    refine WW.dcmp rfl ?_
    obtain ⟨z, hz⟩ : ∃ z, z = Op.cmpValue (FP.dcmp v v) .l := ⟨_, rfl⟩
    rw [← hz]
    by_cases e : z = 0
    · skip
      refine WW.if_eq (tgt := 1956) rfl rfl (fun _ => ?_) (fun hno => absurd e hno)
      refine WW.run (pc' := 2455) (lv' := [(7, .double v), (6, .int (nI 0)), (5, .int (nI i)), (4, .ref od), (3, .ref ou), (2, .ref m), (1, .ref o), (0, .ref (G.2.2.2.1 3))]) (st' := []) 1 rfl ?_
      refine WW.pick (lv' := [(5, .int (nI i)), (4, .ref od), (3, .ref ou), (2, .ref m), (1, .ref o), (0, .ref (G.2.2.2.1 3))]) [2, 3, 4, 5, 6, 7] rfl ?_
      exact WW.less (by omega) (by omega) (kk w2 ⟨hO2, hJ0, ⟨_, J, hm2, rfl, rfl, rfl⟩, ⟨_, q35⟩, ⟨_, q36⟩, hA⟩)
    · skip
      refine WW.if_eq (tgt := 1956) rfl rfl (fun hno => absurd hno e) (fun _ => ?_)
      refine WW.run (pc' := 1937) (lv' := [(7, .double v), (6, .int (nI 0)), (5, .int (nI i)), (4, .ref od), (3, .ref ou), (2, .ref m), (1, .ref o), (0, .ref (G.2.2.2.1 3))]) (st' := [.int (nI 0), .ref od]) 2 rfl ?_
      refine WW.dald rfl q36 one_in ?_
      show WW _ _ _ 1938 _ [.double (fD1 0)] _
      rw [hf0]
      refine WW.run (pc' := 1941) (lv' := [(7, .double v), (6, .int (nI 0)), (5, .int (nI i)), (4, .ref od), (3, .ref ou), (2, .ref m), (1, .ref o), (0, .ref (G.2.2.2.1 3))]) (st' := [.int (nI 0), .ref od, .double v]) 2 rfl ?_
      refine WW.dald rfl q36 one_in ?_
      show WW _ _ _ 1942 _ [.double (fD1 0), .double v] _
      rw [hf0]
      refine WW.dcmp rfl ?_
      rw [← hz]
      refine WW.if_eq (tgt := 1954) rfl rfl (fun hno => absurd hno e) (fun _ => ?_)
      refine WW.run (pc' := 1950) (lv' := [(7, .double v), (6, .int (nI 0)), (5, .int (nI i)), (4, .ref od), (3, .ref ou), (2, .ref m), (1, .ref o), (0, .ref (G.2.2.2.1 3))]) (st' := [.double v, .double v]) 2 rfl ?_
      refine WW.dcmp rfl ?_
      rw [← hz]
      refine WW.if_ne (tgt := 1956) rfl rfl (fun _ => ?_) (fun hno => absurd hno e)
      refine WW.run (pc' := 2455) (lv' := [(7, .double v), (6, .int (nI 0)), (5, .int (nI i)), (4, .ref od), (3, .ref ou), (2, .ref m), (1, .ref o), (0, .ref (G.2.2.2.1 3))]) (st' := []) 1 rfl ?_
      refine WW.pick (lv' := [(5, .int (nI i)), (4, .ref od), (3, .ref ou), (2, .ref m), (1, .ref o), (0, .ref (G.2.2.2.1 3))]) [2, 3, 4, 5, 6, 7] rfl ?_
      exact WW.less (by omega) (by omega) (kk w2 ⟨hO2, hJ0, ⟨_, J, hm2, rfl, rfl, rfl⟩, ⟨_, q35⟩, ⟨_, q36⟩, hA⟩)
theorem lK39 (hL : lI G w o hl inp sb m A ou od cur hn hist sv n ic on oc J) (hi : i + 3 < G.2.2.2.2.2.2.1) (hlen : G.2.2.2.2.2.2.1 < 2 ^ 31) (hkc : 40000 ≤ kc) (hks : 200000 ≤ ks) {r : Nat ⊕ UInt32} (hx : Sp l G MX1_leasedShare 8 2061 8346 [.ref o] w (oA G o hl inp sb J cur hn hist sv ic on oc [18] (rF r) w)) (hr : ∀ p, r = .inl p → p = 1) (hN : ∀ v, r = .inr v → vf_n64 (FP.f2d v) ∧ Op.cmpValue (FP.dcmp (FP.f2d v) (FP.f2d v)) .l = 0) (hy : ∀ w1 t, isMm w1 m A t J cur hn hist sv n ic on oc → Sp l G MX3_leasedShare 6 0 0 [.ref m] w1 (mA m A J cur hn hist sv n ic on oc (.float 0) (rF r) w1)) (kk : lNx l G mc ms kc ks i o hl inp sb m A ou od cur hn hist sv n ic on oc J) : WW (lX l G mc ms) kc ks 1959 (lLV G i o m ou od) [] w := by
  obtain ⟨hO, hJ0, ⟨t, J1, hm, j1, j2, j3⟩, ⟨fL, h35⟩, ⟨fD, h36⟩, hA⟩ := hL
  have hm := hm.j j1.symm j2.symm j3.symm
  refine WW.ok fun ok => ?_
  replace ok : wdOk G w := ok
  refine WW.run (pc' := 1962) (lv' := [(5, .int (nI i)), (4, .ref od), (3, .ref ou), (2, .ref m), (1, .ref o), (0, .ref (G.2.2.2.1 3))]) (st' := [.ref od, .ref o]) 2 rfl ?_
  refine WW.callSH [.ref o, .ref od] [] rfl mX0_282 (lW_leasedShare hO h36 hx hr (fun v e => (hN v e).1)) rfl rfl (wd_le rfl) (wd_le rfl) (by omega) (by omega) (fun o w1 hq => ?_)
  obtain ⟨l1, hO1, fD1, k36, hq⟩ := hq
  have k35 := l1.2 _ _ _ h35 (Or.inr (Or.inr (Or.inl rfl)))
  have hm1 := hm.lFr hA l1
  obtain ⟨I1, F1, hM1, ht1⟩ := hm1.cell
  cases r with
  | inl p =>
    have hp := hr p rfl
    obtain rfl := hq
    have hp1 : 1 ≤ p := by omega
    show WW _ _ _ 1965 _ [.int (nI p)] _
    refine WW.ok fun ok => ?_
    replace ok : wdOk G w1 := ok
    refine WW.run (pc' := 1968) (lv' := [(6, .int (nI p)), (5, .int (nI i)), (4, .ref od), (3, .ref ou), (2, .ref m), (1, .ref o), (0, .ref (G.2.2.2.1 3))]) (st' := [.ref m]) 2 rfl ?_
    refine WW.callV [] m [] rfl mX0_284 (hy w1 t hm1) (wdRecv.obj hM1.1 rfl) rfl rfl (wd_le rfl) (wd_le rfl) (by omega) (by omega) (fun o w2 hq => ?_)
    obtain ⟨rfl, hm2, fr2⟩ := hq
    show WW _ _ _ 1971 _ [.float 0] _
    have hO2 := isOf.mFr ok hO1 hM1 hA fr2
    have q35 := mFr.keep ok hM1 fr2 k35 (Or.inl rfl)
    have q36 := mFr.keep ok hM1 fr2 k36 (Or.inr rfl)
    obtain ⟨I2, F2, hM2, ht2⟩ := hm2.cell
    refine WW.run (pc' := 1974) (lv' := [(7, .float 0), (6, .int (nI p)), (5, .int (nI i)), (4, .ref od), (3, .ref ou), (2, .ref m), (1, .ref o), (0, .ref (G.2.2.2.1 3))]) (st' := [.ref m]) 2 rfl ?_
    refine WW.callV [] m [] rfl mX0_149 (sM_thrown hM2) (wdRecv.obj hM2.1 rfl) rfl rfl (wd_le rfl) (wd_le rfl) (by omega) (by omega) (fun o w' hq => ?_)
    obtain ⟨rfl, hw9⟩ := hq
    show WW _ _ _ 1977 _ [.int (I2 2)] _
    rw [hw9]
    clear hw9 w'
    rw [ht2]
    refine WW.run (pc' := 1979) (lv' := [(7, .float 0), (6, .int (nI p)), (5, .int (nI i)), (4, .ref od), (3, .ref ou), (2, .ref m), (1, .ref o), (0, .ref (G.2.2.2.1 3))]) (st' := [.int (nI p), .int (nI p)]) 1 rfl ?_
    refine WW.icmp_eq (tgt := 1984) rfl rfl (fun _ => ?_) (fun hno => absurd rfl hno)
    refine WW.run (pc' := 1986) (lv' := [(7, .float 0), (6, .int (nI p)), (5, .int (nI i)), (4, .ref od), (3, .ref ou), (2, .ref m), (1, .ref o), (0, .ref (G.2.2.2.1 3))]) (st' := [.int (nI p)]) 1 rfl ?_
    refine WW.if_ne (tgt := 2022) rfl rfl (fun _ => ?_) (fun hno => absurd hno (nI_ne0 hp1 (by omega)))
    refine WW.run (pc' := 2455) (lv' := [(7, .float 0), (6, .int (nI p)), (5, .int (nI i)), (4, .ref od), (3, .ref ou), (2, .ref m), (1, .ref o), (0, .ref (G.2.2.2.1 3))]) (st' := []) 1 rfl ?_
    refine WW.pick (lv' := [(5, .int (nI i)), (4, .ref od), (3, .ref ou), (2, .ref m), (1, .ref o), (0, .ref (G.2.2.2.1 3))]) [2, 3, 4, 5, 6, 7] rfl ?_
    exact WW.less (by omega) (by omega) (kk w2 ⟨hO2, hJ0, ⟨_, J, hm2, rfl, rfl, rfl⟩, ⟨_, q35⟩, ⟨_, q36⟩, hA⟩)
  | inr v =>
    obtain ⟨rfl, hf0⟩ := hq
    show WW _ _ _ 1965 _ [.int (nI 0)] _
    refine WW.ok fun ok => ?_
    replace ok : wdOk G w1 := ok
    refine WW.run (pc' := 1968) (lv' := [(6, .int (nI 0)), (5, .int (nI i)), (4, .ref od), (3, .ref ou), (2, .ref m), (1, .ref o), (0, .ref (G.2.2.2.1 3))]) (st' := [.ref m]) 2 rfl ?_
    refine WW.callV [] m [] rfl mX0_284 (hy w1 t hm1) (wdRecv.obj hM1.1 rfl) rfl rfl (wd_le rfl) (wd_le rfl) (by omega) (by omega) (fun o w2 hq => ?_)
    obtain ⟨rfl, hm2, fr2⟩ := hq
    show WW _ _ _ 1971 _ [.float v] _
    have hO2 := isOf.mFr ok hO1 hM1 hA fr2
    have q35 := mFr.keep ok hM1 fr2 k35 (Or.inl rfl)
    have q36 := mFr.keep ok hM1 fr2 k36 (Or.inr rfl)
    obtain ⟨I2, F2, hM2, ht2⟩ := hm2.cell
    refine WW.run (pc' := 1974) (lv' := [(7, .float v), (6, .int (nI 0)), (5, .int (nI i)), (4, .ref od), (3, .ref ou), (2, .ref m), (1, .ref o), (0, .ref (G.2.2.2.1 3))]) (st' := [.ref m]) 2 rfl ?_
    refine WW.callV [] m [] rfl mX0_149 (sM_thrown hM2) (wdRecv.obj hM2.1 rfl) rfl rfl (wd_le rfl) (wd_le rfl) (by omega) (by omega) (fun o w' hq => ?_)
    obtain ⟨rfl, hw9⟩ := hq
    show WW _ _ _ 1977 _ [.int (I2 2)] _
    rw [hw9]
    clear hw9 w'
    rw [ht2]
    refine WW.run (pc' := 1979) (lv' := [(7, .float v), (6, .int (nI 0)), (5, .int (nI i)), (4, .ref od), (3, .ref ou), (2, .ref m), (1, .ref o), (0, .ref (G.2.2.2.1 3))]) (st' := [.int (nI 0), .int (nI 0)]) 1 rfl ?_
    refine WW.icmp_eq (tgt := 1984) rfl rfl (fun _ => ?_) (fun hno => absurd rfl hno)
    refine WW.run (pc' := 1986) (lv' := [(7, .float v), (6, .int (nI 0)), (5, .int (nI i)), (4, .ref od), (3, .ref ou), (2, .ref m), (1, .ref o), (0, .ref (G.2.2.2.1 3))]) (st' := [.int (nI 0)]) 1 rfl ?_
    refine WW.if_ne (tgt := 2022) rfl rfl (fun hno => absurd rfl hno) (fun _ => ?_)
    refine WW.run (pc' := 1992) (lv' := [(7, .float v), (6, .int (nI 0)), (5, .int (nI i)), (4, .ref od), (3, .ref ou), (2, .ref m), (1, .ref o), (0, .ref (G.2.2.2.1 3))]) (st' := [.int (nI 0), .ref od]) 2 rfl ?_
    refine WW.dald rfl q36 one_in ?_
    show WW _ _ _ 1993 _ [.double (fD1 0)] _
    rw [hf0]
    refine WW.run (pc' := 1995) (lv' := [(7, .float v), (6, .int (nI 0)), (5, .int (nI i)), (4, .ref od), (3, .ref ou), (2, .ref m), (1, .ref o), (0, .ref (G.2.2.2.1 3))]) (st' := [.float v, .double (FP.f2d v)]) 1 rfl ?_
    refine WW.f2d rfl (hN v rfl).1 ?_
    refine WW.dcmp rfl ?_
    rw [(hN v rfl).2]
    refine WW.if_eq (tgt := 2022) rfl rfl (fun _ => ?_) (fun hno => absurd rfl hno)
    refine WW.run (pc' := 2455) (lv' := [(7, .float v), (6, .int (nI 0)), (5, .int (nI i)), (4, .ref od), (3, .ref ou), (2, .ref m), (1, .ref o), (0, .ref (G.2.2.2.1 3))]) (st' := []) 1 rfl ?_
    refine WW.pick (lv' := [(5, .int (nI i)), (4, .ref od), (3, .ref ou), (2, .ref m), (1, .ref o), (0, .ref (G.2.2.2.1 3))]) [2, 3, 4, 5, 6, 7] rfl ?_
    exact WW.less (by omega) (by omega) (kk w2 ⟨hO2, hJ0, ⟨_, J, hm2, rfl, rfl, rfl⟩, ⟨_, q35⟩, ⟨_, q36⟩, hA⟩)
end
