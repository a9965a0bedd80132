set_option maxRecDepth 100000
section
variable {l : Launch} {G : wdG} {w : wdW} {o hl inp sb m : Nat} {A : Nat → Nat} {ou od : Nat} {cur : aS} {hn : Nat} {hist : Nat → aS} {sv : Option aS} {n : Nat} {ic : Nat → Int32} {on : Nat} {oc : Nat → Int32} {J : Nat → Int32} {mc ms kc ks i : Nat}
abbrev lLV (G : wdG) (i o m ou od : Nat) : List (Nat × Value) := [(5, .int (nI i)), (4, .ref od), (3, .ref ou), (2, .ref m), (1, .ref o), (0, .ref (G.2.2.2.1 3))]
abbrev lX (l : Launch) (G : wdG) (mc ms : Nat) : wdX := (l, G, ML_law, 20, mc, ms, lQ)
/-- the case's end: both are in this state, and the next round begins -/
abbrev lNx (l : Launch) (G : wdG) (mc ms kc ks i o hl inp sb m : Nat) (A : Nat → Nat) (ou od : Nat) (cur : aS) (hn : Nat) (hist : Nat → aS) (sv : Option aS) (n : Nat) (ic : Nat → Int32) (on : Nat) (oc : Nat → Int32) (J : Nat → Int32) : Prop := ∀ w9, lI G w9 o hl inp sb m A ou od cur hn hist sv n ic on oc J → WW (lX l G mc ms) (kc - 40000) (ks - 200000) 2455 (lLV G i o m ou od) [] w9
theorem lK0 (hL : lI G w o hl inp sb m A ou od cur hn hist sv n ic on oc J) (hi : i + 3 < G.2.2.2.2.2.2.1) (hlen : G.2.2.2.2.2.2.1 < 2 ^ 31) (hkc : 40000 ≤ kc) (hks : 200000 ≤ ks) {r : aR} (hx : Sp l G MX1_addShip 9 64 370 [.ref o] w (oQ G o hl inp sb J cur hn hist sv ic on oc [15] r w)) (hr : rLe 1 r) (hy : ∀ w1 t, isMm w1 m A t J cur hn hist sv n ic on oc → Sp l G MX3_addShip 6 0 0 [.ref m] w1 (mD m A J cur hn hist sv n ic on oc r w1)) (kk1 : lNx l G mc ms kc ks i o hl inp sb m A ou od cur hn hist sv n ic on oc J) (kk2 : ∀ z, r = .inr z → lNx l G mc ms kc ks i o hl inp sb m A ou od z.2 (tRec hn hist cur).1 (tRec hn hist cur).2 sv n ic on oc J) : WW (lX l G mc ms) kc ks 268 (lLV G i o m ou od) [] w := by
  obtain ⟨hO, hJ0, ⟨t, J1, hm, j1, j2, j3⟩, ⟨fL, h35⟩, ⟨fD, h36⟩, hA⟩ := hL
  have hm := hm.j j1.symm j2.symm j3.symm
  refine WW.ok fun ok => ?_
  replace ok : wdOk G w := ok
  refine WW.run (pc' := 270) (lv' := [(5, .int (nI i)), (4, .ref od), (3, .ref ou), (2, .ref m), (1, .ref o), (0, .ref (G.2.2.2.1 3))]) (st' := [.ref ou, .ref o]) 2 rfl ?_
  refine WW.callSH [.ref o, .ref ou] [] rfl mX0_143 (lW_addShip  hO h35 hx hr) rfl rfl (wd_le rfl) (wd_le rfl) (by omega) (by omega) (fun o w1 hq => ?_)
  obtain ⟨l1, fL1, k35, hq⟩ := hq
  have k36 := l1.2 _ _ _ h36 (Or.inr (Or.inr (Or.inl rfl)))
  have hm1 := hm.lFr hA l1
  obtain ⟨I1, F1, hM1, ht1⟩ := hm1.cell
  cases r with
  | inl p =>
    obtain ⟨rfl, hO1⟩ := hq
    have hp1 : 1 ≤ p := hr.1
    have hpN : p ≤ 1 := hr.2
    show WW _ _ _ 273 _ [.int (nI p)] _
    refine WW.ok fun ok => ?_
    replace ok : wdOk G w1 := ok
    refine WW.run (pc' := 276) (lv' := [(6, .int (nI p)), (5, .int (nI i)), (4, .ref od), (3, .ref ou), (2, .ref m), (1, .ref o), (0, .ref (G.2.2.2.1 3))]) (st' := [.ref m]) 2 rfl ?_
    refine WW.callV [] m [] rfl mX0_148 (hy w1 t hm1) (wdRecv.obj hM1.1 rfl) rfl rfl (wd_le rfl) (wd_le rfl) (by omega) (by omega) (fun o w2 hq => ?_)
    obtain ⟨rfl, fr2, hm2⟩ := hq
    show WW _ _ _ 279 _ [.int (nI 0)] _
    have hO2 := isOf.mFr ok hO1 hM1 hA fr2
    have q35 := mFr.keep ok hM1 fr2 k35 (Or.inl rfl)
    have q36 := mFr.keep ok hM1 fr2 k36 (Or.inr rfl)
    obtain ⟨I2, F2, hM2, ht2⟩ := hm2.cell
    refine WW.run (pc' := 282) (lv' := [(7, .int (nI 0)), (6, .int (nI p)), (5, .int (nI i)), (4, .ref od), (3, .ref ou), (2, .ref m), (1, .ref o), (0, .ref (G.2.2.2.1 3))]) (st' := [.ref m]) 2 rfl ?_
    refine WW.callV [] m [] rfl mX0_149 (sM_thrown hM2) (wdRecv.obj hM2.1 rfl) rfl rfl (wd_le rfl) (wd_le rfl) (by omega) (by omega) (fun o w' hq => ?_)
    obtain ⟨rfl, hw9⟩ := hq
    show WW _ _ _ 285 _ [.int (I2 2)] _
    rw [hw9]
    clear hw9 w'
    rw [ht2]
    refine WW.run (pc' := 287) (lv' := [(7, .int (nI 0)), (6, .int (nI p)), (5, .int (nI i)), (4, .ref od), (3, .ref ou), (2, .ref m), (1, .ref o), (0, .ref (G.2.2.2.1 3))]) (st' := [.int (nI p), .int (nI p)]) 1 rfl ?_
    refine WW.icmp_eq (tgt := 292) rfl rfl (fun _ => ?_) (fun hno => absurd rfl hno)
    refine WW.run (pc' := 294) (lv' := [(7, .int (nI 0)), (6, .int (nI p)), (5, .int (nI i)), (4, .ref od), (3, .ref ou), (2, .ref m), (1, .ref o), (0, .ref (G.2.2.2.1 3))]) (st' := [.int (nI p)]) 1 rfl ?_
    refine WW.if_ne (tgt := 309) rfl rfl (fun _ => ?_) (fun hno => absurd hno (nI_ne0 hp1 (by omega)))
    refine WW.run (pc' := 2455) (lv' := [(7, .int (nI 0)), (6, .int (nI p)), (5, .int (nI i)), (4, .ref od), (3, .ref ou), (2, .ref m), (1, .ref o), (0, .ref (G.2.2.2.1 3))]) (st' := []) 1 rfl ?_
    refine WW.pick (lv' := [(5, .int (nI i)), (4, .ref od), (3, .ref ou), (2, .ref m), (1, .ref o), (0, .ref (G.2.2.2.1 3))]) [2, 3, 4, 5, 6, 7] rfl ?_
    exact WW.less (by omega) (by omega) (kk1 w2 ⟨hO2, hJ0, ⟨_, J, hm2, rfl, rfl, rfl⟩, ⟨_, q35⟩, ⟨_, q36⟩, hA⟩)
  | inr z =>
    obtain ⟨rfl, hf0, hO1⟩ := hq
    show WW _ _ _ 273 _ [.int (nI 0)] _
    refine WW.ok fun ok => ?_
    replace ok : wdOk G w1 := ok
    refine WW.run (pc' := 276) (lv' := [(6, .int (nI 0)), (5, .int (nI i)), (4, .ref od), (3, .ref ou), (2, .ref m), (1, .ref o), (0, .ref (G.2.2.2.1 3))]) (st' := [.ref m]) 2 rfl ?_
    refine WW.callV [] m [] rfl mX0_148 (hy w1 t hm1) (wdRecv.obj hM1.1 rfl) rfl rfl (wd_le rfl) (wd_le rfl) (by omega) (by omega) (fun o w2 hq => ?_)
    obtain ⟨rfl, fr2, hm2⟩ := hq
    show WW _ _ _ 279 _ [.int z.1] _
    have hO2 := isOf.mFr ok hO1 hM1 hA fr2
    have q35 := mFr.keep ok hM1 fr2 k35 (Or.inl rfl)
    have q36 := mFr.keep ok hM1 fr2 k36 (Or.inr rfl)
    obtain ⟨I2, F2, hM2, ht2⟩ := hm2.cell
    refine WW.run (pc' := 282) (lv' := [(7, .int z.1), (6, .int (nI 0)), (5, .int (nI i)), (4, .ref od), (3, .ref ou), (2, .ref m), (1, .ref o), (0, .ref (G.2.2.2.1 3))]) (st' := [.ref m]) 2 rfl ?_
    refine WW.callV [] m [] rfl mX0_149 (sM_thrown hM2) (wdRecv.obj hM2.1 rfl) rfl rfl (wd_le rfl) (wd_le rfl) (by omega) (by omega) (fun o w' hq => ?_)
    obtain ⟨rfl, hw9⟩ := hq
    show WW _ _ _ 285 _ [.int (I2 2)] _
    rw [hw9]
    clear hw9 w'
    rw [ht2]
    refine WW.run (pc' := 287) (lv' := [(7, .int z.1), (6, .int (nI 0)), (5, .int (nI i)), (4, .ref od), (3, .ref ou), (2, .ref m), (1, .ref o), (0, .ref (G.2.2.2.1 3))]) (st' := [.int (nI 0), .int (nI 0)]) 1 rfl ?_
    refine WW.icmp_eq (tgt := 292) rfl rfl (fun _ => ?_) (fun hno => absurd rfl hno)
    refine WW.run (pc' := 294) (lv' := [(7, .int z.1), (6, .int (nI 0)), (5, .int (nI i)), (4, .ref od), (3, .ref ou), (2, .ref m), (1, .ref o), (0, .ref (G.2.2.2.1 3))]) (st' := [.int (nI 0)]) 1 rfl ?_
    refine WW.if_ne (tgt := 309) rfl rfl (fun hno => absurd rfl hno) (fun _ => ?_)
    refine WW.run (pc' := 299) (lv' := [(7, .int z.1), (6, .int (nI 0)), (5, .int (nI i)), (4, .ref od), (3, .ref ou), (2, .ref m), (1, .ref o), (0, .ref (G.2.2.2.1 3))]) (st' := [.int (nI 0), .ref ou]) 2 rfl ?_
    refine WW.lald rfl q35 one_in ?_
    show WW _ _ _ 300 _ [.long (fL1 0)] _
    rw [hf0]
    refine WW.run (pc' := 303) (lv' := [(7, .int z.1), (6, .int (nI 0)), (5, .int (nI i)), (4, .ref od), (3, .ref ou), (2, .ref m), (1, .ref o), (0, .ref (G.2.2.2.1 3))]) (st' := [.long z.1.toInt64, .long z.1.toInt64]) 2 rfl ?_
    refine WW.lcmp rfl ?_
    rw [lg_cmp_self]
    refine WW.if_eq (tgt := 309) rfl rfl (fun _ => ?_) (fun hno => absurd rfl hno)
    refine WW.run (pc' := 2455) (lv' := [(7, .int z.1), (6, .int (nI 0)), (5, .int (nI i)), (4, .ref od), (3, .ref ou), (2, .ref m), (1, .ref o), (0, .ref (G.2.2.2.1 3))]) (st' := []) 1 rfl ?_
    refine WW.pick (lv' := [(5, .int (nI i)), (4, .ref od), (3, .ref ou), (2, .ref m), (1, .ref o), (0, .ref (G.2.2.2.1 3))]) [2, 3, 4, 5, 6, 7] rfl ?_
    exact WW.less (by omega) (by omega) (kk2 z rfl w2 ⟨hO2, hJ0, ⟨_, J, hm2, rfl, rfl, rfl⟩, ⟨_, q35⟩, ⟨_, q36⟩, hA⟩)
theorem lK1 (hL : lI G w o hl inp sb m A ou od cur hn hist sv n ic on oc J) (hi : i + 3 < G.2.2.2.2.2.2.1) (hlen : G.2.2.2.2.2.2.1 < 2 ^ 31) (hkc : 40000 ≤ kc) (hks : 200000 ≤ ks) {r : aR} (hx : Sp l G MX1_addLamp 9 65 380 [.ref o, .int (G.2.2.2.2.2.2.2 (i + 1))] w (oQ G o hl inp sb J cur hn hist sv ic on oc [14, 15] r w)) (hr : rLe 2 r) (hy : ∀ w1 t, isMm w1 m A t J cur hn hist sv n ic on oc → Sp l G MX3_addLamp 6 0 0 [.ref m, .int (G.2.2.2.2.2.2.2 (i + 1))] w1 (mD m A J cur hn hist sv n ic on oc r w1)) (kk1 : lNx l G mc ms kc ks i o hl inp sb m A ou od cur hn hist sv n ic on oc J) (kk2 : ∀ z, r = .inr z → lNx l G mc ms kc ks i o hl inp sb m A ou od z.2 (tRec hn hist cur).1 (tRec hn hist cur).2 sv n ic on oc J) : WW (lX l G mc ms) kc ks 312 (lLV G i o m ou od) [] w := by
  obtain ⟨hO, hJ0, ⟨t, J1, hm, j1, j2, j3⟩, ⟨fL, h35⟩, ⟨fD, h36⟩, hA⟩ := hL
  have hm := hm.j j1.symm j2.symm j3.symm
  refine WW.ok fun ok => ?_
  replace ok : wdOk G w := ok
  refine WW.run (pc' := 318) (lv' := [(5, .int (nI i)), (4, .ref od), (3, .ref ou), (2, .ref m), (1, .ref o), (0, .ref (G.2.2.2.1 3))]) (st' := [.int ((nI i) + (nI 1)), .ref (G.2.2.2.1 3), .ref o]) 5 rfl ?_
  refine WW.scr (i + 1) rfl (wn_add rfl rfl) (by show _ < G.2.2.2.2.2.2.1; omega) hlen ?_
  refine WW.run (pc' := 320) (lv' := [(5, .int (nI i)), (4, .ref od), (3, .ref ou), (2, .ref m), (1, .ref o), (0, .ref (G.2.2.2.1 3))]) (st' := [.ref ou, .int (G.2.2.2.2.2.2.2 (i + 1)), .ref o]) 1 rfl ?_
  refine WW.callSH [.ref o, .int (G.2.2.2.2.2.2.2 (i + 1)), .ref ou] [] rfl mX0_152 (lW_addLamp (G.2.2.2.2.2.2.2 (i + 1)) hO h35 hx hr) rfl rfl (wd_le rfl) (wd_le rfl) (by omega) (by omega) (fun o w1 hq => ?_)
  obtain ⟨l1, fL1, k35, hq⟩ := hq
  have k36 := l1.2 _ _ _ h36 (Or.inr (Or.inr (Or.inl rfl)))
  have hm1 := hm.lFr hA l1
  obtain ⟨I1, F1, hM1, ht1⟩ := hm1.cell
  cases r with
  | inl p =>
    obtain ⟨rfl, hO1⟩ := hq
    have hp1 : 1 ≤ p := hr.1
    have hpN : p ≤ 2 := hr.2
    show WW _ _ _ 323 _ [.int (nI p)] _
    refine WW.ok fun ok => ?_
    replace ok : wdOk G w1 := ok
    refine WW.run (pc' := 331) (lv' := [(6, .int (nI p)), (5, .int (nI i)), (4, .ref od), (3, .ref ou), (2, .ref m), (1, .ref o), (0, .ref (G.2.2.2.1 3))]) (st' := [.int ((nI i) + (nI 1)), .ref (G.2.2.2.1 3), .ref m]) 6 rfl ?_
    refine WW.scr (i + 1) rfl (wn_add rfl rfl) (by show _ < G.2.2.2.2.2.2.1; omega) hlen ?_
    refine WW.callV [.int (G.2.2.2.2.2.2.2 (i + 1))] m [] rfl mX0_155 (hy w1 t hm1) (wdRecv.obj hM1.1 rfl) rfl rfl (wd_le rfl) (wd_le rfl) (by omega) (by omega) (fun o w2 hq => ?_)
    obtain ⟨rfl, fr2, hm2⟩ := hq
    show WW _ _ _ 335 _ [.int (nI 0)] _
    have hO2 := isOf.mFr ok hO1 hM1 hA fr2
    have q35 := mFr.keep ok hM1 fr2 k35 (Or.inl rfl)
    have q36 := mFr.keep ok hM1 fr2 k36 (Or.inr rfl)
    obtain ⟨I2, F2, hM2, ht2⟩ := hm2.cell
    refine WW.run (pc' := 338) (lv' := [(7, .int (nI 0)), (6, .int (nI p)), (5, .int (nI i)), (4, .ref od), (3, .ref ou), (2, .ref m), (1, .ref o), (0, .ref (G.2.2.2.1 3))]) (st' := [.ref m]) 2 rfl ?_
    refine WW.callV [] m [] rfl mX0_149 (sM_thrown hM2) (wdRecv.obj hM2.1 rfl) rfl rfl (wd_le rfl) (wd_le rfl) (by omega) (by omega) (fun o w' hq => ?_)
    obtain ⟨rfl, hw9⟩ := hq
    show WW _ _ _ 341 _ [.int (I2 2)] _
    rw [hw9]
    clear hw9 w'
    rw [ht2]
    refine WW.run (pc' := 343) (lv' := [(7, .int (nI 0)), (6, .int (nI p)), (5, .int (nI i)), (4, .ref od), (3, .ref ou), (2, .ref m), (1, .ref o), (0, .ref (G.2.2.2.1 3))]) (st' := [.int (nI p), .int (nI p)]) 1 rfl ?_
    refine WW.icmp_eq (tgt := 348) rfl rfl (fun _ => ?_) (fun hno => absurd rfl hno)
    refine WW.run (pc' := 350) (lv' := [(7, .int (nI 0)), (6, .int (nI p)), (5, .int (nI i)), (4, .ref od), (3, .ref ou), (2, .ref m), (1, .ref o), (0, .ref (G.2.2.2.1 3))]) (st' := [.int (nI p)]) 1 rfl ?_
    refine WW.if_ne (tgt := 365) rfl rfl (fun _ => ?_) (fun hno => absurd hno (nI_ne0 hp1 (by omega)))
    refine WW.run (pc' := 2455) (lv' := [(7, .int (nI 0)), (6, .int (nI p)), (5, .int (nI i)), (4, .ref od), (3, .ref ou), (2, .ref m), (1, .ref o), (0, .ref (G.2.2.2.1 3))]) (st' := []) 1 rfl ?_
    refine WW.pick (lv' := [(5, .int (nI i)), (4, .ref od), (3, .ref ou), (2, .ref m), (1, .ref o), (0, .ref (G.2.2.2.1 3))]) [2, 3, 4, 5, 6, 7] rfl ?_
    exact WW.less (by omega) (by omega) (kk1 w2 ⟨hO2, hJ0, ⟨_, J, hm2, rfl, rfl, rfl⟩, ⟨_, q35⟩, ⟨_, q36⟩, hA⟩)
  | inr z =>
    obtain ⟨rfl, hf0, hO1⟩ := hq
    show WW _ _ _ 323 _ [.int (nI 0)] _
    refine WW.ok fun ok => ?_
    replace ok : wdOk G w1 := ok
    refine WW.run (pc' := 331) (lv' := [(6, .int (nI 0)), (5, .int (nI i)), (4, .ref od), (3, .ref ou), (2, .ref m), (1, .ref o), (0, .ref (G.2.2.2.1 3))]) (st' := [.int ((nI i) + (nI 1)), .ref (G.2.2.2.1 3), .ref m]) 6 rfl ?_
    refine WW.scr (i + 1) rfl (wn_add rfl rfl) (by show _ < G.2.2.2.2.2.2.1; omega) hlen ?_
    refine WW.callV [.int (G.2.2.2.2.2.2.2 (i + 1))] m [] rfl mX0_155 (hy w1 t hm1) (wdRecv.obj hM1.1 rfl) rfl rfl (wd_le rfl) (wd_le rfl) (by omega) (by omega) (fun o w2 hq => ?_)
    obtain ⟨rfl, fr2, hm2⟩ := hq
    show WW _ _ _ 335 _ [.int z.1] _
    have hO2 := isOf.mFr ok hO1 hM1 hA fr2
    have q35 := mFr.keep ok hM1 fr2 k35 (Or.inl rfl)
    have q36 := mFr.keep ok hM1 fr2 k36 (Or.inr rfl)
    obtain ⟨I2, F2, hM2, ht2⟩ := hm2.cell
    refine WW.run (pc' := 338) (lv' := [(7, .int z.1), (6, .int (nI 0)), (5, .int (nI i)), (4, .ref od), (3, .ref ou), (2, .ref m), (1, .ref o), (0, .ref (G.2.2.2.1 3))]) (st' := [.ref m]) 2 rfl ?_
    refine WW.callV [] m [] rfl mX0_149 (sM_thrown hM2) (wdRecv.obj hM2.1 rfl) rfl rfl (wd_le rfl) (wd_le rfl) (by omega) (by omega) (fun o w' hq => ?_)
    obtain ⟨rfl, hw9⟩ := hq
    show WW _ _ _ 341 _ [.int (I2 2)] _
    rw [hw9]
    clear hw9 w'
    rw [ht2]
    refine WW.run (pc' := 343) (lv' := [(7, .int z.1), (6, .int (nI 0)), (5, .int (nI i)), (4, .ref od), (3, .ref ou), (2, .ref m), (1, .ref o), (0, .ref (G.2.2.2.1 3))]) (st' := [.int (nI 0), .int (nI 0)]) 1 rfl ?_
    refine WW.icmp_eq (tgt := 348) rfl rfl (fun _ => ?_) (fun hno => absurd rfl hno)
    refine WW.run (pc' := 350) (lv' := [(7, .int z.1), (6, .int (nI 0)), (5, .int (nI i)), (4, .ref od), (3, .ref ou), (2, .ref m), (1, .ref o), (0, .ref (G.2.2.2.1 3))]) (st' := [.int (nI 0)]) 1 rfl ?_
    refine WW.if_ne (tgt := 365) rfl rfl (fun hno => absurd rfl hno) (fun _ => ?_)
    refine WW.run (pc' := 355) (lv' := [(7, .int z.1), (6, .int (nI 0)), (5, .int (nI i)), (4, .ref od), (3, .ref ou), (2, .ref m), (1, .ref o), (0, .ref (G.2.2.2.1 3))]) (st' := [.int (nI 0), .ref ou]) 2 rfl ?_
    refine WW.lald rfl q35 one_in ?_
    show WW _ _ _ 356 _ [.long (fL1 0)] _
    rw [hf0]
    refine WW.run (pc' := 359) (lv' := [(7, .int z.1), (6, .int (nI 0)), (5, .int (nI i)), (4, .ref od), (3, .ref ou), (2, .ref m), (1, .ref o), (0, .ref (G.2.2.2.1 3))]) (st' := [.long z.1.toInt64, .long z.1.toInt64]) 2 rfl ?_
    refine WW.lcmp rfl ?_
    rw [lg_cmp_self]
    refine WW.if_eq (tgt := 365) rfl rfl (fun _ => ?_) (fun hno => absurd rfl hno)
    refine WW.run (pc' := 2455) (lv' := [(7, .int z.1), (6, .int (nI 0)), (5, .int (nI i)), (4, .ref od), (3, .ref ou), (2, .ref m), (1, .ref o), (0, .ref (G.2.2.2.1 3))]) (st' := []) 1 rfl ?_
    refine WW.pick (lv' := [(5, .int (nI i)), (4, .ref od), (3, .ref ou), (2, .ref m), (1, .ref o), (0, .ref (G.2.2.2.1 3))]) [2, 3, 4, 5, 6, 7] rfl ?_
    exact WW.less (by omega) (by omega) (kk2 z rfl w2 ⟨hO2, hJ0, ⟨_, J, hm2, rfl, rfl, rfl⟩, ⟨_, q35⟩, ⟨_, q36⟩, hA⟩)
theorem lK2 (hL : lI G w o hl inp sb m A ou od cur hn hist sv n ic on oc J) (hi : i + 3 < G.2.2.2.2.2.2.1) (hlen : G.2.2.2.2.2.2.1 < 2 ^ 31) (hkc : 40000 ≤ kc) (hks : 200000 ≤ ks) {r : aR} (hx : Sp l G MX1_addOil 9 63 370 [.ref o, .int (G.2.2.2.2.2.2.2 (i + 1))] w (oQ G o hl inp sb J cur hn hist sv ic on oc [14, 15] r w)) (hr : rLe 2 r) (hy : ∀ w1 t, isMm w1 m A t J cur hn hist sv n ic on oc → Sp l G MX3_addOil 6 0 0 [.ref m, .int (G.2.2.2.2.2.2.2 (i + 1))] w1 (mD m A J cur hn hist sv n ic on oc r w1)) (kk1 : lNx l G mc ms kc ks i o hl inp sb m A ou od cur hn hist sv n ic on oc J) (kk2 : ∀ z, r = .inr z → lNx l G mc ms kc ks i o hl inp sb m A ou od z.2 (tRec hn hist cur).1 (tRec hn hist cur).2 sv n ic on oc J) : WW (lX l G mc ms) kc ks 368 (lLV G i o m ou od) [] w := by
  obtain ⟨hO, hJ0, ⟨t, J1, hm, j1, j2, j3⟩, ⟨fL, h35⟩, ⟨fD, h36⟩, hA⟩ := hL
  have hm := hm.j j1.symm j2.symm j3.symm
  refine WW.ok fun ok => ?_
  replace ok : wdOk G w := ok
  refine WW.run (pc' := 374) (lv' := [(5, .int (nI i)), (4, .ref od), (3, .ref ou), (2, .ref m), (1, .ref o), (0, .ref (G.2.2.2.1 3))]) (st' := [.int ((nI i) + (nI 1)), .ref (G.2.2.2.1 3), .ref o]) 5 rfl ?_
  refine WW.scr (i + 1) rfl (wn_add rfl rfl) (by show _ < G.2.2.2.2.2.2.1; omega) hlen ?_
  refine WW.run (pc' := 376) (lv' := [(5, .int (nI i)), (4, .ref od), (3, .ref ou), (2, .ref m), (1, .ref o), (0, .ref (G.2.2.2.1 3))]) (st' := [.ref ou, .int (G.2.2.2.2.2.2.2 (i + 1)), .ref o]) 1 rfl ?_
  refine WW.callSH [.ref o, .int (G.2.2.2.2.2.2.2 (i + 1)), .ref ou] [] rfl mX0_156 (lW_addOil (G.2.2.2.2.2.2.2 (i + 1)) hO h35 hx hr) rfl rfl (wd_le rfl) (wd_le rfl) (by omega) (by omega) (fun o w1 hq => ?_)
  obtain ⟨l1, fL1, k35, hq⟩ := hq
  have k36 := l1.2 _ _ _ h36 (Or.inr (Or.inr (Or.inl rfl)))
  have hm1 := hm.lFr hA l1
  obtain ⟨I1, F1, hM1, ht1⟩ := hm1.cell
  cases r with
  | inl p =>
    obtain ⟨rfl, hO1⟩ := hq
    have hp1 : 1 ≤ p := hr.1
    have hpN : p ≤ 2 := hr.2
    show WW _ _ _ 379 _ [.int (nI p)] _
    refine WW.ok fun ok => ?_
    replace ok : wdOk G w1 := ok
    refine WW.run (pc' := 387) (lv' := [(6, .int (nI p)), (5, .int (nI i)), (4, .ref od), (3, .ref ou), (2, .ref m), (1, .ref o), (0, .ref (G.2.2.2.1 3))]) (st' := [.int ((nI i) + (nI 1)), .ref (G.2.2.2.1 3), .ref m]) 6 rfl ?_
    refine WW.scr (i + 1) rfl (wn_add rfl rfl) (by show _ < G.2.2.2.2.2.2.1; omega) hlen ?_
    refine WW.callV [.int (G.2.2.2.2.2.2.2 (i + 1))] m [] rfl mX0_158 (hy w1 t hm1) (wdRecv.obj hM1.1 rfl) rfl rfl (wd_le rfl) (wd_le rfl) (by omega) (by omega) (fun o w2 hq => ?_)
    obtain ⟨rfl, fr2, hm2⟩ := hq
    show WW _ _ _ 391 _ [.int (nI 0)] _
    have hO2 := isOf.mFr ok hO1 hM1 hA fr2
    have q35 := mFr.keep ok hM1 fr2 k35 (Or.inl rfl)
    have q36 := mFr.keep ok hM1 fr2 k36 (Or.inr rfl)
    obtain ⟨I2, F2, hM2, ht2⟩ := hm2.cell
    refine WW.run (pc' := 394) (lv' := [(7, .int (nI 0)), (6, .int (nI p)), (5, .int (nI i)), (4, .ref od), (3, .ref ou), (2, .ref m), (1, .ref o), (0, .ref (G.2.2.2.1 3))]) (st' := [.ref m]) 2 rfl ?_
    refine WW.callV [] m [] rfl mX0_149 (sM_thrown hM2) (wdRecv.obj hM2.1 rfl) rfl rfl (wd_le rfl) (wd_le rfl) (by omega) (by omega) (fun o w' hq => ?_)
    obtain ⟨rfl, hw9⟩ := hq
    show WW _ _ _ 397 _ [.int (I2 2)] _
    rw [hw9]
    clear hw9 w'
    rw [ht2]
    refine WW.run (pc' := 399) (lv' := [(7, .int (nI 0)), (6, .int (nI p)), (5, .int (nI i)), (4, .ref od), (3, .ref ou), (2, .ref m), (1, .ref o), (0, .ref (G.2.2.2.1 3))]) (st' := [.int (nI p), .int (nI p)]) 1 rfl ?_
    refine WW.icmp_eq (tgt := 404) rfl rfl (fun _ => ?_) (fun hno => absurd rfl hno)
    refine WW.run (pc' := 406) (lv' := [(7, .int (nI 0)), (6, .int (nI p)), (5, .int (nI i)), (4, .ref od), (3, .ref ou), (2, .ref m), (1, .ref o), (0, .ref (G.2.2.2.1 3))]) (st' := [.int (nI p)]) 1 rfl ?_
    refine WW.if_ne (tgt := 421) rfl rfl (fun _ => ?_) (fun hno => absurd hno (nI_ne0 hp1 (by omega)))
    refine WW.run (pc' := 2455) (lv' := [(7, .int (nI 0)), (6, .int (nI p)), (5, .int (nI i)), (4, .ref od), (3, .ref ou), (2, .ref m), (1, .ref o), (0, .ref (G.2.2.2.1 3))]) (st' := []) 1 rfl ?_
    refine WW.pick (lv' := [(5, .int (nI i)), (4, .ref od), (3, .ref ou), (2, .ref m), (1, .ref o), (0, .ref (G.2.2.2.1 3))]) [2, 3, 4, 5, 6, 7] rfl ?_
    exact WW.less (by omega) (by omega) (kk1 w2 ⟨hO2, hJ0, ⟨_, J, hm2, rfl, rfl, rfl⟩, ⟨_, q35⟩, ⟨_, q36⟩, hA⟩)
  | inr z =>
    obtain ⟨rfl, hf0, hO1⟩ := hq
    show WW _ _ _ 379 _ [.int (nI 0)] _
    refine WW.ok fun ok => ?_
    replace ok : wdOk G w1 := ok
    refine WW.run (pc' := 387) (lv' := [(6, .int (nI 0)), (5, .int (nI i)), (4, .ref od), (3, .ref ou), (2, .ref m), (1, .ref o), (0, .ref (G.2.2.2.1 3))]) (st' := [.int ((nI i) + (nI 1)), .ref (G.2.2.2.1 3), .ref m]) 6 rfl ?_
    refine WW.scr (i + 1) rfl (wn_add rfl rfl) (by show _ < G.2.2.2.2.2.2.1; omega) hlen ?_
    refine WW.callV [.int (G.2.2.2.2.2.2.2 (i + 1))] m [] rfl mX0_158 (hy w1 t hm1) (wdRecv.obj hM1.1 rfl) rfl rfl (wd_le rfl) (wd_le rfl) (by omega) (by omega) (fun o w2 hq => ?_)
    obtain ⟨rfl, fr2, hm2⟩ := hq
    show WW _ _ _ 391 _ [.int z.1] _
    have hO2 := isOf.mFr ok hO1 hM1 hA fr2
    have q35 := mFr.keep ok hM1 fr2 k35 (Or.inl rfl)
    have q36 := mFr.keep ok hM1 fr2 k36 (Or.inr rfl)
    obtain ⟨I2, F2, hM2, ht2⟩ := hm2.cell
    refine WW.run (pc' := 394) (lv' := [(7, .int z.1), (6, .int (nI 0)), (5, .int (nI i)), (4, .ref od), (3, .ref ou), (2, .ref m), (1, .ref o), (0, .ref (G.2.2.2.1 3))]) (st' := [.ref m]) 2 rfl ?_
    refine WW.callV [] m [] rfl mX0_149 (sM_thrown hM2) (wdRecv.obj hM2.1 rfl) rfl rfl (wd_le rfl) (wd_le rfl) (by omega) (by omega) (fun o w' hq => ?_)
    obtain ⟨rfl, hw9⟩ := hq
    show WW _ _ _ 397 _ [.int (I2 2)] _
    rw [hw9]
    clear hw9 w'
    rw [ht2]
    refine WW.run (pc' := 399) (lv' := [(7, .int z.1), (6, .int (nI 0)), (5, .int (nI i)), (4, .ref od), (3, .ref ou), (2, .ref m), (1, .ref o), (0, .ref (G.2.2.2.1 3))]) (st' := [.int (nI 0), .int (nI 0)]) 1 rfl ?_
    refine WW.icmp_eq (tgt := 404) rfl rfl (fun _ => ?_) (fun hno => absurd rfl hno)
    refine WW.run (pc' := 406) (lv' := [(7, .int z.1), (6, .int (nI 0)), (5, .int (nI i)), (4, .ref od), (3, .ref ou), (2, .ref m), (1, .ref o), (0, .ref (G.2.2.2.1 3))]) (st' := [.int (nI 0)]) 1 rfl ?_
    refine WW.if_ne (tgt := 421) rfl rfl (fun hno => absurd rfl hno) (fun _ => ?_)
    refine WW.run (pc' := 411) (lv' := [(7, .int z.1), (6, .int (nI 0)), (5, .int (nI i)), (4, .ref od), (3, .ref ou), (2, .ref m), (1, .ref o), (0, .ref (G.2.2.2.1 3))]) (st' := [.int (nI 0), .ref ou]) 2 rfl ?_
    refine WW.lald rfl q35 one_in ?_
    show WW _ _ _ 412 _ [.long (fL1 0)] _
    rw [hf0]
    refine WW.run (pc' := 415) (lv' := [(7, .int z.1), (6, .int (nI 0)), (5, .int (nI i)), (4, .ref od), (3, .ref ou), (2, .ref m), (1, .ref o), (0, .ref (G.2.2.2.1 3))]) (st' := [.long z.1.toInt64, .long z.1.toInt64]) 2 rfl ?_
    refine WW.lcmp rfl ?_
    rw [lg_cmp_self]
    refine WW.if_eq (tgt := 421) rfl rfl (fun _ => ?_) (fun hno => absurd rfl hno)
    refine WW.run (pc' := 2455) (lv' := [(7, .int z.1), (6, .int (nI 0)), (5, .int (nI i)), (4, .ref od), (3, .ref ou), (2, .ref m), (1, .ref o), (0, .ref (G.2.2.2.1 3))]) (st' := []) 1 rfl ?_
    refine WW.pick (lv' := [(5, .int (nI i)), (4, .ref od), (3, .ref ou), (2, .ref m), (1, .ref o), (0, .ref (G.2.2.2.1 3))]) [2, 3, 4, 5, 6, 7] rfl ?_
    exact WW.less (by omega) (by omega) (kk2 z rfl w2 ⟨hO2, hJ0, ⟨_, J, hm2, rfl, rfl, rfl⟩, ⟨_, q35⟩, ⟨_, q36⟩, hA⟩)
theorem lK3 (hL : lI G w o hl inp sb m A ou od cur hn hist sv n ic on oc J) (hi : i + 3 < G.2.2.2.2.2.2.1) (hlen : G.2.2.2.2.2.2.1 < 2 ^ 31) (hkc : 40000 ≤ kc) (hks : 200000 ≤ ks) {r : aR} (hx : Sp l G MX1_lease 10 67 390 [.ref o, .int (G.2.2.2.2.2.2.2 (i + 1)), .int (G.2.2.2.2.2.2.2 (i + 2)), .int (G.2.2.2.2.2.2.2 (i + 3))] w (oQ G o hl inp sb J cur hn hist sv ic on oc [13, 14, 15, 17] r w)) (hr : rLe 4 r) (hy : ∀ w1 t, isMm w1 m A t J cur hn hist sv n ic on oc → Sp l G MX3_lease 6 0 0 [.ref m, .int (G.2.2.2.2.2.2.2 (i + 1)), .int (G.2.2.2.2.2.2.2 (i + 2)), .int (G.2.2.2.2.2.2.2 (i + 3))] w1 (mD m A J cur hn hist sv n ic on oc r w1)) (kk1 : lNx l G mc ms kc ks i o hl inp sb m A ou od cur hn hist sv n ic on oc J) (kk2 : ∀ z, r = .inr z → lNx l G mc ms kc ks i o hl inp sb m A ou od z.2 (tRec hn hist cur).1 (tRec hn hist cur).2 sv n ic on oc J) : WW (lX l G mc ms) kc ks 424 (lLV G i o m ou od) [] w := by
  obtain ⟨hO, hJ0, ⟨t, J1, hm, j1, j2, j3⟩, ⟨fL, h35⟩, ⟨fD, h36⟩, hA⟩ := hL
  have hm := hm.j j1.symm j2.symm j3.symm
  refine WW.ok fun ok => ?_
  replace ok : wdOk G w := ok
  refine WW.run (pc' := 430) (lv' := [(5, .int (nI i)), (4, .ref od), (3, .ref ou), (2, .ref m), (1, .ref o), (0, .ref (G.2.2.2.1 3))]) (st' := [.int ((nI i) + (nI 1)), .ref (G.2.2.2.1 3), .ref o]) 5 rfl ?_
  refine WW.scr (i + 1) rfl (wn_add rfl rfl) (by show _ < G.2.2.2.2.2.2.1; omega) hlen ?_
  refine WW.run (pc' := 436) (lv' := [(5, .int (nI i)), (4, .ref od), (3, .ref ou), (2, .ref m), (1, .ref o), (0, .ref (G.2.2.2.1 3))]) (st' := [.int ((nI i) + (nI 2)), .ref (G.2.2.2.1 3), .int (G.2.2.2.2.2.2.2 (i + 1)), .ref o]) 4 rfl ?_
  refine WW.scr (i + 2) rfl (wn_add rfl rfl) (by show _ < G.2.2.2.2.2.2.1; omega) hlen ?_
  refine WW.run (pc' := 442) (lv' := [(5, .int (nI i)), (4, .ref od), (3, .ref ou), (2, .ref m), (1, .ref o), (0, .ref (G.2.2.2.1 3))]) (st' := [.int ((nI i) + (nI 3)), .ref (G.2.2.2.1 3), .int (G.2.2.2.2.2.2.2 (i + 2)), .int (G.2.2.2.2.2.2.2 (i + 1)), .ref o]) 4 rfl ?_
  refine WW.scr (i + 3) rfl (wn_add rfl rfl) (by show _ < G.2.2.2.2.2.2.1; omega) hlen ?_
  refine WW.run (pc' := 444) (lv' := [(5, .int (nI i)), (4, .ref od), (3, .ref ou), (2, .ref m), (1, .ref o), (0, .ref (G.2.2.2.1 3))]) (st' := [.ref ou, .int (G.2.2.2.2.2.2.2 (i + 3)), .int (G.2.2.2.2.2.2.2 (i + 2)), .int (G.2.2.2.2.2.2.2 (i + 1)), .ref o]) 1 rfl ?_
  refine WW.callSH [.ref o, .int (G.2.2.2.2.2.2.2 (i + 1)), .int (G.2.2.2.2.2.2.2 (i + 2)), .int (G.2.2.2.2.2.2.2 (i + 3)), .ref ou] [] rfl mX0_159 (lW_lease (G.2.2.2.2.2.2.2 (i + 1)) (G.2.2.2.2.2.2.2 (i + 2)) (G.2.2.2.2.2.2.2 (i + 3)) hO h35 hx hr) rfl rfl (wd_le rfl) (wd_le rfl) (by omega) (by omega) (fun o w1 hq => ?_)
  obtain ⟨l1, fL1, k35, hq⟩ := hq
  have k36 := l1.2 _ _ _ h36 (Or.inr (Or.inr (Or.inl rfl)))
  have hm1 := hm.lFr hA l1
  obtain ⟨I1, F1, hM1, ht1⟩ := hm1.cell
  cases r with
  | inl p =>
    obtain ⟨rfl, hO1⟩ := hq
    have hp1 : 1 ≤ p := hr.1
    have hpN : p ≤ 4 := hr.2
    show WW _ _ _ 447 _ [.int (nI p)] _
    refine WW.ok fun ok => ?_
    replace ok : wdOk G w1 := ok
    refine WW.run (pc' := 455) (lv' := [(6, .int (nI p)), (5, .int (nI i)), (4, .ref od), (3, .ref ou), (2, .ref m), (1, .ref o), (0, .ref (G.2.2.2.1 3))]) (st' := [.int ((nI i) + (nI 1)), .ref (G.2.2.2.1 3), .ref m]) 6 rfl ?_
    refine WW.scr (i + 1) rfl (wn_add rfl rfl) (by show _ < G.2.2.2.2.2.2.1; omega) hlen ?_
    refine WW.run (pc' := 461) (lv' := [(6, .int (nI p)), (5, .int (nI i)), (4, .ref od), (3, .ref ou), (2, .ref m), (1, .ref o), (0, .ref (G.2.2.2.1 3))]) (st' := [.int ((nI i) + (nI 2)), .ref (G.2.2.2.1 3), .int (G.2.2.2.2.2.2.2 (i + 1)), .ref m]) 4 rfl ?_
    refine WW.scr (i + 2) rfl (wn_add rfl rfl) (by show _ < G.2.2.2.2.2.2.1; omega) hlen ?_
    refine WW.run (pc' := 467) (lv' := [(6, .int (nI p)), (5, .int (nI i)), (4, .ref od), (3, .ref ou), (2, .ref m), (1, .ref o), (0, .ref (G.2.2.2.1 3))]) (st' := [.int ((nI i) + (nI 3)), .ref (G.2.2.2.1 3), .int (G.2.2.2.2.2.2.2 (i + 2)), .int (G.2.2.2.2.2.2.2 (i + 1)), .ref m]) 4 rfl ?_
    refine WW.scr (i + 3) rfl (wn_add rfl rfl) (by show _ < G.2.2.2.2.2.2.1; omega) hlen ?_
    refine WW.callV [.int (G.2.2.2.2.2.2.2 (i + 1)), .int (G.2.2.2.2.2.2.2 (i + 2)), .int (G.2.2.2.2.2.2.2 (i + 3))] m [] rfl mX0_162 (hy w1 t hm1) (wdRecv.obj hM1.1 rfl) rfl rfl (wd_le rfl) (wd_le rfl) (by omega) (by omega) (fun o w2 hq => ?_)
    obtain ⟨rfl, fr2, hm2⟩ := hq
    show WW _ _ _ 471 _ [.int (nI 0)] _
    have hO2 := isOf.mFr ok hO1 hM1 hA fr2
    have q35 := mFr.keep ok hM1 fr2 k35 (Or.inl rfl)
    have q36 := mFr.keep ok hM1 fr2 k36 (Or.inr rfl)
    obtain ⟨I2, F2, hM2, ht2⟩ := hm2.cell
    refine WW.run (pc' := 474) (lv' := [(7, .int (nI 0)), (6, .int (nI p)), (5, .int (nI i)), (4, .ref od), (3, .ref ou), (2, .ref m), (1, .ref o), (0, .ref (G.2.2.2.1 3))]) (st' := [.ref m]) 2 rfl ?_
    refine WW.callV [] m [] rfl mX0_149 (sM_thrown hM2) (wdRecv.obj hM2.1 rfl) rfl rfl (wd_le rfl) (wd_le rfl) (by omega) (by omega) (fun o w' hq => ?_)
    obtain ⟨rfl, hw9⟩ := hq
    show WW _ _ _ 477 _ [.int (I2 2)] _
    rw [hw9]
    clear hw9 w'
    rw [ht2]
    refine WW.run (pc' := 479) (lv' := [(7, .int (nI 0)), (6, .int (nI p)), (5, .int (nI i)), (4, .ref od), (3, .ref ou), (2, .ref m), (1, .ref o), (0, .ref (G.2.2.2.1 3))]) (st' := [.int (nI p), .int (nI p)]) 1 rfl ?_
    refine WW.icmp_eq (tgt := 484) rfl rfl (fun _ => ?_) (fun hno => absurd rfl hno)
    refine WW.run (pc' := 486) (lv' := [(7, .int (nI 0)), (6, .int (nI p)), (5, .int (nI i)), (4, .ref od), (3, .ref ou), (2, .ref m), (1, .ref o), (0, .ref (G.2.2.2.1 3))]) (st' := [.int (nI p)]) 1 rfl ?_
    refine WW.if_ne (tgt := 501) rfl rfl (fun _ => ?_) (fun hno => absurd hno (nI_ne0 hp1 (by omega)))
    refine WW.run (pc' := 2455) (lv' := [(7, .int (nI 0)), (6, .int (nI p)), (5, .int (nI i)), (4, .ref od), (3, .ref ou), (2, .ref m), (1, .ref o), (0, .ref (G.2.2.2.1 3))]) (st' := []) 1 rfl ?_
    refine WW.pick (lv' := [(5, .int (nI i)), (4, .ref od), (3, .ref ou), (2, .ref m), (1, .ref o), (0, .ref (G.2.2.2.1 3))]) [2, 3, 4, 5, 6, 7] rfl ?_
    exact WW.less (by omega) (by omega) (kk1 w2 ⟨hO2, hJ0, ⟨_, J, hm2, rfl, rfl, rfl⟩, ⟨_, q35⟩, ⟨_, q36⟩, hA⟩)
  | inr z =>
    obtain ⟨rfl, hf0, hO1⟩ := hq
    show WW _ _ _ 447 _ [.int (nI 0)] _
    refine WW.ok fun ok => ?_
    replace ok : wdOk G w1 := ok
    refine WW.run (pc' := 455) (lv' := [(6, .int (nI 0)), (5, .int (nI i)), (4, .ref od), (3, .ref ou), (2, .ref m), (1, .ref o), (0, .ref (G.2.2.2.1 3))]) (st' := [.int ((nI i) + (nI 1)), .ref (G.2.2.2.1 3), .ref m]) 6 rfl ?_
    refine WW.scr (i + 1) rfl (wn_add rfl rfl) (by show _ < G.2.2.2.2.2.2.1; omega) hlen ?_
    refine WW.run (pc' := 461) (lv' := [(6, .int (nI 0)), (5, .int (nI i)), (4, .ref od), (3, .ref ou), (2, .ref m), (1, .ref o), (0, .ref (G.2.2.2.1 3))]) (st' := [.int ((nI i) + (nI 2)), .ref (G.2.2.2.1 3), .int (G.2.2.2.2.2.2.2 (i + 1)), .ref m]) 4 rfl ?_
    refine WW.scr (i + 2) rfl (wn_add rfl rfl) (by show _ < G.2.2.2.2.2.2.1; omega) hlen ?_
    refine WW.run (pc' := 467) (lv' := [(6, .int (nI 0)), (5, .int (nI i)), (4, .ref od), (3, .ref ou), (2, .ref m), (1, .ref o), (0, .ref (G.2.2.2.1 3))]) (st' := [.int ((nI i) + (nI 3)), .ref (G.2.2.2.1 3), .int (G.2.2.2.2.2.2.2 (i + 2)), .int (G.2.2.2.2.2.2.2 (i + 1)), .ref m]) 4 rfl ?_
    refine WW.scr (i + 3) rfl (wn_add rfl rfl) (by show _ < G.2.2.2.2.2.2.1; omega) hlen ?_
    refine WW.callV [.int (G.2.2.2.2.2.2.2 (i + 1)), .int (G.2.2.2.2.2.2.2 (i + 2)), .int (G.2.2.2.2.2.2.2 (i + 3))] m [] rfl mX0_162 (hy w1 t hm1) (wdRecv.obj hM1.1 rfl) rfl rfl (wd_le rfl) (wd_le rfl) (by omega) (by omega) (fun o w2 hq => ?_)
    obtain ⟨rfl, fr2, hm2⟩ := hq
    show WW _ _ _ 471 _ [.int z.1] _
    have hO2 := isOf.mFr ok hO1 hM1 hA fr2
    have q35 := mFr.keep ok hM1 fr2 k35 (Or.inl rfl)
    have q36 := mFr.keep ok hM1 fr2 k36 (Or.inr rfl)
    obtain ⟨I2, F2, hM2, ht2⟩ := hm2.cell
    refine WW.run (pc' := 474) (lv' := [(7, .int z.1), (6, .int (nI 0)), (5, .int (nI i)), (4, .ref od), (3, .ref ou), (2, .ref m), (1, .ref o), (0, .ref (G.2.2.2.1 3))]) (st' := [.ref m]) 2 rfl ?_
    refine WW.callV [] m [] rfl mX0_149 (sM_thrown hM2) (wdRecv.obj hM2.1 rfl) rfl rfl (wd_le rfl) (wd_le rfl) (by omega) (by omega) (fun o w' hq => ?_)
    obtain ⟨rfl, hw9⟩ := hq
    show WW _ _ _ 477 _ [.int (I2 2)] _
    rw [hw9]
    clear hw9 w'
    rw [ht2]
    refine WW.run (pc' := 479) (lv' := [(7, .int z.1), (6, .int (nI 0)), (5, .int (nI i)), (4, .ref od), (3, .ref ou), (2, .ref m), (1, .ref o), (0, .ref (G.2.2.2.1 3))]) (st' := [.int (nI 0), .int (nI 0)]) 1 rfl ?_
    refine WW.icmp_eq (tgt := 484) rfl rfl (fun _ => ?_) (fun hno => absurd rfl hno)
    refine WW.run (pc' := 486) (lv' := [(7, .int z.1), (6, .int (nI 0)), (5, .int (nI i)), (4, .ref od), (3, .ref ou), (2, .ref m), (1, .ref o), (0, .ref (G.2.2.2.1 3))]) (st' := [.int (nI 0)]) 1 rfl ?_
    refine WW.if_ne (tgt := 501) rfl rfl (fun hno => absurd rfl hno) (fun _ => ?_)
    refine WW.run (pc' := 491) (lv' := [(7, .int z.1), (6, .int (nI 0)), (5, .int (nI i)), (4, .ref od), (3, .ref ou), (2, .ref m), (1, .ref o), (0, .ref (G.2.2.2.1 3))]) (st' := [.int (nI 0), .ref ou]) 2 rfl ?_
    refine WW.lald rfl q35 one_in ?_
    show WW _ _ _ 492 _ [.long (fL1 0)] _
    rw [hf0]
    refine WW.run (pc' := 495) (lv' := [(7, .int z.1), (6, .int (nI 0)), (5, .int (nI i)), (4, .ref od), (3, .ref ou), (2, .ref m), (1, .ref o), (0, .ref (G.2.2.2.1 3))]) (st' := [.long z.1.toInt64, .long z.1.toInt64]) 2 rfl ?_
    refine WW.lcmp rfl ?_
    rw [lg_cmp_self]
    refine WW.if_eq (tgt := 501) rfl rfl (fun _ => ?_) (fun hno => absurd rfl hno)
    refine WW.run (pc' := 2455) (lv' := [(7, .int z.1), (6, .int (nI 0)), (5, .int (nI i)), (4, .ref od), (3, .ref ou), (2, .ref m), (1, .ref o), (0, .ref (G.2.2.2.1 3))]) (st' := []) 1 rfl ?_
    refine WW.pick (lv' := [(5, .int (nI i)), (4, .ref od), (3, .ref ou), (2, .ref m), (1, .ref o), (0, .ref (G.2.2.2.1 3))]) [2, 3, 4, 5, 6, 7] rfl ?_
    exact WW.less (by omega) (by omega) (kk2 z rfl w2 ⟨hO2, hJ0, ⟨_, J, hm2, rfl, rfl, rfl⟩, ⟨_, q35⟩, ⟨_, q36⟩, hA⟩)
theorem lK4 (hL : lI G w o hl inp sb m A ou od cur hn hist sv n ic on oc J) (hi : i + 3 < G.2.2.2.2.2.2.1) (hlen : G.2.2.2.2.2.2.1 < 2 ^ 31) (hkc : 40000 ≤ kc) (hks : 200000 ≤ ks) {r : aR} (hx : Sp l G MX1_requestRenewal 11 69 410 [.ref o, .int (G.2.2.2.2.2.2.2 (i + 1)), .int (G.2.2.2.2.2.2.2 (i + 2))] w (oQ G o hl inp sb J cur hn hist sv ic on oc [13, 14, 16, 15] r w)) (hr : rLe 4 r) (hy : ∀ w1 t, isMm w1 m A t J cur hn hist sv n ic on oc → Sp l G MX3_requestRenewal 6 0 0 [.ref m, .int (G.2.2.2.2.2.2.2 (i + 1)), .int (G.2.2.2.2.2.2.2 (i + 2))] w1 (mD m A J cur hn hist sv n ic on oc r w1)) (kk1 : lNx l G mc ms kc ks i o hl inp sb m A ou od cur hn hist sv n ic on oc J) (kk2 : ∀ z, r = .inr z → lNx l G mc ms kc ks i o hl inp sb m A ou od z.2 (tRec hn hist cur).1 (tRec hn hist cur).2 sv n ic on oc J) : WW (lX l G mc ms) kc ks 504 (lLV G i o m ou od) [] w := by
  obtain ⟨hO, hJ0, ⟨t, J1, hm, j1, j2, j3⟩, ⟨fL, h35⟩, ⟨fD, h36⟩, hA⟩ := hL
  have hm := hm.j j1.symm j2.symm j3.symm
  refine WW.ok fun ok => ?_
  replace ok : wdOk G w := ok
  refine WW.run (pc' := 510) (lv' := [(5, .int (nI i)), (4, .ref od), (3, .ref ou), (2, .ref m), (1, .ref o), (0, .ref (G.2.2.2.1 3))]) (st' := [.int ((nI i) + (nI 1)), .ref (G.2.2.2.1 3), .ref o]) 5 rfl ?_
  refine WW.scr (i + 1) rfl (wn_add rfl rfl) (by show _ < G.2.2.2.2.2.2.1; omega) hlen ?_
  refine WW.run (pc' := 516) (lv' := [(5, .int (nI i)), (4, .ref od), (3, .ref ou), (2, .ref m), (1, .ref o), (0, .ref (G.2.2.2.1 3))]) (st' := [.int ((nI i) + (nI 2)), .ref (G.2.2.2.1 3), .int (G.2.2.2.2.2.2.2 (i + 1)), .ref o]) 4 rfl ?_
  refine WW.scr (i + 2) rfl (wn_add rfl rfl) (by show _ < G.2.2.2.2.2.2.1; omega) hlen ?_
  refine WW.run (pc' := 518) (lv' := [(5, .int (nI i)), (4, .ref od), (3, .ref ou), (2, .ref m), (1, .ref o), (0, .ref (G.2.2.2.1 3))]) (st' := [.ref ou, .int (G.2.2.2.2.2.2.2 (i + 2)), .int (G.2.2.2.2.2.2.2 (i + 1)), .ref o]) 1 rfl ?_
  refine WW.callSH [.ref o, .int (G.2.2.2.2.2.2.2 (i + 1)), .int (G.2.2.2.2.2.2.2 (i + 2)), .ref ou] [] rfl mX0_163 (lW_requestRenewal (G.2.2.2.2.2.2.2 (i + 1)) (G.2.2.2.2.2.2.2 (i + 2)) hO h35 hx hr) rfl rfl (wd_le rfl) (wd_le rfl) (by omega) (by omega) (fun o w1 hq => ?_)
  obtain ⟨l1, fL1, k35, hq⟩ := hq
  have k36 := l1.2 _ _ _ h36 (Or.inr (Or.inr (Or.inl rfl)))
  have hm1 := hm.lFr hA l1
  obtain ⟨I1, F1, hM1, ht1⟩ := hm1.cell
  cases r with
  | inl p =>
    obtain ⟨rfl, hO1⟩ := hq
    have hp1 : 1 ≤ p := hr.1
    have hpN : p ≤ 4 := hr.2
    show WW _ _ _ 521 _ [.int (nI p)] _
    refine WW.ok fun ok => ?_
    replace ok : wdOk G w1 := ok
    refine WW.run (pc' := 529) (lv' := [(6, .int (nI p)), (5, .int (nI i)), (4, .ref od), (3, .ref ou), (2, .ref m), (1, .ref o), (0, .ref (G.2.2.2.1 3))]) (st' := [.int ((nI i) + (nI 1)), .ref (G.2.2.2.1 3), .ref m]) 6 rfl ?_
    refine WW.scr (i + 1) rfl (wn_add rfl rfl) (by show _ < G.2.2.2.2.2.2.1; omega) hlen ?_
    refine WW.run (pc' := 535) (lv' := [(6, .int (nI p)), (5, .int (nI i)), (4, .ref od), (3, .ref ou), (2, .ref m), (1, .ref o), (0, .ref (G.2.2.2.1 3))]) (st' := [.int ((nI i) + (nI 2)), .ref (G.2.2.2.1 3), .int (G.2.2.2.2.2.2.2 (i + 1)), .ref m]) 4 rfl ?_
    refine WW.scr (i + 2) rfl (wn_add rfl rfl) (by show _ < G.2.2.2.2.2.2.1; omega) hlen ?_
    refine WW.callV [.int (G.2.2.2.2.2.2.2 (i + 1)), .int (G.2.2.2.2.2.2.2 (i + 2))] m [] rfl mX0_166 (hy w1 t hm1) (wdRecv.obj hM1.1 rfl) rfl rfl (wd_le rfl) (wd_le rfl) (by omega) (by omega) (fun o w2 hq => ?_)
    obtain ⟨rfl, fr2, hm2⟩ := hq
    show WW _ _ _ 539 _ [.int (nI 0)] _
    have hO2 := isOf.mFr ok hO1 hM1 hA fr2
    have q35 := mFr.keep ok hM1 fr2 k35 (Or.inl rfl)
    have q36 := mFr.keep ok hM1 fr2 k36 (Or.inr rfl)
    obtain ⟨I2, F2, hM2, ht2⟩ := hm2.cell
    refine WW.run (pc' := 542) (lv' := [(7, .int (nI 0)), (6, .int (nI p)), (5, .int (nI i)), (4, .ref od), (3, .ref ou), (2, .ref m), (1, .ref o), (0, .ref (G.2.2.2.1 3))]) (st' := [.ref m]) 2 rfl ?_
    refine WW.callV [] m [] rfl mX0_149 (sM_thrown hM2) (wdRecv.obj hM2.1 rfl) rfl rfl (wd_le rfl) (wd_le rfl) (by omega) (by omega) (fun o w' hq => ?_)
    obtain ⟨rfl, hw9⟩ := hq
    show WW _ _ _ 545 _ [.int (I2 2)] _
    rw [hw9]
    clear hw9 w'
    rw [ht2]
    refine WW.run (pc' := 547) (lv' := [(7, .int (nI 0)), (6, .int (nI p)), (5, .int (nI i)), (4, .ref od), (3, .ref ou), (2, .ref m), (1, .ref o), (0, .ref (G.2.2.2.1 3))]) (st' := [.int (nI p), .int (nI p)]) 1 rfl ?_
    refine WW.icmp_eq (tgt := 552) rfl rfl (fun _ => ?_) (fun hno => absurd rfl hno)
    refine WW.run (pc' := 554) (lv' := [(7, .int (nI 0)), (6, .int (nI p)), (5, .int (nI i)), (4, .ref od), (3, .ref ou), (2, .ref m), (1, .ref o), (0, .ref (G.2.2.2.1 3))]) (st' := [.int (nI p)]) 1 rfl ?_
    refine WW.if_ne (tgt := 569) rfl rfl (fun _ => ?_) (fun hno => absurd hno (nI_ne0 hp1 (by omega)))
    refine WW.run (pc' := 2455) (lv' := [(7, .int (nI 0)), (6, .int (nI p)), (5, .int (nI i)), (4, .ref od), (3, .ref ou), (2, .ref m), (1, .ref o), (0, .ref (G.2.2.2.1 3))]) (st' := []) 1 rfl ?_
    refine WW.pick (lv' := [(5, .int (nI i)), (4, .ref od), (3, .ref ou), (2, .ref m), (1, .ref o), (0, .ref (G.2.2.2.1 3))]) [2, 3, 4, 5, 6, 7] rfl ?_
    exact WW.less (by omega) (by omega) (kk1 w2 ⟨hO2, hJ0, ⟨_, J, hm2, rfl, rfl, rfl⟩, ⟨_, q35⟩, ⟨_, q36⟩, hA⟩)
  | inr z =>
    obtain ⟨rfl, hf0, hO1⟩ := hq
    show WW _ _ _ 521 _ [.int (nI 0)] _
    refine WW.ok fun ok => ?_
    replace ok : wdOk G w1 := ok
    refine WW.run (pc' := 529) (lv' := [(6, .int (nI 0)), (5, .int (nI i)), (4, .ref od), (3, .ref ou), (2, .ref m), (1, .ref o), (0, .ref (G.2.2.2.1 3))]) (st' := [.int ((nI i) + (nI 1)), .ref (G.2.2.2.1 3), .ref m]) 6 rfl ?_
    refine WW.scr (i + 1) rfl (wn_add rfl rfl) (by show _ < G.2.2.2.2.2.2.1; omega) hlen ?_
    refine WW.run (pc' := 535) (lv' := [(6, .int (nI 0)), (5, .int (nI i)), (4, .ref od), (3, .ref ou), (2, .ref m), (1, .ref o), (0, .ref (G.2.2.2.1 3))]) (st' := [.int ((nI i) + (nI 2)), .ref (G.2.2.2.1 3), .int (G.2.2.2.2.2.2.2 (i + 1)), .ref m]) 4 rfl ?_
    refine WW.scr (i + 2) rfl (wn_add rfl rfl) (by show _ < G.2.2.2.2.2.2.1; omega) hlen ?_
    refine WW.callV [.int (G.2.2.2.2.2.2.2 (i + 1)), .int (G.2.2.2.2.2.2.2 (i + 2))] m [] rfl mX0_166 (hy w1 t hm1) (wdRecv.obj hM1.1 rfl) rfl rfl (wd_le rfl) (wd_le rfl) (by omega) (by omega) (fun o w2 hq => ?_)
    obtain ⟨rfl, fr2, hm2⟩ := hq
    show WW _ _ _ 539 _ [.int z.1] _
    have hO2 := isOf.mFr ok hO1 hM1 hA fr2
    have q35 := mFr.keep ok hM1 fr2 k35 (Or.inl rfl)
    have q36 := mFr.keep ok hM1 fr2 k36 (Or.inr rfl)
    obtain ⟨I2, F2, hM2, ht2⟩ := hm2.cell
    refine WW.run (pc' := 542) (lv' := [(7, .int z.1), (6, .int (nI 0)), (5, .int (nI i)), (4, .ref od), (3, .ref ou), (2, .ref m), (1, .ref o), (0, .ref (G.2.2.2.1 3))]) (st' := [.ref m]) 2 rfl ?_
    refine WW.callV [] m [] rfl mX0_149 (sM_thrown hM2) (wdRecv.obj hM2.1 rfl) rfl rfl (wd_le rfl) (wd_le rfl) (by omega) (by omega) (fun o w' hq => ?_)
    obtain ⟨rfl, hw9⟩ := hq
    show WW _ _ _ 545 _ [.int (I2 2)] _
    rw [hw9]
    clear hw9 w'
    rw [ht2]
    refine WW.run (pc' := 547) (lv' := [(7, .int z.1), (6, .int (nI 0)), (5, .int (nI i)), (4, .ref od), (3, .ref ou), (2, .ref m), (1, .ref o), (0, .ref (G.2.2.2.1 3))]) (st' := [.int (nI 0), .int (nI 0)]) 1 rfl ?_
    refine WW.icmp_eq (tgt := 552) rfl rfl (fun _ => ?_) (fun hno => absurd rfl hno)
    refine WW.run (pc' := 554) (lv' := [(7, .int z.1), (6, .int (nI 0)), (5, .int (nI i)), (4, .ref od), (3, .ref ou), (2, .ref m), (1, .ref o), (0, .ref (G.2.2.2.1 3))]) (st' := [.int (nI 0)]) 1 rfl ?_
    refine WW.if_ne (tgt := 569) rfl rfl (fun hno => absurd rfl hno) (fun _ => ?_)
    refine WW.run (pc' := 559) (lv' := [(7, .int z.1), (6, .int (nI 0)), (5, .int (nI i)), (4, .ref od), (3, .ref ou), (2, .ref m), (1, .ref o), (0, .ref (G.2.2.2.1 3))]) (st' := [.int (nI 0), .ref ou]) 2 rfl ?_
    refine WW.lald rfl q35 one_in ?_
    show WW _ _ _ 560 _ [.long (fL1 0)] _
    rw [hf0]
    refine WW.run (pc' := 563) (lv' := [(7, .int z.1), (6, .int (nI 0)), (5, .int (nI i)), (4, .ref od), (3, .ref ou), (2, .ref m), (1, .ref o), (0, .ref (G.2.2.2.1 3))]) (st' := [.long z.1.toInt64, .long z.1.toInt64]) 2 rfl ?_
    refine WW.lcmp rfl ?_
    rw [lg_cmp_self]
    refine WW.if_eq (tgt := 569) rfl rfl (fun _ => ?_) (fun hno => absurd rfl hno)
    refine WW.run (pc' := 2455) (lv' := [(7, .int z.1), (6, .int (nI 0)), (5, .int (nI i)), (4, .ref od), (3, .ref ou), (2, .ref m), (1, .ref o), (0, .ref (G.2.2.2.1 3))]) (st' := []) 1 rfl ?_
    refine WW.pick (lv' := [(5, .int (nI i)), (4, .ref od), (3, .ref ou), (2, .ref m), (1, .ref o), (0, .ref (G.2.2.2.1 3))]) [2, 3, 4, 5, 6, 7] rfl ?_
    exact WW.less (by omega) (by omega) (kk2 z rfl w2 ⟨hO2, hJ0, ⟨_, J, hm2, rfl, rfl, rfl⟩, ⟨_, q35⟩, ⟨_, q36⟩, hA⟩)
theorem lK5 (hL : lI G w o hl inp sb m A ou od cur hn hist sv n ic on oc J) (hi : i + 3 < G.2.2.2.2.2.2.1) (hlen : G.2.2.2.2.2.2.1 < 2 ^ 31) (hkc : 40000 ≤ kc) (hks : 200000 ≤ ks) {r : aR} (hx : Sp l G MX1_giveUp 11 63 362 [.ref o, .int (G.2.2.2.2.2.2.2 (i + 1))] w (oQ G o hl inp sb J cur hn hist sv ic on oc [13, 16] r w)) (hr : rLe 2 r) (hy : ∀ w1 t, isMm w1 m A t J cur hn hist sv n ic on oc → Sp l G MX3_giveUp 6 0 0 [.ref m, .int (G.2.2.2.2.2.2.2 (i + 1))] w1 (mD m A J cur hn hist sv n ic on oc r w1)) (kk1 : lNx l G mc ms kc ks i o hl inp sb m A ou od cur hn hist sv n ic on oc J) (kk2 : ∀ z, r = .inr z → lNx l G mc ms kc ks i o hl inp sb m A ou od z.2 (tRec hn hist cur).1 (tRec hn hist cur).2 sv n ic on oc J) : WW (lX l G mc ms) kc ks 572 (lLV G i o m ou od) [] w := by
  obtain ⟨hO, hJ0, ⟨t, J1, hm, j1, j2, j3⟩, ⟨fL, h35⟩, ⟨fD, h36⟩, hA⟩ := hL
  have hm := hm.j j1.symm j2.symm j3.symm
  refine WW.ok fun ok => ?_
  replace ok : wdOk G w := ok
  refine WW.run (pc' := 578) (lv' := [(5, .int (nI i)), (4, .ref od), (3, .ref ou), (2, .ref m), (1, .ref o), (0, .ref (G.2.2.2.1 3))]) (st' := [.int ((nI i) + (nI 1)), .ref (G.2.2.2.1 3), .ref o]) 5 rfl ?_
  refine WW.scr (i + 1) rfl (wn_add rfl rfl) (by show _ < G.2.2.2.2.2.2.1; omega) hlen ?_
  refine WW.run (pc' := 580) (lv' := [(5, .int (nI i)), (4, .ref od), (3, .ref ou), (2, .ref m), (1, .ref o), (0, .ref (G.2.2.2.1 3))]) (st' := [.ref ou, .int (G.2.2.2.2.2.2.2 (i + 1)), .ref o]) 1 rfl ?_
  refine WW.callSH [.ref o, .int (G.2.2.2.2.2.2.2 (i + 1)), .ref ou] [] rfl mX0_167 (lW_giveUp (G.2.2.2.2.2.2.2 (i + 1)) hO h35 hx hr) rfl rfl (wd_le rfl) (wd_le rfl) (by omega) (by omega) (fun o w1 hq => ?_)
  obtain ⟨l1, fL1, k35, hq⟩ := hq
  have k36 := l1.2 _ _ _ h36 (Or.inr (Or.inr (Or.inl rfl)))
  have hm1 := hm.lFr hA l1
  obtain ⟨I1, F1, hM1, ht1⟩ := hm1.cell
  cases r with
  | inl p =>
    obtain ⟨rfl, hO1⟩ := hq
    have hp1 : 1 ≤ p := hr.1
    have hpN : p ≤ 2 := hr.2
    show WW _ _ _ 583 _ [.int (nI p)] _
    refine WW.ok fun ok => ?_
    replace ok : wdOk G w1 := ok
    refine WW.run (pc' := 591) (lv' := [(6, .int (nI p)), (5, .int (nI i)), (4, .ref od), (3, .ref ou), (2, .ref m), (1, .ref o), (0, .ref (G.2.2.2.1 3))]) (st' := [.int ((nI i) + (nI 1)), .ref (G.2.2.2.1 3), .ref m]) 6 rfl ?_
    refine WW.scr (i + 1) rfl (wn_add rfl rfl) (by show _ < G.2.2.2.2.2.2.1; omega) hlen ?_
    refine WW.callV [.int (G.2.2.2.2.2.2.2 (i + 1))] m [] rfl mX0_169 (hy w1 t hm1) (wdRecv.obj hM1.1 rfl) rfl rfl (wd_le rfl) (wd_le rfl) (by omega) (by omega) (fun o w2 hq => ?_)
    obtain ⟨rfl, fr2, hm2⟩ := hq
    show WW _ _ _ 595 _ [.int (nI 0)] _
    have hO2 := isOf.mFr ok hO1 hM1 hA fr2
    have q35 := mFr.keep ok hM1 fr2 k35 (Or.inl rfl)
    have q36 := mFr.keep ok hM1 fr2 k36 (Or.inr rfl)
    obtain ⟨I2, F2, hM2, ht2⟩ := hm2.cell
    refine WW.run (pc' := 598) (lv' := [(7, .int (nI 0)), (6, .int (nI p)), (5, .int (nI i)), (4, .ref od), (3, .ref ou), (2, .ref m), (1, .ref o), (0, .ref (G.2.2.2.1 3))]) (st' := [.ref m]) 2 rfl ?_
    refine WW.callV [] m [] rfl mX0_149 (sM_thrown hM2) (wdRecv.obj hM2.1 rfl) rfl rfl (wd_le rfl) (wd_le rfl) (by omega) (by omega) (fun o w' hq => ?_)
    obtain ⟨rfl, hw9⟩ := hq
    show WW _ _ _ 601 _ [.int (I2 2)] _
    rw [hw9]
    clear hw9 w'
    rw [ht2]
    refine WW.run (pc' := 603) (lv' := [(7, .int (nI 0)), (6, .int (nI p)), (5, .int (nI i)), (4, .ref od), (3, .ref ou), (2, .ref m), (1, .ref o), (0, .ref (G.2.2.2.1 3))]) (st' := [.int (nI p), .int (nI p)]) 1 rfl ?_
    refine WW.icmp_eq (tgt := 608) rfl rfl (fun _ => ?_) (fun hno => absurd rfl hno)
    refine WW.run (pc' := 610) (lv' := [(7, .int (nI 0)), (6, .int (nI p)), (5, .int (nI i)), (4, .ref od), (3, .ref ou), (2, .ref m), (1, .ref o), (0, .ref (G.2.2.2.1 3))]) (st' := [.int (nI p)]) 1 rfl ?_
    refine WW.if_ne (tgt := 625) rfl rfl (fun _ => ?_) (fun hno => absurd hno (nI_ne0 hp1 (by omega)))
    refine WW.run (pc' := 2455) (lv' := [(7, .int (nI 0)), (6, .int (nI p)), (5, .int (nI i)), (4, .ref od), (3, .ref ou), (2, .ref m), (1, .ref o), (0, .ref (G.2.2.2.1 3))]) (st' := []) 1 rfl ?_
    refine WW.pick (lv' := [(5, .int (nI i)), (4, .ref od), (3, .ref ou), (2, .ref m), (1, .ref o), (0, .ref (G.2.2.2.1 3))]) [2, 3, 4, 5, 6, 7] rfl ?_
    exact WW.less (by omega) (by omega) (kk1 w2 ⟨hO2, hJ0, ⟨_, J, hm2, rfl, rfl, rfl⟩, ⟨_, q35⟩, ⟨_, q36⟩, hA⟩)
  | inr z =>
    obtain ⟨rfl, hf0, hO1⟩ := hq
    show WW _ _ _ 583 _ [.int (nI 0)] _
    refine WW.ok fun ok => ?_
    replace ok : wdOk G w1 := ok
    refine WW.run (pc' := 591) (lv' := [(6, .int (nI 0)), (5, .int (nI i)), (4, .ref od), (3, .ref ou), (2, .ref m), (1, .ref o), (0, .ref (G.2.2.2.1 3))]) (st' := [.int ((nI i) + (nI 1)), .ref (G.2.2.2.1 3), .ref m]) 6 rfl ?_
    refine WW.scr (i + 1) rfl (wn_add rfl rfl) (by show _ < G.2.2.2.2.2.2.1; omega) hlen ?_
    refine WW.callV [.int (G.2.2.2.2.2.2.2 (i + 1))] m [] rfl mX0_169 (hy w1 t hm1) (wdRecv.obj hM1.1 rfl) rfl rfl (wd_le rfl) (wd_le rfl) (by omega) (by omega) (fun o w2 hq => ?_)
    obtain ⟨rfl, fr2, hm2⟩ := hq
    show WW _ _ _ 595 _ [.int z.1] _
    have hO2 := isOf.mFr ok hO1 hM1 hA fr2
    have q35 := mFr.keep ok hM1 fr2 k35 (Or.inl rfl)
    have q36 := mFr.keep ok hM1 fr2 k36 (Or.inr rfl)
    obtain ⟨I2, F2, hM2, ht2⟩ := hm2.cell
    refine WW.run (pc' := 598) (lv' := [(7, .int z.1), (6, .int (nI 0)), (5, .int (nI i)), (4, .ref od), (3, .ref ou), (2, .ref m), (1, .ref o), (0, .ref (G.2.2.2.1 3))]) (st' := [.ref m]) 2 rfl ?_
    refine WW.callV [] m [] rfl mX0_149 (sM_thrown hM2) (wdRecv.obj hM2.1 rfl) rfl rfl (wd_le rfl) (wd_le rfl) (by omega) (by omega) (fun o w' hq => ?_)
    obtain ⟨rfl, hw9⟩ := hq
    show WW _ _ _ 601 _ [.int (I2 2)] _
    rw [hw9]
    clear hw9 w'
    rw [ht2]
    refine WW.run (pc' := 603) (lv' := [(7, .int z.1), (6, .int (nI 0)), (5, .int (nI i)), (4, .ref od), (3, .ref ou), (2, .ref m), (1, .ref o), (0, .ref (G.2.2.2.1 3))]) (st' := [.int (nI 0), .int (nI 0)]) 1 rfl ?_
    refine WW.icmp_eq (tgt := 608) rfl rfl (fun _ => ?_) (fun hno => absurd rfl hno)
    refine WW.run (pc' := 610) (lv' := [(7, .int z.1), (6, .int (nI 0)), (5, .int (nI i)), (4, .ref od), (3, .ref ou), (2, .ref m), (1, .ref o), (0, .ref (G.2.2.2.1 3))]) (st' := [.int (nI 0)]) 1 rfl ?_
    refine WW.if_ne (tgt := 625) rfl rfl (fun hno => absurd rfl hno) (fun _ => ?_)
    refine WW.run (pc' := 615) (lv' := [(7, .int z.1), (6, .int (nI 0)), (5, .int (nI i)), (4, .ref od), (3, .ref ou), (2, .ref m), (1, .ref o), (0, .ref (G.2.2.2.1 3))]) (st' := [.int (nI 0), .ref ou]) 2 rfl ?_
    refine WW.lald rfl q35 one_in ?_
    show WW _ _ _ 616 _ [.long (fL1 0)] _
    rw [hf0]
    refine WW.run (pc' := 619) (lv' := [(7, .int z.1), (6, .int (nI 0)), (5, .int (nI i)), (4, .ref od), (3, .ref ou), (2, .ref m), (1, .ref o), (0, .ref (G.2.2.2.1 3))]) (st' := [.long z.1.toInt64, .long z.1.toInt64]) 2 rfl ?_
    refine WW.lcmp rfl ?_
    rw [lg_cmp_self]
    refine WW.if_eq (tgt := 625) rfl rfl (fun _ => ?_) (fun hno => absurd rfl hno)
    refine WW.run (pc' := 2455) (lv' := [(7, .int z.1), (6, .int (nI 0)), (5, .int (nI i)), (4, .ref od), (3, .ref ou), (2, .ref m), (1, .ref o), (0, .ref (G.2.2.2.1 3))]) (st' := []) 1 rfl ?_
    refine WW.pick (lv' := [(5, .int (nI i)), (4, .ref od), (3, .ref ou), (2, .ref m), (1, .ref o), (0, .ref (G.2.2.2.1 3))]) [2, 3, 4, 5, 6, 7] rfl ?_
    exact WW.less (by omega) (by omega) (kk2 z rfl w2 ⟨hO2, hJ0, ⟨_, J, hm2, rfl, rfl, rfl⟩, ⟨_, q35⟩, ⟨_, q36⟩, hA⟩)
theorem lK6 (hL : lI G w o hl inp sb m A ou od cur hn hist sv n ic on oc J) (hi : i + 3 < G.2.2.2.2.2.2.1) (hlen : G.2.2.2.2.2.2.1 < 2 ^ 31) (hkc : 40000 ≤ kc) (hks : 200000 ≤ ks) {r : aR} (hx : Sp l G MX1_passHours 10 1118 5348 [.ref o, .int (G.2.2.2.2.2.2.2 (i + 1))] w (oQ G o hl inp sb J cur hn hist sv ic on oc [14] r w)) (hr : rLe 1 r) (hy : ∀ w1 t, isMm w1 m A t J cur hn hist sv n ic on oc → Sp l G MX3_passHours 6 0 0 [.ref m, .int (G.2.2.2.2.2.2.2 (i + 1))] w1 (mD m A J cur hn hist sv n ic on oc r w1)) (kk1 : lNx l G mc ms kc ks i o hl inp sb m A ou od cur hn hist sv n ic on oc J) (kk2 : ∀ z, r = .inr z → lNx l G mc ms kc ks i o hl inp sb m A ou od z.2 (tRec hn hist cur).1 (tRec hn hist cur).2 sv n ic on oc J) : WW (lX l G mc ms) kc ks 628 (lLV G i o m ou od) [] w := by
  obtain ⟨hO, hJ0, ⟨t, J1, hm, j1, j2, j3⟩, ⟨fL, h35⟩, ⟨fD, h36⟩, hA⟩ := hL
  have hm := hm.j j1.symm j2.symm j3.symm
  refine WW.ok fun ok => ?_
  replace ok : wdOk G w := ok
  refine WW.run (pc' := 634) (lv' := [(5, .int (nI i)), (4, .ref od), (3, .ref ou), (2, .ref m), (1, .ref o), (0, .ref (G.2.2.2.1 3))]) (st' := [.int ((nI i) + (nI 1)), .ref (G.2.2.2.1 3), .ref o]) 5 rfl ?_
  refine WW.scr (i + 1) rfl (wn_add rfl rfl) (by show _ < G.2.2.2.2.2.2.1; omega) hlen ?_
  refine WW.run (pc' := 636) (lv' := [(5, .int (nI i)), (4, .ref od), (3, .ref ou), (2, .ref m), (1, .ref o), (0, .ref (G.2.2.2.1 3))]) (st' := [.ref ou, .int (G.2.2.2.2.2.2.2 (i + 1)), .ref o]) 1 rfl ?_
  refine WW.callSH [.ref o, .int (G.2.2.2.2.2.2.2 (i + 1)), .ref ou] [] rfl mX0_170 (lW_passHours (G.2.2.2.2.2.2.2 (i + 1)) hO h35 hx hr) rfl rfl (wd_le rfl) (wd_le rfl) (by omega) (by omega) (fun o w1 hq => ?_)
  obtain ⟨l1, fL1, k35, hq⟩ := hq
  have k36 := l1.2 _ _ _ h36 (Or.inr (Or.inr (Or.inl rfl)))
  have hm1 := hm.lFr hA l1
  obtain ⟨I1, F1, hM1, ht1⟩ := hm1.cell
  cases r with
  | inl p =>
    obtain ⟨rfl, hO1⟩ := hq
    have hp1 : 1 ≤ p := hr.1
    have hpN : p ≤ 1 := hr.2
    show WW _ _ _ 639 _ [.int (nI p)] _
    refine WW.ok fun ok => ?_
    replace ok : wdOk G w1 := ok
    refine WW.run (pc' := 647) (lv' := [(6, .int (nI p)), (5, .int (nI i)), (4, .ref od), (3, .ref ou), (2, .ref m), (1, .ref o), (0, .ref (G.2.2.2.1 3))]) (st' := [.int ((nI i) + (nI 1)), .ref (G.2.2.2.1 3), .ref m]) 6 rfl ?_
    refine WW.scr (i + 1) rfl (wn_add rfl rfl) (by show _ < G.2.2.2.2.2.2.1; omega) hlen ?_
    refine WW.callV [.int (G.2.2.2.2.2.2.2 (i + 1))] m [] rfl mX0_172 (hy w1 t hm1) (wdRecv.obj hM1.1 rfl) rfl rfl (wd_le rfl) (wd_le rfl) (by omega) (by omega) (fun o w2 hq => ?_)
    obtain ⟨rfl, fr2, hm2⟩ := hq
    show WW _ _ _ 651 _ [.int (nI 0)] _
    have hO2 := isOf.mFr ok hO1 hM1 hA fr2
    have q35 := mFr.keep ok hM1 fr2 k35 (Or.inl rfl)
    have q36 := mFr.keep ok hM1 fr2 k36 (Or.inr rfl)
    obtain ⟨I2, F2, hM2, ht2⟩ := hm2.cell
    refine WW.run (pc' := 654) (lv' := [(7, .int (nI 0)), (6, .int (nI p)), (5, .int (nI i)), (4, .ref od), (3, .ref ou), (2, .ref m), (1, .ref o), (0, .ref (G.2.2.2.1 3))]) (st' := [.ref m]) 2 rfl ?_
    refine WW.callV [] m [] rfl mX0_149 (sM_thrown hM2) (wdRecv.obj hM2.1 rfl) rfl rfl (wd_le rfl) (wd_le rfl) (by omega) (by omega) (fun o w' hq => ?_)
    obtain ⟨rfl, hw9⟩ := hq
    show WW _ _ _ 657 _ [.int (I2 2)] _
    rw [hw9]
    clear hw9 w'
    rw [ht2]
    refine WW.run (pc' := 659) (lv' := [(7, .int (nI 0)), (6, .int (nI p)), (5, .int (nI i)), (4, .ref od), (3, .ref ou), (2, .ref m), (1, .ref o), (0, .ref (G.2.2.2.1 3))]) (st' := [.int (nI p), .int (nI p)]) 1 rfl ?_
    refine WW.icmp_eq (tgt := 664) rfl rfl (fun _ => ?_) (fun hno => absurd rfl hno)
    refine WW.run (pc' := 666) (lv' := [(7, .int (nI 0)), (6, .int (nI p)), (5, .int (nI i)), (4, .ref od), (3, .ref ou), (2, .ref m), (1, .ref o), (0, .ref (G.2.2.2.1 3))]) (st' := [.int (nI p)]) 1 rfl ?_
    refine WW.if_ne (tgt := 681) rfl rfl (fun _ => ?_) (fun hno => absurd hno (nI_ne0 hp1 (by omega)))
    refine WW.run (pc' := 2455) (lv' := [(7, .int (nI 0)), (6, .int (nI p)), (5, .int (nI i)), (4, .ref od), (3, .ref ou), (2, .ref m), (1, .ref o), (0, .ref (G.2.2.2.1 3))]) (st' := []) 1 rfl ?_
    refine WW.pick (lv' := [(5, .int (nI i)), (4, .ref od), (3, .ref ou), (2, .ref m), (1, .ref o), (0, .ref (G.2.2.2.1 3))]) [2, 3, 4, 5, 6, 7] rfl ?_
    exact WW.less (by omega) (by omega) (kk1 w2 ⟨hO2, hJ0, ⟨_, J, hm2, rfl, rfl, rfl⟩, ⟨_, q35⟩, ⟨_, q36⟩, hA⟩)
  | inr z =>
    obtain ⟨rfl, hf0, hO1⟩ := hq
    show WW _ _ _ 639 _ [.int (nI 0)] _
    refine WW.ok fun ok => ?_
    replace ok : wdOk G w1 := ok
    refine WW.run (pc' := 647) (lv' := [(6, .int (nI 0)), (5, .int (nI i)), (4, .ref od), (3, .ref ou), (2, .ref m), (1, .ref o), (0, .ref (G.2.2.2.1 3))]) (st' := [.int ((nI i) + (nI 1)), .ref (G.2.2.2.1 3), .ref m]) 6 rfl ?_
    refine WW.scr (i + 1) rfl (wn_add rfl rfl) (by show _ < G.2.2.2.2.2.2.1; omega) hlen ?_
    refine WW.callV [.int (G.2.2.2.2.2.2.2 (i + 1))] m [] rfl mX0_172 (hy w1 t hm1) (wdRecv.obj hM1.1 rfl) rfl rfl (wd_le rfl) (wd_le rfl) (by omega) (by omega) (fun o w2 hq => ?_)
    obtain ⟨rfl, fr2, hm2⟩ := hq
    show WW _ _ _ 651 _ [.int z.1] _
    have hO2 := isOf.mFr ok hO1 hM1 hA fr2
    have q35 := mFr.keep ok hM1 fr2 k35 (Or.inl rfl)
    have q36 := mFr.keep ok hM1 fr2 k36 (Or.inr rfl)
    obtain ⟨I2, F2, hM2, ht2⟩ := hm2.cell
    refine WW.run (pc' := 654) (lv' := [(7, .int z.1), (6, .int (nI 0)), (5, .int (nI i)), (4, .ref od), (3, .ref ou), (2, .ref m), (1, .ref o), (0, .ref (G.2.2.2.1 3))]) (st' := [.ref m]) 2 rfl ?_
    refine WW.callV [] m [] rfl mX0_149 (sM_thrown hM2) (wdRecv.obj hM2.1 rfl) rfl rfl (wd_le rfl) (wd_le rfl) (by omega) (by omega) (fun o w' hq => ?_)
    obtain ⟨rfl, hw9⟩ := hq
    show WW _ _ _ 657 _ [.int (I2 2)] _
    rw [hw9]
    clear hw9 w'
    rw [ht2]
    refine WW.run (pc' := 659) (lv' := [(7, .int z.1), (6, .int (nI 0)), (5, .int (nI i)), (4, .ref od), (3, .ref ou), (2, .ref m), (1, .ref o), (0, .ref (G.2.2.2.1 3))]) (st' := [.int (nI 0), .int (nI 0)]) 1 rfl ?_
    refine WW.icmp_eq (tgt := 664) rfl rfl (fun _ => ?_) (fun hno => absurd rfl hno)
    refine WW.run (pc' := 666) (lv' := [(7, .int z.1), (6, .int (nI 0)), (5, .int (nI i)), (4, .ref od), (3, .ref ou), (2, .ref m), (1, .ref o), (0, .ref (G.2.2.2.1 3))]) (st' := [.int (nI 0)]) 1 rfl ?_
    refine WW.if_ne (tgt := 681) rfl rfl (fun hno => absurd rfl hno) (fun _ => ?_)
    refine WW.run (pc' := 671) (lv' := [(7, .int z.1), (6, .int (nI 0)), (5, .int (nI i)), (4, .ref od), (3, .ref ou), (2, .ref m), (1, .ref o), (0, .ref (G.2.2.2.1 3))]) (st' := [.int (nI 0), .ref ou]) 2 rfl ?_
    refine WW.lald rfl q35 one_in ?_
    show WW _ _ _ 672 _ [.long (fL1 0)] _
    rw [hf0]
    refine WW.run (pc' := 675) (lv' := [(7, .int z.1), (6, .int (nI 0)), (5, .int (nI i)), (4, .ref od), (3, .ref ou), (2, .ref m), (1, .ref o), (0, .ref (G.2.2.2.1 3))]) (st' := [.long z.1.toInt64, .long z.1.toInt64]) 2 rfl ?_
    refine WW.lcmp rfl ?_
    rw [lg_cmp_self]
    refine WW.if_eq (tgt := 681) rfl rfl (fun _ => ?_) (fun hno => absurd rfl hno)
    refine WW.run (pc' := 2455) (lv' := [(7, .int z.1), (6, .int (nI 0)), (5, .int (nI i)), (4, .ref od), (3, .ref ou), (2, .ref m), (1, .ref o), (0, .ref (G.2.2.2.1 3))]) (st' := []) 1 rfl ?_
    refine WW.pick (lv' := [(5, .int (nI i)), (4, .ref od), (3, .ref ou), (2, .ref m), (1, .ref o), (0, .ref (G.2.2.2.1 3))]) [2, 3, 4, 5, 6, 7] rfl ?_
    exact WW.less (by omega) (by omega) (kk2 z rfl w2 ⟨hO2, hJ0, ⟨_, J, hm2, rfl, rfl, rfl⟩, ⟨_, q35⟩, ⟨_, q36⟩, hA⟩)
theorem lK7 (hL : lI G w o hl inp sb m A ou od cur hn hist sv n ic on oc J) (hi : i + 3 < G.2.2.2.2.2.2.1) (hlen : G.2.2.2.2.2.2.1 < 2 ^ 31) (hkc : 40000 ≤ kc) (hks : 200000 ≤ ks) {y v0 : Int32} (hx : Sp l G MX1_hour 1 0 0 [.ref o] w (oA G o hl inp sb J cur hn hist sv ic on oc [] (.inr (.int y)) w)) (hy : ∀ w1 t, isMm w1 m A t J cur hn hist sv n ic on oc → Sp l G MX3_hour 6 0 0 [.ref m] w1 (mA m A J cur hn hist sv n ic on oc (.int v0) (.inr (.int y)) w1)) (kk : lNx l G mc ms kc ks i o hl inp sb m A ou od cur hn hist sv n ic on oc J) : WW (lX l G mc ms) kc ks 684 (lLV G i o m ou od) [] w := by
  obtain ⟨hO, hJ0, ⟨t, J1, hm, j1, j2, j3⟩, ⟨fL, h35⟩, ⟨fD, h36⟩, hA⟩ := hL
  have hm := hm.j j1.symm j2.symm j3.symm
  refine WW.ok fun ok => ?_
  replace ok : wdOk G w := ok
  obtain ⟨fs, hc⟩ := hO.cell
  refine WW.run (pc' := 685) (lv' := [(5, .int (nI i)), (4, .ref od), (3, .ref ou), (2, .ref m), (1, .ref o), (0, .ref (G.2.2.2.1 3))]) (st' := [.ref o]) 1 rfl ?_
  refine WW.callV [] o [] rfl mX0_173 hx (wdRecv.obj hc rfl) rfl rfl (wd_le rfl) (wd_le rfl) (by omega) (by omega) (fun o w1 hq => ?_)
  obtain ⟨f1, hO1, rfl⟩ := hq
  have l1 : lFr inp 35 w w1 := lFr.of (Or.inl rfl) f1
  have k35 := f1.2 _ _ _ h35 (Or.inr (Or.inr (Or.inl rfl)))
  have k36 := f1.2 _ _ _ h36 (Or.inr (Or.inr (Or.inr (Or.inl rfl))))
  have hm1 := hm.lFr hA l1
  obtain ⟨I1, F1, hM1, ht1⟩ := hm1.cell
  show WW _ _ _ 688 _ [.int y] _
  refine WW.ok fun ok => ?_
  replace ok : wdOk G w1 := ok
  refine WW.run (pc' := 689) (lv' := [(5, .int (nI i)), (4, .ref od), (3, .ref ou), (2, .ref m), (1, .ref o), (0, .ref (G.2.2.2.1 3))]) (st' := [.ref m, .int y]) 1 rfl ?_
  refine WW.callV [] m [.int y] rfl mX0_176 (hy w1 t hm1) (wdRecv.obj hM1.1 rfl) rfl rfl (wd_le rfl) (wd_le rfl) (by omega) (by omega) (fun o w2 hq => ?_)
  obtain ⟨rfl, hm2, fr2⟩ := hq
  show WW _ _ _ 692 _ [.int y, .int y] _
  have hO2 := isOf.mFr ok hO1 hM1 hA fr2
  have q35 := mFr.keep ok hM1 fr2 k35 (Or.inl rfl)
  have q36 := mFr.keep ok hM1 fr2 k36 (Or.inr rfl)
  refine WW.icmp_eq (tgt := 2455) rfl rfl (fun _ => ?_) (fun hno => absurd rfl hno)
  exact WW.less (by omega) (by omega) (kk w2 ⟨hO2, hJ0, ⟨_, J, hm2, rfl, rfl, rfl⟩, ⟨_, q35⟩, ⟨_, q36⟩, hA⟩)
theorem lK8 (hL : lI G w o hl inp sb m A ou od cur hn hist sv n ic on oc J) (hi : i + 3 < G.2.2.2.2.2.2.1) (hlen : G.2.2.2.2.2.2.1 < 2 ^ 31) (hkc : 40000 ≤ kc) (hks : 200000 ≤ ks) {y v0 : Int32} (hx : Sp l G MX1_shipCount 1 0 0 [.ref o] w (oA G o hl inp sb J cur hn hist sv ic on oc [] (.inr (.int y)) w)) (hy : ∀ w1 t, isMm w1 m A t J cur hn hist sv n ic on oc → Sp l G MX3_shipCount 6 0 0 [.ref m] w1 (mA m A J cur hn hist sv n ic on oc (.int v0) (.inr (.int y)) w1)) (kk : lNx l G mc ms kc ks i o hl inp sb m A ou od cur hn hist sv n ic on oc J) : WW (lX l G mc ms) kc ks 697 (lLV G i o m ou od) [] w := by
  obtain ⟨hO, hJ0, ⟨t, J1, hm, j1, j2, j3⟩, ⟨fL, h35⟩, ⟨fD, h36⟩, hA⟩ := hL
  have hm := hm.j j1.symm j2.symm j3.symm
  refine WW.ok fun ok => ?_
  replace ok : wdOk G w := ok
  obtain ⟨fs, hc⟩ := hO.cell
  refine WW.run (pc' := 698) (lv' := [(5, .int (nI i)), (4, .ref od), (3, .ref ou), (2, .ref m), (1, .ref o), (0, .ref (G.2.2.2.1 3))]) (st' := [.ref o]) 1 rfl ?_
  refine WW.callV [] o [] rfl mX0_177 hx (wdRecv.obj hc rfl) rfl rfl (wd_le rfl) (wd_le rfl) (by omega) (by omega) (fun o w1 hq => ?_)
  obtain ⟨f1, hO1, rfl⟩ := hq
  have l1 : lFr inp 35 w w1 := lFr.of (Or.inl rfl) f1
  have k35 := f1.2 _ _ _ h35 (Or.inr (Or.inr (Or.inl rfl)))
  have k36 := f1.2 _ _ _ h36 (Or.inr (Or.inr (Or.inr (Or.inl rfl))))
  have hm1 := hm.lFr hA l1
  obtain ⟨I1, F1, hM1, ht1⟩ := hm1.cell
  show WW _ _ _ 701 _ [.int y] _
  refine WW.ok fun ok => ?_
  replace ok : wdOk G w1 := ok
  refine WW.run (pc' := 702) (lv' := [(5, .int (nI i)), (4, .ref od), (3, .ref ou), (2, .ref m), (1, .ref o), (0, .ref (G.2.2.2.1 3))]) (st' := [.ref m, .int y]) 1 rfl ?_
  refine WW.callV [] m [.int y] rfl mX0_180 (hy w1 t hm1) (wdRecv.obj hM1.1 rfl) rfl rfl (wd_le rfl) (wd_le rfl) (by omega) (by omega) (fun o w2 hq => ?_)
  obtain ⟨rfl, hm2, fr2⟩ := hq
  show WW _ _ _ 705 _ [.int y, .int y] _
  have hO2 := isOf.mFr ok hO1 hM1 hA fr2
  have q35 := mFr.keep ok hM1 fr2 k35 (Or.inl rfl)
  have q36 := mFr.keep ok hM1 fr2 k36 (Or.inr rfl)
  refine WW.icmp_eq (tgt := 2455) rfl rfl (fun _ => ?_) (fun hno => absurd rfl hno)
  exact WW.less (by omega) (by omega) (kk w2 ⟨hO2, hJ0, ⟨_, J, hm2, rfl, rfl, rfl⟩, ⟨_, q35⟩, ⟨_, q36⟩, hA⟩)
theorem lK9 (hL : lI G w o hl inp sb m A ou od cur hn hist sv n ic on oc J) (hi : i + 3 < G.2.2.2.2.2.2.1) (hlen : G.2.2.2.2.2.2.1 < 2 ^ 31) (hkc : 40000 ≤ kc) (hks : 200000 ≤ ks) {r : Nat ⊕ Value} {v0 : Int32} (hx : Sp l G MX1_coins 8 1 6 [.ref o, .int (G.2.2.2.2.2.2.2 (i + 1))] w (oA G o hl inp sb J cur hn hist sv ic on oc [13] r w)) (hr : rOk 1 r) (hy : ∀ w1 t, isMm w1 m A t J cur hn hist sv n ic on oc → Sp l G MX3_coins 6 0 0 [.ref m, .int (G.2.2.2.2.2.2.2 (i + 1))] w1 (mA m A J cur hn hist sv n ic on oc (.int v0) r w1)) (kk : lNx l G mc ms kc ks i o hl inp sb m A ou od cur hn hist sv n ic on oc J) : WW (lX l G mc ms) kc ks 710 (lLV G i o m ou od) [] w := by
  obtain ⟨hO, hJ0, ⟨t, J1, hm, j1, j2, j3⟩, ⟨fL, h35⟩, ⟨fD, h36⟩, hA⟩ := hL
  have hm := hm.j j1.symm j2.symm j3.symm
  refine WW.ok fun ok => ?_
  replace ok : wdOk G w := ok
  refine WW.run (pc' := 716) (lv' := [(5, .int (nI i)), (4, .ref od), (3, .ref ou), (2, .ref m), (1, .ref o), (0, .ref (G.2.2.2.1 3))]) (st' := [.int ((nI i) + (nI 1)), .ref (G.2.2.2.1 3), .ref o]) 5 rfl ?_
  refine WW.scr (i + 1) rfl (wn_add rfl rfl) (by show _ < G.2.2.2.2.2.2.1; omega) hlen ?_
  refine WW.run (pc' := 718) (lv' := [(5, .int (nI i)), (4, .ref od), (3, .ref ou), (2, .ref m), (1, .ref o), (0, .ref (G.2.2.2.1 3))]) (st' := [.ref ou, .int (G.2.2.2.2.2.2.2 (i + 1)), .ref o]) 1 rfl ?_
  refine WW.callSH [.ref o, .int (G.2.2.2.2.2.2.2 (i + 1)), .ref ou] [] rfl mX0_181 (lW_coins (G.2.2.2.2.2.2.2 (i + 1)) hO h35 hx hr) rfl rfl (wd_le rfl) (wd_le rfl) (by omega) (by omega) (fun o w1 hq => ?_)
  obtain ⟨l1, hO1, fL1, k35, hq⟩ := hq
  have k36 := l1.2 _ _ _ h36 (Or.inr (Or.inr (Or.inl rfl)))
  have hm1 := hm.lFr hA l1
  obtain ⟨I1, F1, hM1, ht1⟩ := hm1.cell
  cases r with
  | inl p =>
    obtain rfl := hq
    have hp1 : 1 ≤ p := hr.1
    have hpN : p ≤ 1 := hr.2
    show WW _ _ _ 721 _ [.int (nI p)] _
    refine WW.ok fun ok => ?_
    replace ok : wdOk G w1 := ok
    refine WW.run (pc' := 729) (lv' := [(6, .int (nI p)), (5, .int (nI i)), (4, .ref od), (3, .ref ou), (2, .ref m), (1, .ref o), (0, .ref (G.2.2.2.1 3))]) (st' := [.int ((nI i) + (nI 1)), .ref (G.2.2.2.1 3), .ref m]) 6 rfl ?_
    refine WW.scr (i + 1) rfl (wn_add rfl rfl) (by show _ < G.2.2.2.2.2.2.1; omega) hlen ?_
    refine WW.callV [.int (G.2.2.2.2.2.2.2 (i + 1))] m [] rfl mX0_183 (hy w1 t hm1) (wdRecv.obj hM1.1 rfl) rfl rfl (wd_le rfl) (wd_le rfl) (by omega) (by omega) (fun o w2 hq => ?_)
    obtain ⟨rfl, hm2, fr2⟩ := hq
    show WW _ _ _ 733 _ [.int v0] _
    have hO2 := isOf.mFr ok hO1 hM1 hA fr2
    have q35 := mFr.keep ok hM1 fr2 k35 (Or.inl rfl)
    have q36 := mFr.keep ok hM1 fr2 k36 (Or.inr rfl)
    obtain ⟨I2, F2, hM2, ht2⟩ := hm2.cell
    refine WW.run (pc' := 736) (lv' := [(7, .int v0), (6, .int (nI p)), (5, .int (nI i)), (4, .ref od), (3, .ref ou), (2, .ref m), (1, .ref o), (0, .ref (G.2.2.2.1 3))]) (st' := [.ref m]) 2 rfl ?_
    refine WW.callV [] m [] rfl mX0_149 (sM_thrown hM2) (wdRecv.obj hM2.1 rfl) rfl rfl (wd_le rfl) (wd_le rfl) (by omega) (by omega) (fun o w' hq => ?_)
    obtain ⟨rfl, hw9⟩ := hq
    show WW _ _ _ 739 _ [.int (I2 2)] _
    rw [hw9]
    clear hw9 w'
    rw [ht2]
    refine WW.run (pc' := 741) (lv' := [(7, .int v0), (6, .int (nI p)), (5, .int (nI i)), (4, .ref od), (3, .ref ou), (2, .ref m), (1, .ref o), (0, .ref (G.2.2.2.1 3))]) (st' := [.int (nI p), .int (nI p)]) 1 rfl ?_
    refine WW.icmp_eq (tgt := 746) rfl rfl (fun _ => ?_) (fun hno => absurd rfl hno)
    refine WW.run (pc' := 748) (lv' := [(7, .int v0), (6, .int (nI p)), (5, .int (nI i)), (4, .ref od), (3, .ref ou), (2, .ref m), (1, .ref o), (0, .ref (G.2.2.2.1 3))]) (st' := [.int (nI p)]) 1 rfl ?_
    refine WW.if_ne (tgt := 763) rfl rfl (fun _ => ?_) (fun hno => absurd hno (nI_ne0 hp1 (by omega)))
    refine WW.run (pc' := 2455) (lv' := [(7, .int v0), (6, .int (nI p)), (5, .int (nI i)), (4, .ref od), (3, .ref ou), (2, .ref m), (1, .ref o), (0, .ref (G.2.2.2.1 3))]) (st' := []) 1 rfl ?_
    refine WW.pick (lv' := [(5, .int (nI i)), (4, .ref od), (3, .ref ou), (2, .ref m), (1, .ref o), (0, .ref (G.2.2.2.1 3))]) [2, 3, 4, 5, 6, 7] rfl ?_
    exact WW.less (by omega) (by omega) (kk w2 ⟨hO2, hJ0, ⟨_, J, hm2, rfl, rfl, rfl⟩, ⟨_, q35⟩, ⟨_, q36⟩, hA⟩)
  | inr v =>
    obtain ⟨y, rfl⟩ := hr
    obtain ⟨rfl, hf0⟩ := hq
    have hf0 : fL1 0 = y.toInt64 := hf0
    show WW _ _ _ 721 _ [.int (nI 0)] _
    refine WW.ok fun ok => ?_
    replace ok : wdOk G w1 := ok
    refine WW.run (pc' := 729) (lv' := [(6, .int (nI 0)), (5, .int (nI i)), (4, .ref od), (3, .ref ou), (2, .ref m), (1, .ref o), (0, .ref (G.2.2.2.1 3))]) (st' := [.int ((nI i) + (nI 1)), .ref (G.2.2.2.1 3), .ref m]) 6 rfl ?_
    refine WW.scr (i + 1) rfl (wn_add rfl rfl) (by show _ < G.2.2.2.2.2.2.1; omega) hlen ?_
    refine WW.callV [.int (G.2.2.2.2.2.2.2 (i + 1))] m [] rfl mX0_183 (hy w1 t hm1) (wdRecv.obj hM1.1 rfl) rfl rfl (wd_le rfl) (wd_le rfl) (by omega) (by omega) (fun o w2 hq => ?_)
    obtain ⟨rfl, hm2, fr2⟩ := hq
    show WW _ _ _ 733 _ [.int y] _
    have hO2 := isOf.mFr ok hO1 hM1 hA fr2
    have q35 := mFr.keep ok hM1 fr2 k35 (Or.inl rfl)
    have q36 := mFr.keep ok hM1 fr2 k36 (Or.inr rfl)
    obtain ⟨I2, F2, hM2, ht2⟩ := hm2.cell
    refine WW.run (pc' := 736) (lv' := [(7, .int y), (6, .int (nI 0)), (5, .int (nI i)), (4, .ref od), (3, .ref ou), (2, .ref m), (1, .ref o), (0, .ref (G.2.2.2.1 3))]) (st' := [.ref m]) 2 rfl ?_
    refine WW.callV [] m [] rfl mX0_149 (sM_thrown hM2) (wdRecv.obj hM2.1 rfl) rfl rfl (wd_le rfl) (wd_le rfl) (by omega) (by omega) (fun o w' hq => ?_)
    obtain ⟨rfl, hw9⟩ := hq
    show WW _ _ _ 739 _ [.int (I2 2)] _
    rw [hw9]
    clear hw9 w'
    rw [ht2]
    refine WW.run (pc' := 741) (lv' := [(7, .int y), (6, .int (nI 0)), (5, .int (nI i)), (4, .ref od), (3, .ref ou), (2, .ref m), (1, .ref o), (0, .ref (G.2.2.2.1 3))]) (st' := [.int (nI 0), .int (nI 0)]) 1 rfl ?_
    refine WW.icmp_eq (tgt := 746) rfl rfl (fun _ => ?_) (fun hno => absurd rfl hno)
    refine WW.run (pc' := 748) (lv' := [(7, .int y), (6, .int (nI 0)), (5, .int (nI i)), (4, .ref od), (3, .ref ou), (2, .ref m), (1, .ref o), (0, .ref (G.2.2.2.1 3))]) (st' := [.int (nI 0)]) 1 rfl ?_
    refine WW.if_ne (tgt := 763) rfl rfl (fun hno => absurd rfl hno) (fun _ => ?_)
    refine WW.run (pc' := 753) (lv' := [(7, .int y), (6, .int (nI 0)), (5, .int (nI i)), (4, .ref od), (3, .ref ou), (2, .ref m), (1, .ref o), (0, .ref (G.2.2.2.1 3))]) (st' := [.int (nI 0), .ref ou]) 2 rfl ?_
    refine WW.lald rfl q35 one_in ?_
    show WW _ _ _ 754 _ [.long (fL1 0)] _
    rw [hf0]
    refine WW.run (pc' := 757) (lv' := [(7, .int y), (6, .int (nI 0)), (5, .int (nI i)), (4, .ref od), (3, .ref ou), (2, .ref m), (1, .ref o), (0, .ref (G.2.2.2.1 3))]) (st' := [.long y.toInt64, .long y.toInt64]) 2 rfl ?_
    refine WW.lcmp rfl ?_
    rw [lg_cmp_self]
    refine WW.if_eq (tgt := 763) rfl rfl (fun _ => ?_) (fun hno => absurd rfl hno)
    refine WW.run (pc' := 2455) (lv' := [(7, .int y), (6, .int (nI 0)), (5, .int (nI i)), (4, .ref od), (3, .ref ou), (2, .ref m), (1, .ref o), (0, .ref (G.2.2.2.1 3))]) (st' := []) 1 rfl ?_
    refine WW.pick (lv' := [(5, .int (nI i)), (4, .ref od), (3, .ref ou), (2, .ref m), (1, .ref o), (0, .ref (G.2.2.2.1 3))]) [2, 3, 4, 5, 6, 7] rfl ?_
    exact WW.less (by omega) (by omega) (kk w2 ⟨hO2, hJ0, ⟨_, J, hm2, rfl, rfl, rfl⟩, ⟨_, q35⟩, ⟨_, q36⟩, hA⟩)
theorem lK10 (hL : lI G w o hl inp sb m A ou od cur hn hist sv n ic on oc J) (hi : i + 3 < G.2.2.2.2.2.2.1) (hlen : G.2.2.2.2.2.2.1 < 2 ^ 31) (hkc : 40000 ≤ kc) (hks : 200000 ≤ ks) {r : Nat ⊕ Value} {v0 : Int32} (hx : Sp l G MX1_finesPaid 8 1 6 [.ref o, .int (G.2.2.2.2.2.2.2 (i + 1))] w (oA G o hl inp sb J cur hn hist sv ic on oc [13] r w)) (hr : rOk 1 r) (hy : ∀ w1 t, isMm w1 m A t J cur hn hist sv n ic on oc → Sp l G MX3_finesPaid 6 0 0 [.ref m, .int (G.2.2.2.2.2.2.2 (i + 1))] w1 (mA m A J cur hn hist sv n ic on oc (.int v0) r w1)) (kk : lNx l G mc ms kc ks i o hl inp sb m A ou od cur hn hist sv n ic on oc J) : WW (lX l G mc ms) kc ks 766 (lLV G i o m ou od) [] w := by
  obtain ⟨hO, hJ0, ⟨t, J1, hm, j1, j2, j3⟩, ⟨fL, h35⟩, ⟨fD, h36⟩, hA⟩ := hL
  have hm := hm.j j1.symm j2.symm j3.symm
  refine WW.ok fun ok => ?_
  replace ok : wdOk G w := ok
  refine WW.run (pc' := 772) (lv' := [(5, .int (nI i)), (4, .ref od), (3, .ref ou), (2, .ref m), (1, .ref o), (0, .ref (G.2.2.2.1 3))]) (st' := [.int ((nI i) + (nI 1)), .ref (G.2.2.2.1 3), .ref o]) 5 rfl ?_
  refine WW.scr (i + 1) rfl (wn_add rfl rfl) (by show _ < G.2.2.2.2.2.2.1; omega) hlen ?_
  refine WW.run (pc' := 774) (lv' := [(5, .int (nI i)), (4, .ref od), (3, .ref ou), (2, .ref m), (1, .ref o), (0, .ref (G.2.2.2.1 3))]) (st' := [.ref ou, .int (G.2.2.2.2.2.2.2 (i + 1)), .ref o]) 1 rfl ?_
  refine WW.callSH [.ref o, .int (G.2.2.2.2.2.2.2 (i + 1)), .ref ou] [] rfl mX0_184 (lW_finesPaid (G.2.2.2.2.2.2.2 (i + 1)) hO h35 hx hr) rfl rfl (wd_le rfl) (wd_le rfl) (by omega) (by omega) (fun o w1 hq => ?_)
  obtain ⟨l1, hO1, fL1, k35, hq⟩ := hq
  have k36 := l1.2 _ _ _ h36 (Or.inr (Or.inr (Or.inl rfl)))
  have hm1 := hm.lFr hA l1
  obtain ⟨I1, F1, hM1, ht1⟩ := hm1.cell
  cases r with
  | inl p =>
    obtain rfl := hq
    have hp1 : 1 ≤ p := hr.1
    have hpN : p ≤ 1 := hr.2
    show WW _ _ _ 777 _ [.int (nI p)] _
    refine WW.ok fun ok => ?_
    replace ok : wdOk G w1 := ok
    refine WW.run (pc' := 785) (lv' := [(6, .int (nI p)), (5, .int (nI i)), (4, .ref od), (3, .ref ou), (2, .ref m), (1, .ref o), (0, .ref (G.2.2.2.1 3))]) (st' := [.int ((nI i) + (nI 1)), .ref (G.2.2.2.1 3), .ref m]) 6 rfl ?_
    refine WW.scr (i + 1) rfl (wn_add rfl rfl) (by show _ < G.2.2.2.2.2.2.1; omega) hlen ?_
    refine WW.callV [.int (G.2.2.2.2.2.2.2 (i + 1))] m [] rfl mX0_186 (hy w1 t hm1) (wdRecv.obj hM1.1 rfl) rfl rfl (wd_le rfl) (wd_le rfl) (by omega) (by omega) (fun o w2 hq => ?_)
    obtain ⟨rfl, hm2, fr2⟩ := hq
    show WW _ _ _ 789 _ [.int v0] _
    have hO2 := isOf.mFr ok hO1 hM1 hA fr2
    have q35 := mFr.keep ok hM1 fr2 k35 (Or.inl rfl)
    have q36 := mFr.keep ok hM1 fr2 k36 (Or.inr rfl)
    obtain ⟨I2, F2, hM2, ht2⟩ := hm2.cell
    refine WW.run (pc' := 792) (lv' := [(7, .int v0), (6, .int (nI p)), (5, .int (nI i)), (4, .ref od), (3, .ref ou), (2, .ref m), (1, .ref o), (0, .ref (G.2.2.2.1 3))]) (st' := [.ref m]) 2 rfl ?_
    refine WW.callV [] m [] rfl mX0_149 (sM_thrown hM2) (wdRecv.obj hM2.1 rfl) rfl rfl (wd_le rfl) (wd_le rfl) (by omega) (by omega) (fun o w' hq => ?_)
    obtain ⟨rfl, hw9⟩ := hq
    show WW _ _ _ 795 _ [.int (I2 2)] _
    rw [hw9]
    clear hw9 w'
    rw [ht2]
    refine WW.run (pc' := 797) (lv' := [(7, .int v0), (6, .int (nI p)), (5, .int (nI i)), (4, .ref od), (3, .ref ou), (2, .ref m), (1, .ref o), (0, .ref (G.2.2.2.1 3))]) (st' := [.int (nI p), .int (nI p)]) 1 rfl ?_
    refine WW.icmp_eq (tgt := 802) rfl rfl (fun _ => ?_) (fun hno => absurd rfl hno)
    refine WW.run (pc' := 804) (lv' := [(7, .int v0), (6, .int (nI p)), (5, .int (nI i)), (4, .ref od), (3, .ref ou), (2, .ref m), (1, .ref o), (0, .ref (G.2.2.2.1 3))]) (st' := [.int (nI p)]) 1 rfl ?_
    refine WW.if_ne (tgt := 819) rfl rfl (fun _ => ?_) (fun hno => absurd hno (nI_ne0 hp1 (by omega)))
    refine WW.run (pc' := 2455) (lv' := [(7, .int v0), (6, .int (nI p)), (5, .int (nI i)), (4, .ref od), (3, .ref ou), (2, .ref m), (1, .ref o), (0, .ref (G.2.2.2.1 3))]) (st' := []) 1 rfl ?_
    refine WW.pick (lv' := [(5, .int (nI i)), (4, .ref od), (3, .ref ou), (2, .ref m), (1, .ref o), (0, .ref (G.2.2.2.1 3))]) [2, 3, 4, 5, 6, 7] rfl ?_
    exact WW.less (by omega) (by omega) (kk w2 ⟨hO2, hJ0, ⟨_, J, hm2, rfl, rfl, rfl⟩, ⟨_, q35⟩, ⟨_, q36⟩, hA⟩)
  | inr v =>
    obtain ⟨y, rfl⟩ := hr
    obtain ⟨rfl, hf0⟩ := hq
    have hf0 : fL1 0 = y.toInt64 := hf0
    show WW _ _ _ 777 _ [.int (nI 0)] _
    refine WW.ok fun ok => ?_
    replace ok : wdOk G w1 := ok
    refine WW.run (pc' := 785) (lv' := [(6, .int (nI 0)), (5, .int (nI i)), (4, .ref od), (3, .ref ou), (2, .ref m), (1, .ref o), (0, .ref (G.2.2.2.1 3))]) (st' := [.int ((nI i) + (nI 1)), .ref (G.2.2.2.1 3), .ref m]) 6 rfl ?_
    refine WW.scr (i + 1) rfl (wn_add rfl rfl) (by show _ < G.2.2.2.2.2.2.1; omega) hlen ?_
    refine WW.callV [.int (G.2.2.2.2.2.2.2 (i + 1))] m [] rfl mX0_186 (hy w1 t hm1) (wdRecv.obj hM1.1 rfl) rfl rfl (wd_le rfl) (wd_le rfl) (by omega) (by omega) (fun o w2 hq => ?_)
    obtain ⟨rfl, hm2, fr2⟩ := hq
    show WW _ _ _ 789 _ [.int y] _
    have hO2 := isOf.mFr ok hO1 hM1 hA fr2
    have q35 := mFr.keep ok hM1 fr2 k35 (Or.inl rfl)
    have q36 := mFr.keep ok hM1 fr2 k36 (Or.inr rfl)
    obtain ⟨I2, F2, hM2, ht2⟩ := hm2.cell
    refine WW.run (pc' := 792) (lv' := [(7, .int y), (6, .int (nI 0)), (5, .int (nI i)), (4, .ref od), (3, .ref ou), (2, .ref m), (1, .ref o), (0, .ref (G.2.2.2.1 3))]) (st' := [.ref m]) 2 rfl ?_
    refine WW.callV [] m [] rfl mX0_149 (sM_thrown hM2) (wdRecv.obj hM2.1 rfl) rfl rfl (wd_le rfl) (wd_le rfl) (by omega) (by omega) (fun o w' hq => ?_)
    obtain ⟨rfl, hw9⟩ := hq
    show WW _ _ _ 795 _ [.int (I2 2)] _
    rw [hw9]
    clear hw9 w'
    rw [ht2]
    refine WW.run (pc' := 797) (lv' := [(7, .int y), (6, .int (nI 0)), (5, .int (nI i)), (4, .ref od), (3, .ref ou), (2, .ref m), (1, .ref o), (0, .ref (G.2.2.2.1 3))]) (st' := [.int (nI 0), .int (nI 0)]) 1 rfl ?_
    refine WW.icmp_eq (tgt := 802) rfl rfl (fun _ => ?_) (fun hno => absurd rfl hno)
    refine WW.run (pc' := 804) (lv' := [(7, .int y), (6, .int (nI 0)), (5, .int (nI i)), (4, .ref od), (3, .ref ou), (2, .ref m), (1, .ref o), (0, .ref (G.2.2.2.1 3))]) (st' := [.int (nI 0)]) 1 rfl ?_
    refine WW.if_ne (tgt := 819) rfl rfl (fun hno => absurd rfl hno) (fun _ => ?_)
    refine WW.run (pc' := 809) (lv' := [(7, .int y), (6, .int (nI 0)), (5, .int (nI i)), (4, .ref od), (3, .ref ou), (2, .ref m), (1, .ref o), (0, .ref (G.2.2.2.1 3))]) (st' := [.int (nI 0), .ref ou]) 2 rfl ?_
    refine WW.lald rfl q35 one_in ?_
    show WW _ _ _ 810 _ [.long (fL1 0)] _
    rw [hf0]
    refine WW.run (pc' := 813) (lv' := [(7, .int y), (6, .int (nI 0)), (5, .int (nI i)), (4, .ref od), (3, .ref ou), (2, .ref m), (1, .ref o), (0, .ref (G.2.2.2.1 3))]) (st' := [.long y.toInt64, .long y.toInt64]) 2 rfl ?_
    refine WW.lcmp rfl ?_
    rw [lg_cmp_self]
    refine WW.if_eq (tgt := 819) rfl rfl (fun _ => ?_) (fun hno => absurd rfl hno)
    refine WW.run (pc' := 2455) (lv' := [(7, .int y), (6, .int (nI 0)), (5, .int (nI i)), (4, .ref od), (3, .ref ou), (2, .ref m), (1, .ref o), (0, .ref (G.2.2.2.1 3))]) (st' := []) 1 rfl ?_
    refine WW.pick (lv' := [(5, .int (nI i)), (4, .ref od), (3, .ref ou), (2, .ref m), (1, .ref o), (0, .ref (G.2.2.2.1 3))]) [2, 3, 4, 5, 6, 7] rfl ?_
    exact WW.less (by omega) (by omega) (kk w2 ⟨hO2, hJ0, ⟨_, J, hm2, rfl, rfl, rfl⟩, ⟨_, q35⟩, ⟨_, q36⟩, hA⟩)
theorem lK11 (hL : lI G w o hl inp sb m A ou od cur hn hist sv n ic on oc J) (hi : i + 3 < G.2.2.2.2.2.2.1) (hlen : G.2.2.2.2.2.2.1 < 2 ^ 31) (hkc : 40000 ≤ kc) (hks : 200000 ≤ ks) {r : Nat ⊕ Value} {v0 : Int32} (hx : Sp l G MX1_darkHours 8 1 6 [.ref o, .int (G.2.2.2.2.2.2.2 (i + 1))] w (oA G o hl inp sb J cur hn hist sv ic on oc [13] r w)) (hr : rOk 1 r) (hy : ∀ w1 t, isMm w1 m A t J cur hn hist sv n ic on oc → Sp l G MX3_darkHours 6 0 0 [.ref m, .int (G.2.2.2.2.2.2.2 (i + 1))] w1 (mA m A J cur hn hist sv n ic on oc (.int v0) r w1)) (kk : lNx l G mc ms kc ks i o hl inp sb m A ou od cur hn hist sv n ic on oc J) : WW (lX l G mc ms) kc ks 822 (lLV G i o m ou od) [] w := by
  obtain ⟨hO, hJ0, ⟨t, J1, hm, j1, j2, j3⟩, ⟨fL, h35⟩, ⟨fD, h36⟩, hA⟩ := hL
  have hm := hm.j j1.symm j2.symm j3.symm
  refine WW.ok fun ok => ?_
  replace ok : wdOk G w := ok
  refine WW.run (pc' := 828) (lv' := [(5, .int (nI i)), (4, .ref od), (3, .ref ou), (2, .ref m), (1, .ref o), (0, .ref (G.2.2.2.1 3))]) (st' := [.int ((nI i) + (nI 1)), .ref (G.2.2.2.1 3), .ref o]) 5 rfl ?_
  refine WW.scr (i + 1) rfl (wn_add rfl rfl) (by show _ < G.2.2.2.2.2.2.1; omega) hlen ?_
  refine WW.run (pc' := 830) (lv' := [(5, .int (nI i)), (4, .ref od), (3, .ref ou), (2, .ref m), (1, .ref o), (0, .ref (G.2.2.2.1 3))]) (st' := [.ref ou, .int (G.2.2.2.2.2.2.2 (i + 1)), .ref o]) 1 rfl ?_
  refine WW.callSH [.ref o, .int (G.2.2.2.2.2.2.2 (i + 1)), .ref ou] [] rfl mX0_187 (lW_darkHours (G.2.2.2.2.2.2.2 (i + 1)) hO h35 hx hr) rfl rfl (wd_le rfl) (wd_le rfl) (by omega) (by omega) (fun o w1 hq => ?_)
  obtain ⟨l1, hO1, fL1, k35, hq⟩ := hq
  have k36 := l1.2 _ _ _ h36 (Or.inr (Or.inr (Or.inl rfl)))
  have hm1 := hm.lFr hA l1
  obtain ⟨I1, F1, hM1, ht1⟩ := hm1.cell
  cases r with
  | inl p =>
    obtain rfl := hq
    have hp1 : 1 ≤ p := hr.1
    have hpN : p ≤ 1 := hr.2
    show WW _ _ _ 833 _ [.int (nI p)] _
    refine WW.ok fun ok => ?_
    replace ok : wdOk G w1 := ok
    refine WW.run (pc' := 841) (lv' := [(6, .int (nI p)), (5, .int (nI i)), (4, .ref od), (3, .ref ou), (2, .ref m), (1, .ref o), (0, .ref (G.2.2.2.1 3))]) (st' := [.int ((nI i) + (nI 1)), .ref (G.2.2.2.1 3), .ref m]) 6 rfl ?_
    refine WW.scr (i + 1) rfl (wn_add rfl rfl) (by show _ < G.2.2.2.2.2.2.1; omega) hlen ?_
    refine WW.callV [.int (G.2.2.2.2.2.2.2 (i + 1))] m [] rfl mX0_189 (hy w1 t hm1) (wdRecv.obj hM1.1 rfl) rfl rfl (wd_le rfl) (wd_le rfl) (by omega) (by omega) (fun o w2 hq => ?_)
    obtain ⟨rfl, hm2, fr2⟩ := hq
    show WW _ _ _ 845 _ [.int v0] _
    have hO2 := isOf.mFr ok hO1 hM1 hA fr2
    have q35 := mFr.keep ok hM1 fr2 k35 (Or.inl rfl)
    have q36 := mFr.keep ok hM1 fr2 k36 (Or.inr rfl)
    obtain ⟨I2, F2, hM2, ht2⟩ := hm2.cell
    refine WW.run (pc' := 848) (lv' := [(7, .int v0), (6, .int (nI p)), (5, .int (nI i)), (4, .ref od), (3, .ref ou), (2, .ref m), (1, .ref o), (0, .ref (G.2.2.2.1 3))]) (st' := [.ref m]) 2 rfl ?_
    refine WW.callV [] m [] rfl mX0_149 (sM_thrown hM2) (wdRecv.obj hM2.1 rfl) rfl rfl (wd_le rfl) (wd_le rfl) (by omega) (by omega) (fun o w' hq => ?_)
    obtain ⟨rfl, hw9⟩ := hq
    show WW _ _ _ 851 _ [.int (I2 2)] _
    rw [hw9]
    clear hw9 w'
    rw [ht2]
    refine WW.run (pc' := 853) (lv' := [(7, .int v0), (6, .int (nI p)), (5, .int (nI i)), (4, .ref od), (3, .ref ou), (2, .ref m), (1, .ref o), (0, .ref (G.2.2.2.1 3))]) (st' := [.int (nI p), .int (nI p)]) 1 rfl ?_
    refine WW.icmp_eq (tgt := 858) rfl rfl (fun _ => ?_) (fun hno => absurd rfl hno)
    refine WW.run (pc' := 860) (lv' := [(7, .int v0), (6, .int (nI p)), (5, .int (nI i)), (4, .ref od), (3, .ref ou), (2, .ref m), (1, .ref o), (0, .ref (G.2.2.2.1 3))]) (st' := [.int (nI p)]) 1 rfl ?_
    refine WW.if_ne (tgt := 875) rfl rfl (fun _ => ?_) (fun hno => absurd hno (nI_ne0 hp1 (by omega)))
    refine WW.run (pc' := 2455) (lv' := [(7, .int v0), (6, .int (nI p)), (5, .int (nI i)), (4, .ref od), (3, .ref ou), (2, .ref m), (1, .ref o), (0, .ref (G.2.2.2.1 3))]) (st' := []) 1 rfl ?_
    refine WW.pick (lv' := [(5, .int (nI i)), (4, .ref od), (3, .ref ou), (2, .ref m), (1, .ref o), (0, .ref (G.2.2.2.1 3))]) [2, 3, 4, 5, 6, 7] rfl ?_
    exact WW.less (by omega) (by omega) (kk w2 ⟨hO2, hJ0, ⟨_, J, hm2, rfl, rfl, rfl⟩, ⟨_, q35⟩, ⟨_, q36⟩, hA⟩)
  | inr v =>
    obtain ⟨y, rfl⟩ := hr
    obtain ⟨rfl, hf0⟩ := hq
    have hf0 : fL1 0 = y.toInt64 := hf0
    show WW _ _ _ 833 _ [.int (nI 0)] _
    refine WW.ok fun ok => ?_
    replace ok : wdOk G w1 := ok
    refine WW.run (pc' := 841) (lv' := [(6, .int (nI 0)), (5, .int (nI i)), (4, .ref od), (3, .ref ou), (2, .ref m), (1, .ref o), (0, .ref (G.2.2.2.1 3))]) (st' := [.int ((nI i) + (nI 1)), .ref (G.2.2.2.1 3), .ref m]) 6 rfl ?_
    refine WW.scr (i + 1) rfl (wn_add rfl rfl) (by show _ < G.2.2.2.2.2.2.1; omega) hlen ?_
    refine WW.callV [.int (G.2.2.2.2.2.2.2 (i + 1))] m [] rfl mX0_189 (hy w1 t hm1) (wdRecv.obj hM1.1 rfl) rfl rfl (wd_le rfl) (wd_le rfl) (by omega) (by omega) (fun o w2 hq => ?_)
    obtain ⟨rfl, hm2, fr2⟩ := hq
    show WW _ _ _ 845 _ [.int y] _
    have hO2 := isOf.mFr ok hO1 hM1 hA fr2
    have q35 := mFr.keep ok hM1 fr2 k35 (Or.inl rfl)
    have q36 := mFr.keep ok hM1 fr2 k36 (Or.inr rfl)
    obtain ⟨I2, F2, hM2, ht2⟩ := hm2.cell
    refine WW.run (pc' := 848) (lv' := [(7, .int y), (6, .int (nI 0)), (5, .int (nI i)), (4, .ref od), (3, .ref ou), (2, .ref m), (1, .ref o), (0, .ref (G.2.2.2.1 3))]) (st' := [.ref m]) 2 rfl ?_
    refine WW.callV [] m [] rfl mX0_149 (sM_thrown hM2) (wdRecv.obj hM2.1 rfl) rfl rfl (wd_le rfl) (wd_le rfl) (by omega) (by omega) (fun o w' hq => ?_)
    obtain ⟨rfl, hw9⟩ := hq
    show WW _ _ _ 851 _ [.int (I2 2)] _
    rw [hw9]
    clear hw9 w'
    rw [ht2]
    refine WW.run (pc' := 853) (lv' := [(7, .int y), (6, .int (nI 0)), (5, .int (nI i)), (4, .ref od), (3, .ref ou), (2, .ref m), (1, .ref o), (0, .ref (G.2.2.2.1 3))]) (st' := [.int (nI 0), .int (nI 0)]) 1 rfl ?_
    refine WW.icmp_eq (tgt := 858) rfl rfl (fun _ => ?_) (fun hno => absurd rfl hno)
    refine WW.run (pc' := 860) (lv' := [(7, .int y), (6, .int (nI 0)), (5, .int (nI i)), (4, .ref od), (3, .ref ou), (2, .ref m), (1, .ref o), (0, .ref (G.2.2.2.1 3))]) (st' := [.int (nI 0)]) 1 rfl ?_
    refine WW.if_ne (tgt := 875) rfl rfl (fun hno => absurd rfl hno) (fun _ => ?_)
    refine WW.run (pc' := 865) (lv' := [(7, .int y), (6, .int (nI 0)), (5, .int (nI i)), (4, .ref od), (3, .ref ou), (2, .ref m), (1, .ref o), (0, .ref (G.2.2.2.1 3))]) (st' := [.int (nI 0), .ref ou]) 2 rfl ?_
    refine WW.lald rfl q35 one_in ?_
    show WW _ _ _ 866 _ [.long (fL1 0)] _
    rw [hf0]
    refine WW.run (pc' := 869) (lv' := [(7, .int y), (6, .int (nI 0)), (5, .int (nI i)), (4, .ref od), (3, .ref ou), (2, .ref m), (1, .ref o), (0, .ref (G.2.2.2.1 3))]) (st' := [.long y.toInt64, .long y.toInt64]) 2 rfl ?_
    refine WW.lcmp rfl ?_
    rw [lg_cmp_self]
    refine WW.if_eq (tgt := 875) rfl rfl (fun _ => ?_) (fun hno => absurd rfl hno)
    refine WW.run (pc' := 2455) (lv' := [(7, .int y), (6, .int (nI 0)), (5, .int (nI i)), (4, .ref od), (3, .ref ou), (2, .ref m), (1, .ref o), (0, .ref (G.2.2.2.1 3))]) (st' := []) 1 rfl ?_
    refine WW.pick (lv' := [(5, .int (nI i)), (4, .ref od), (3, .ref ou), (2, .ref m), (1, .ref o), (0, .ref (G.2.2.2.1 3))]) [2, 3, 4, 5, 6, 7] rfl ?_
    exact WW.less (by omega) (by omega) (kk w2 ⟨hO2, hJ0, ⟨_, J, hm2, rfl, rfl, rfl⟩, ⟨_, q35⟩, ⟨_, q36⟩, hA⟩)
theorem lK12 (hL : lI G w o hl inp sb m A ou od cur hn hist sv n ic on oc J) (hi : i + 3 < G.2.2.2.2.2.2.1) (hlen : G.2.2.2.2.2.2.1 < 2 ^ 31) (hkc : 40000 ≤ kc) (hks : 200000 ≤ ks) {r : Nat ⊕ Value} {v0 : Int32} (hx : Sp l G MX1_demand 8 2 10 [.ref o, .int (G.2.2.2.2.2.2.2 (i + 1))] w (oA G o hl inp sb J cur hn hist sv ic on oc [13] r w)) (hr : rOk 1 r) (hy : ∀ w1 t, isMm w1 m A t J cur hn hist sv n ic on oc → Sp l G MX3_demand 6 0 0 [.ref m, .int (G.2.2.2.2.2.2.2 (i + 1))] w1 (mA m A J cur hn hist sv n ic on oc (.int v0) r w1)) (kk : lNx l G mc ms kc ks i o hl inp sb m A ou od cur hn hist sv n ic on oc J) : WW (lX l G mc ms) kc ks 878 (lLV G i o m ou od) [] w := by
  obtain ⟨hO, hJ0, ⟨t, J1, hm, j1, j2, j3⟩, ⟨fL, h35⟩, ⟨fD, h36⟩, hA⟩ := hL
  have hm := hm.j j1.symm j2.symm j3.symm
  refine WW.ok fun ok => ?_
  replace ok : wdOk G w := ok
  refine WW.run (pc' := 884) (lv' := [(5, .int (nI i)), (4, .ref od), (3, .ref ou), (2, .ref m), (1, .ref o), (0, .ref (G.2.2.2.1 3))]) (st' := [.int ((nI i) + (nI 1)), .ref (G.2.2.2.1 3), .ref o]) 5 rfl ?_
  refine WW.scr (i + 1) rfl (wn_add rfl rfl) (by show _ < G.2.2.2.2.2.2.1; omega) hlen ?_
  refine WW.run (pc' := 886) (lv' := [(5, .int (nI i)), (4, .ref od), (3, .ref ou), (2, .ref m), (1, .ref o), (0, .ref (G.2.2.2.1 3))]) (st' := [.ref ou, .int (G.2.2.2.2.2.2.2 (i + 1)), .ref o]) 1 rfl ?_
  refine WW.callSH [.ref o, .int (G.2.2.2.2.2.2.2 (i + 1)), .ref ou] [] rfl mX0_190 (lW_demand (G.2.2.2.2.2.2.2 (i + 1)) hO h35 hx hr) rfl rfl (wd_le rfl) (wd_le rfl) (by omega) (by omega) (fun o w1 hq => ?_)
  obtain ⟨l1, hO1, fL1, k35, hq⟩ := hq
  have k36 := l1.2 _ _ _ h36 (Or.inr (Or.inr (Or.inl rfl)))
  have hm1 := hm.lFr hA l1
  obtain ⟨I1, F1, hM1, ht1⟩ := hm1.cell
  cases r with
  | inl p =>
    obtain rfl := hq
    have hp1 : 1 ≤ p := hr.1
    have hpN : p ≤ 1 := hr.2
    show WW _ _ _ 889 _ [.int (nI p)] _
    refine WW.ok fun ok => ?_
    replace ok : wdOk G w1 := ok
    refine WW.run (pc' := 897) (lv' := [(6, .int (nI p)), (5, .int (nI i)), (4, .ref od), (3, .ref ou), (2, .ref m), (1, .ref o), (0, .ref (G.2.2.2.1 3))]) (st' := [.int ((nI i) + (nI 1)), .ref (G.2.2.2.1 3), .ref m]) 6 rfl ?_
    refine WW.scr (i + 1) rfl (wn_add rfl rfl) (by show _ < G.2.2.2.2.2.2.1; omega) hlen ?_
    refine WW.callV [.int (G.2.2.2.2.2.2.2 (i + 1))] m [] rfl mX0_192 (hy w1 t hm1) (wdRecv.obj hM1.1 rfl) rfl rfl (wd_le rfl) (wd_le rfl) (by omega) (by omega) (fun o w2 hq => ?_)
    obtain ⟨rfl, hm2, fr2⟩ := hq
    show WW _ _ _ 901 _ [.int v0] _
    have hO2 := isOf.mFr ok hO1 hM1 hA fr2
    have q35 := mFr.keep ok hM1 fr2 k35 (Or.inl rfl)
    have q36 := mFr.keep ok hM1 fr2 k36 (Or.inr rfl)
    obtain ⟨I2, F2, hM2, ht2⟩ := hm2.cell
    refine WW.run (pc' := 904) (lv' := [(7, .int v0), (6, .int (nI p)), (5, .int (nI i)), (4, .ref od), (3, .ref ou), (2, .ref m), (1, .ref o), (0, .ref (G.2.2.2.1 3))]) (st' := [.ref m]) 2 rfl ?_
    refine WW.callV [] m [] rfl mX0_149 (sM_thrown hM2) (wdRecv.obj hM2.1 rfl) rfl rfl (wd_le rfl) (wd_le rfl) (by omega) (by omega) (fun o w' hq => ?_)
    obtain ⟨rfl, hw9⟩ := hq
    show WW _ _ _ 907 _ [.int (I2 2)] _
    rw [hw9]
    clear hw9 w'
    rw [ht2]
    refine WW.run (pc' := 909) (lv' := [(7, .int v0), (6, .int (nI p)), (5, .int (nI i)), (4, .ref od), (3, .ref ou), (2, .ref m), (1, .ref o), (0, .ref (G.2.2.2.1 3))]) (st' := [.int (nI p), .int (nI p)]) 1 rfl ?_
    refine WW.icmp_eq (tgt := 914) rfl rfl (fun _ => ?_) (fun hno => absurd rfl hno)
    refine WW.run (pc' := 916) (lv' := [(7, .int v0), (6, .int (nI p)), (5, .int (nI i)), (4, .ref od), (3, .ref ou), (2, .ref m), (1, .ref o), (0, .ref (G.2.2.2.1 3))]) (st' := [.int (nI p)]) 1 rfl ?_
    refine WW.if_ne (tgt := 931) rfl rfl (fun _ => ?_) (fun hno => absurd hno (nI_ne0 hp1 (by omega)))
    refine WW.run (pc' := 2455) (lv' := [(7, .int v0), (6, .int (nI p)), (5, .int (nI i)), (4, .ref od), (3, .ref ou), (2, .ref m), (1, .ref o), (0, .ref (G.2.2.2.1 3))]) (st' := []) 1 rfl ?_
    refine WW.pick (lv' := [(5, .int (nI i)), (4, .ref od), (3, .ref ou), (2, .ref m), (1, .ref o), (0, .ref (G.2.2.2.1 3))]) [2, 3, 4, 5, 6, 7] rfl ?_
    exact WW.less (by omega) (by omega) (kk w2 ⟨hO2, hJ0, ⟨_, J, hm2, rfl, rfl, rfl⟩, ⟨_, q35⟩, ⟨_, q36⟩, hA⟩)
  | inr v =>
    obtain ⟨y, rfl⟩ := hr
    obtain ⟨rfl, hf0⟩ := hq
    have hf0 : fL1 0 = y.toInt64 := hf0
    show WW _ _ _ 889 _ [.int (nI 0)] _
    refine WW.ok fun ok => ?_
    replace ok : wdOk G w1 := ok
    refine WW.run (pc' := 897) (lv' := [(6, .int (nI 0)), (5, .int (nI i)), (4, .ref od), (3, .ref ou), (2, .ref m), (1, .ref o), (0, .ref (G.2.2.2.1 3))]) (st' := [.int ((nI i) + (nI 1)), .ref (G.2.2.2.1 3), .ref m]) 6 rfl ?_
    refine WW.scr (i + 1) rfl (wn_add rfl rfl) (by show _ < G.2.2.2.2.2.2.1; omega) hlen ?_
    refine WW.callV [.int (G.2.2.2.2.2.2.2 (i + 1))] m [] rfl mX0_192 (hy w1 t hm1) (wdRecv.obj hM1.1 rfl) rfl rfl (wd_le rfl) (wd_le rfl) (by omega) (by omega) (fun o w2 hq => ?_)
    obtain ⟨rfl, hm2, fr2⟩ := hq
    show WW _ _ _ 901 _ [.int y] _
    have hO2 := isOf.mFr ok hO1 hM1 hA fr2
    have q35 := mFr.keep ok hM1 fr2 k35 (Or.inl rfl)
    have q36 := mFr.keep ok hM1 fr2 k36 (Or.inr rfl)
    obtain ⟨I2, F2, hM2, ht2⟩ := hm2.cell
    refine WW.run (pc' := 904) (lv' := [(7, .int y), (6, .int (nI 0)), (5, .int (nI i)), (4, .ref od), (3, .ref ou), (2, .ref m), (1, .ref o), (0, .ref (G.2.2.2.1 3))]) (st' := [.ref m]) 2 rfl ?_
    refine WW.callV [] m [] rfl mX0_149 (sM_thrown hM2) (wdRecv.obj hM2.1 rfl) rfl rfl (wd_le rfl) (wd_le rfl) (by omega) (by omega) (fun o w' hq => ?_)
    obtain ⟨rfl, hw9⟩ := hq
    show WW _ _ _ 907 _ [.int (I2 2)] _
    rw [hw9]
    clear hw9 w'
    rw [ht2]
    refine WW.run (pc' := 909) (lv' := [(7, .int y), (6, .int (nI 0)), (5, .int (nI i)), (4, .ref od), (3, .ref ou), (2, .ref m), (1, .ref o), (0, .ref (G.2.2.2.1 3))]) (st' := [.int (nI 0), .int (nI 0)]) 1 rfl ?_
    refine WW.icmp_eq (tgt := 914) rfl rfl (fun _ => ?_) (fun hno => absurd rfl hno)
    refine WW.run (pc' := 916) (lv' := [(7, .int y), (6, .int (nI 0)), (5, .int (nI i)), (4, .ref od), (3, .ref ou), (2, .ref m), (1, .ref o), (0, .ref (G.2.2.2.1 3))]) (st' := [.int (nI 0)]) 1 rfl ?_
    refine WW.if_ne (tgt := 931) rfl rfl (fun hno => absurd rfl hno) (fun _ => ?_)
    refine WW.run (pc' := 921) (lv' := [(7, .int y), (6, .int (nI 0)), (5, .int (nI i)), (4, .ref od), (3, .ref ou), (2, .ref m), (1, .ref o), (0, .ref (G.2.2.2.1 3))]) (st' := [.int (nI 0), .ref ou]) 2 rfl ?_
    refine WW.lald rfl q35 one_in ?_
    show WW _ _ _ 922 _ [.long (fL1 0)] _
    rw [hf0]
    refine WW.run (pc' := 925) (lv' := [(7, .int y), (6, .int (nI 0)), (5, .int (nI i)), (4, .ref od), (3, .ref ou), (2, .ref m), (1, .ref o), (0, .ref (G.2.2.2.1 3))]) (st' := [.long y.toInt64, .long y.toInt64]) 2 rfl ?_
    refine WW.lcmp rfl ?_
    rw [lg_cmp_self]
    refine WW.if_eq (tgt := 931) rfl rfl (fun _ => ?_) (fun hno => absurd rfl hno)
    refine WW.run (pc' := 2455) (lv' := [(7, .int y), (6, .int (nI 0)), (5, .int (nI i)), (4, .ref od), (3, .ref ou), (2, .ref m), (1, .ref o), (0, .ref (G.2.2.2.1 3))]) (st' := []) 1 rfl ?_
    refine WW.pick (lv' := [(5, .int (nI i)), (4, .ref od), (3, .ref ou), (2, .ref m), (1, .ref o), (0, .ref (G.2.2.2.1 3))]) [2, 3, 4, 5, 6, 7] rfl ?_
    exact WW.less (by omega) (by omega) (kk w2 ⟨hO2, hJ0, ⟨_, J, hm2, rfl, rfl, rfl⟩, ⟨_, q35⟩, ⟨_, q36⟩, hA⟩)
theorem lK13 (hL : lI G w o hl inp sb m A ou od cur hn hist sv n ic on oc J) (hi : i + 3 < G.2.2.2.2.2.2.1) (hlen : G.2.2.2.2.2.2.1 < 2 ^ 31) (hkc : 40000 ≤ kc) (hks : 200000 ≤ ks) {r : Nat ⊕ Value} {v0 : Int32} (hx : Sp l G MX1_leasesOf 8 2 10 [.ref o, .int (G.2.2.2.2.2.2.2 (i + 1))] w (oA G o hl inp sb J cur hn hist sv ic on oc [13] r w)) (hr : rOk 1 r) (hy : ∀ w1 t, isMm w1 m A t J cur hn hist sv n ic on oc → Sp l G MX3_leasesOf 6 0 0 [.ref m, .int (G.2.2.2.2.2.2.2 (i + 1))] w1 (mA m A J cur hn hist sv n ic on oc (.int v0) r w1)) (kk : lNx l G mc ms kc ks i o hl inp sb m A ou od cur hn hist sv n ic on oc J) : WW (lX l G mc ms) kc ks 934 (lLV G i o m ou od) [] w := by
  obtain ⟨hO, hJ0, ⟨t, J1, hm, j1, j2, j3⟩, ⟨fL, h35⟩, ⟨fD, h36⟩, hA⟩ := hL
  have hm := hm.j j1.symm j2.symm j3.symm
  refine WW.ok fun ok => ?_
  replace ok : wdOk G w := ok
  refine WW.run (pc' := 940) (lv' := [(5, .int (nI i)), (4, .ref od), (3, .ref ou), (2, .ref m), (1, .ref o), (0, .ref (G.2.2.2.1 3))]) (st' := [.int ((nI i) + (nI 1)), .ref (G.2.2.2.1 3), .ref o]) 5 rfl ?_
  refine WW.scr (i + 1) rfl (wn_add rfl rfl) (by show _ < G.2.2.2.2.2.2.1; omega) hlen ?_
  refine WW.run (pc' := 942) (lv' := [(5, .int (nI i)), (4, .ref od), (3, .ref ou), (2, .ref m), (1, .ref o), (0, .ref (G.2.2.2.1 3))]) (st' := [.ref ou, .int (G.2.2.2.2.2.2.2 (i + 1)), .ref o]) 1 rfl ?_
  refine WW.callSH [.ref o, .int (G.2.2.2.2.2.2.2 (i + 1)), .ref ou] [] rfl mX0_193 (lW_leasesOf (G.2.2.2.2.2.2.2 (i + 1)) hO h35 hx hr) rfl rfl (wd_le rfl) (wd_le rfl) (by omega) (by omega) (fun o w1 hq => ?_)
  obtain ⟨l1, hO1, fL1, k35, hq⟩ := hq
  have k36 := l1.2 _ _ _ h36 (Or.inr (Or.inr (Or.inl rfl)))
  have hm1 := hm.lFr hA l1
  obtain ⟨I1, F1, hM1, ht1⟩ := hm1.cell
  cases r with
  | inl p =>
    obtain rfl := hq
    have hp1 : 1 ≤ p := hr.1
    have hpN : p ≤ 1 := hr.2
    show WW _ _ _ 945 _ [.int (nI p)] _
    refine WW.ok fun ok => ?_
    replace ok : wdOk G w1 := ok
    refine WW.run (pc' := 953) (lv' := [(6, .int (nI p)), (5, .int (nI i)), (4, .ref od), (3, .ref ou), (2, .ref m), (1, .ref o), (0, .ref (G.2.2.2.1 3))]) (st' := [.int ((nI i) + (nI 1)), .ref (G.2.2.2.1 3), .ref m]) 6 rfl ?_
    refine WW.scr (i + 1) rfl (wn_add rfl rfl) (by show _ < G.2.2.2.2.2.2.1; omega) hlen ?_
    refine WW.callV [.int (G.2.2.2.2.2.2.2 (i + 1))] m [] rfl mX0_195 (hy w1 t hm1) (wdRecv.obj hM1.1 rfl) rfl rfl (wd_le rfl) (wd_le rfl) (by omega) (by omega) (fun o w2 hq => ?_)
    obtain ⟨rfl, hm2, fr2⟩ := hq
    show WW _ _ _ 957 _ [.int v0] _
    have hO2 := isOf.mFr ok hO1 hM1 hA fr2
    have q35 := mFr.keep ok hM1 fr2 k35 (Or.inl rfl)
    have q36 := mFr.keep ok hM1 fr2 k36 (Or.inr rfl)
    obtain ⟨I2, F2, hM2, ht2⟩ := hm2.cell
    refine WW.run (pc' := 960) (lv' := [(7, .int v0), (6, .int (nI p)), (5, .int (nI i)), (4, .ref od), (3, .ref ou), (2, .ref m), (1, .ref o), (0, .ref (G.2.2.2.1 3))]) (st' := [.ref m]) 2 rfl ?_
    refine WW.callV [] m [] rfl mX0_149 (sM_thrown hM2) (wdRecv.obj hM2.1 rfl) rfl rfl (wd_le rfl) (wd_le rfl) (by omega) (by omega) (fun o w' hq => ?_)
    obtain ⟨rfl, hw9⟩ := hq
    show WW _ _ _ 963 _ [.int (I2 2)] _
    rw [hw9]
    clear hw9 w'
    rw [ht2]
    refine WW.run (pc' := 965) (lv' := [(7, .int v0), (6, .int (nI p)), (5, .int (nI i)), (4, .ref od), (3, .ref ou), (2, .ref m), (1, .ref o), (0, .ref (G.2.2.2.1 3))]) (st' := [.int (nI p), .int (nI p)]) 1 rfl ?_
    refine WW.icmp_eq (tgt := 970) rfl rfl (fun _ => ?_) (fun hno => absurd rfl hno)
    refine WW.run (pc' := 972) (lv' := [(7, .int v0), (6, .int (nI p)), (5, .int (nI i)), (4, .ref od), (3, .ref ou), (2, .ref m), (1, .ref o), (0, .ref (G.2.2.2.1 3))]) (st' := [.int (nI p)]) 1 rfl ?_
    refine WW.if_ne (tgt := 987) rfl rfl (fun _ => ?_) (fun hno => absurd hno (nI_ne0 hp1 (by omega)))
    refine WW.run (pc' := 2455) (lv' := [(7, .int v0), (6, .int (nI p)), (5, .int (nI i)), (4, .ref od), (3, .ref ou), (2, .ref m), (1, .ref o), (0, .ref (G.2.2.2.1 3))]) (st' := []) 1 rfl ?_
    refine WW.pick (lv' := [(5, .int (nI i)), (4, .ref od), (3, .ref ou), (2, .ref m), (1, .ref o), (0, .ref (G.2.2.2.1 3))]) [2, 3, 4, 5, 6, 7] rfl ?_
    exact WW.less (by omega) (by omega) (kk w2 ⟨hO2, hJ0, ⟨_, J, hm2, rfl, rfl, rfl⟩, ⟨_, q35⟩, ⟨_, q36⟩, hA⟩)
  | inr v =>
    obtain ⟨y, rfl⟩ := hr
    obtain ⟨rfl, hf0⟩ := hq
    have hf0 : fL1 0 = y.toInt64 := hf0
    show WW _ _ _ 945 _ [.int (nI 0)] _
    refine WW.ok fun ok => ?_
    replace ok : wdOk G w1 := ok
    refine WW.run (pc' := 953) (lv' := [(6, .int (nI 0)), (5, .int (nI i)), (4, .ref od), (3, .ref ou), (2, .ref m), (1, .ref o), (0, .ref (G.2.2.2.1 3))]) (st' := [.int ((nI i) + (nI 1)), .ref (G.2.2.2.1 3), .ref m]) 6 rfl ?_
    refine WW.scr (i + 1) rfl (wn_add rfl rfl) (by show _ < G.2.2.2.2.2.2.1; omega) hlen ?_
    refine WW.callV [.int (G.2.2.2.2.2.2.2 (i + 1))] m [] rfl mX0_195 (hy w1 t hm1) (wdRecv.obj hM1.1 rfl) rfl rfl (wd_le rfl) (wd_le rfl) (by omega) (by omega) (fun o w2 hq => ?_)
    obtain ⟨rfl, hm2, fr2⟩ := hq
    show WW _ _ _ 957 _ [.int y] _
    have hO2 := isOf.mFr ok hO1 hM1 hA fr2
    have q35 := mFr.keep ok hM1 fr2 k35 (Or.inl rfl)
    have q36 := mFr.keep ok hM1 fr2 k36 (Or.inr rfl)
    obtain ⟨I2, F2, hM2, ht2⟩ := hm2.cell
    refine WW.run (pc' := 960) (lv' := [(7, .int y), (6, .int (nI 0)), (5, .int (nI i)), (4, .ref od), (3, .ref ou), (2, .ref m), (1, .ref o), (0, .ref (G.2.2.2.1 3))]) (st' := [.ref m]) 2 rfl ?_
    refine WW.callV [] m [] rfl mX0_149 (sM_thrown hM2) (wdRecv.obj hM2.1 rfl) rfl rfl (wd_le rfl) (wd_le rfl) (by omega) (by omega) (fun o w' hq => ?_)
    obtain ⟨rfl, hw9⟩ := hq
    show WW _ _ _ 963 _ [.int (I2 2)] _
    rw [hw9]
    clear hw9 w'
    rw [ht2]
    refine WW.run (pc' := 965) (lv' := [(7, .int y), (6, .int (nI 0)), (5, .int (nI i)), (4, .ref od), (3, .ref ou), (2, .ref m), (1, .ref o), (0, .ref (G.2.2.2.1 3))]) (st' := [.int (nI 0), .int (nI 0)]) 1 rfl ?_
    refine WW.icmp_eq (tgt := 970) rfl rfl (fun _ => ?_) (fun hno => absurd rfl hno)
    refine WW.run (pc' := 972) (lv' := [(7, .int y), (6, .int (nI 0)), (5, .int (nI i)), (4, .ref od), (3, .ref ou), (2, .ref m), (1, .ref o), (0, .ref (G.2.2.2.1 3))]) (st' := [.int (nI 0)]) 1 rfl ?_
    refine WW.if_ne (tgt := 987) rfl rfl (fun hno => absurd rfl hno) (fun _ => ?_)
    refine WW.run (pc' := 977) (lv' := [(7, .int y), (6, .int (nI 0)), (5, .int (nI i)), (4, .ref od), (3, .ref ou), (2, .ref m), (1, .ref o), (0, .ref (G.2.2.2.1 3))]) (st' := [.int (nI 0), .ref ou]) 2 rfl ?_
    refine WW.lald rfl q35 one_in ?_
    show WW _ _ _ 978 _ [.long (fL1 0)] _
    rw [hf0]
    refine WW.run (pc' := 981) (lv' := [(7, .int y), (6, .int (nI 0)), (5, .int (nI i)), (4, .ref od), (3, .ref ou), (2, .ref m), (1, .ref o), (0, .ref (G.2.2.2.1 3))]) (st' := [.long y.toInt64, .long y.toInt64]) 2 rfl ?_
    refine WW.lcmp rfl ?_
    rw [lg_cmp_self]
    refine WW.if_eq (tgt := 987) rfl rfl (fun _ => ?_) (fun hno => absurd rfl hno)
    refine WW.run (pc' := 2455) (lv' := [(7, .int y), (6, .int (nI 0)), (5, .int (nI i)), (4, .ref od), (3, .ref ou), (2, .ref m), (1, .ref o), (0, .ref (G.2.2.2.1 3))]) (st' := []) 1 rfl ?_
    refine WW.pick (lv' := [(5, .int (nI i)), (4, .ref od), (3, .ref ou), (2, .ref m), (1, .ref o), (0, .ref (G.2.2.2.1 3))]) [2, 3, 4, 5, 6, 7] rfl ?_
    exact WW.less (by omega) (by omega) (kk w2 ⟨hO2, hJ0, ⟨_, J, hm2, rfl, rfl, rfl⟩, ⟨_, q35⟩, ⟨_, q36⟩, hA⟩)
theorem lK14 (hL : lI G w o hl inp sb m A ou od cur hn hist sv n ic on oc J) (hi : i + 3 < G.2.2.2.2.2.2.1) (hlen : G.2.2.2.2.2.2.1 < 2 ^ 31) (hkc : 40000 ≤ kc) (hks : 200000 ≤ ks) {y v0 : Int32} (hx : Sp l G MX1_lampCount 1 0 0 [.ref o] w (oA G o hl inp sb J cur hn hist sv ic on oc [] (.inr (.int y)) w)) (hy : ∀ w1 t, isMm w1 m A t J cur hn hist sv n ic on oc → Sp l G MX3_lampCount 6 0 0 [.ref m] w1 (mA m A J cur hn hist sv n ic on oc (.int v0) (.inr (.int y)) w1)) (kk : lNx l G mc ms kc ks i o hl inp sb m A ou od cur hn hist sv n ic on oc J) : WW (lX l G mc ms) kc ks 990 (lLV G i o m ou od) [] w := by
  obtain ⟨hO, hJ0, ⟨t, J1, hm, j1, j2, j3⟩, ⟨fL, h35⟩, ⟨fD, h36⟩, hA⟩ := hL
  have hm := hm.j j1.symm j2.symm j3.symm
  refine WW.ok fun ok => ?_
  replace ok : wdOk G w := ok
  obtain ⟨fs, hc⟩ := hO.cell
  refine WW.run (pc' := 991) (lv' := [(5, .int (nI i)), (4, .ref od), (3, .ref ou), (2, .ref m), (1, .ref o), (0, .ref (G.2.2.2.1 3))]) (st' := [.ref o]) 1 rfl ?_
  refine WW.callV [] o [] rfl mX0_196 hx (wdRecv.obj hc rfl) rfl rfl (wd_le rfl) (wd_le rfl) (by omega) (by omega) (fun o w1 hq => ?_)
  obtain ⟨f1, hO1, rfl⟩ := hq
  have l1 : lFr inp 35 w w1 := lFr.of (Or.inl rfl) f1
  have k35 := f1.2 _ _ _ h35 (Or.inr (Or.inr (Or.inl rfl)))
  have k36 := f1.2 _ _ _ h36 (Or.inr (Or.inr (Or.inr (Or.inl rfl))))
  have hm1 := hm.lFr hA l1
  obtain ⟨I1, F1, hM1, ht1⟩ := hm1.cell
  show WW _ _ _ 994 _ [.int y] _
  refine WW.ok fun ok => ?_
  replace ok : wdOk G w1 := ok
  refine WW.run (pc' := 995) (lv' := [(5, .int (nI i)), (4, .ref od), (3, .ref ou), (2, .ref m), (1, .ref o), (0, .ref (G.2.2.2.1 3))]) (st' := [.ref m, .int y]) 1 rfl ?_
  refine WW.callV [] m [.int y] rfl mX0_199 (hy w1 t hm1) (wdRecv.obj hM1.1 rfl) rfl rfl (wd_le rfl) (wd_le rfl) (by omega) (by omega) (fun o w2 hq => ?_)
  obtain ⟨rfl, hm2, fr2⟩ := hq
  show WW _ _ _ 998 _ [.int y, .int y] _
  have hO2 := isOf.mFr ok hO1 hM1 hA fr2
  have q35 := mFr.keep ok hM1 fr2 k35 (Or.inl rfl)
  have q36 := mFr.keep ok hM1 fr2 k36 (Or.inr rfl)
  refine WW.icmp_eq (tgt := 2455) rfl rfl (fun _ => ?_) (fun hno => absurd rfl hno)
  exact WW.less (by omega) (by omega) (kk w2 ⟨hO2, hJ0, ⟨_, J, hm2, rfl, rfl, rfl⟩, ⟨_, q35⟩, ⟨_, q36⟩, hA⟩)
theorem lK15 (hL : lI G w o hl inp sb m A ou od cur hn hist sv n ic on oc J) (hi : i + 3 < G.2.2.2.2.2.2.1) (hlen : G.2.2.2.2.2.2.1 < 2 ^ 31) (hkc : 40000 ≤ kc) (hks : 200000 ≤ ks) {r : Nat ⊕ Value} {v0 : Int32} (hx : Sp l G MX1_level 8 1 6 [.ref o, .int (G.2.2.2.2.2.2.2 (i + 1))] w (oA G o hl inp sb J cur hn hist sv ic on oc [13] r w)) (hr : rOk 1 r) (hy : ∀ w1 t, isMm w1 m A t J cur hn hist sv n ic on oc → Sp l G MX3_level 6 0 0 [.ref m, .int (G.2.2.2.2.2.2.2 (i + 1))] w1 (mA m A J cur hn hist sv n ic on oc (.int v0) r w1)) (kk : lNx l G mc ms kc ks i o hl inp sb m A ou od cur hn hist sv n ic on oc J) : WW (lX l G mc ms) kc ks 1003 (lLV G i o m ou od) [] w := by
  obtain ⟨hO, hJ0, ⟨t, J1, hm, j1, j2, j3⟩, ⟨fL, h35⟩, ⟨fD, h36⟩, hA⟩ := hL
  have hm := hm.j j1.symm j2.symm j3.symm
  refine WW.ok fun ok => ?_
  replace ok : wdOk G w := ok
  refine WW.run (pc' := 1009) (lv' := [(5, .int (nI i)), (4, .ref od), (3, .ref ou), (2, .ref m), (1, .ref o), (0, .ref (G.2.2.2.1 3))]) (st' := [.int ((nI i) + (nI 1)), .ref (G.2.2.2.1 3), .ref o]) 5 rfl ?_
  refine WW.scr (i + 1) rfl (wn_add rfl rfl) (by show _ < G.2.2.2.2.2.2.1; omega) hlen ?_
  refine WW.run (pc' := 1011) (lv' := [(5, .int (nI i)), (4, .ref od), (3, .ref ou), (2, .ref m), (1, .ref o), (0, .ref (G.2.2.2.1 3))]) (st' := [.ref ou, .int (G.2.2.2.2.2.2.2 (i + 1)), .ref o]) 1 rfl ?_
  refine WW.callSH [.ref o, .int (G.2.2.2.2.2.2.2 (i + 1)), .ref ou] [] rfl mX0_200 (lW_level (G.2.2.2.2.2.2.2 (i + 1)) hO h35 hx hr) rfl rfl (wd_le rfl) (wd_le rfl) (by omega) (by omega) (fun o w1 hq => ?_)
  obtain ⟨l1, hO1, fL1, k35, hq⟩ := hq
  have k36 := l1.2 _ _ _ h36 (Or.inr (Or.inr (Or.inl rfl)))
  have hm1 := hm.lFr hA l1
  obtain ⟨I1, F1, hM1, ht1⟩ := hm1.cell
  cases r with
  | inl p =>
    obtain rfl := hq
    have hp1 : 1 ≤ p := hr.1
    have hpN : p ≤ 1 := hr.2
    show WW _ _ _ 1014 _ [.int (nI p)] _
    refine WW.ok fun ok => ?_
    replace ok : wdOk G w1 := ok
    refine WW.run (pc' := 1022) (lv' := [(6, .int (nI p)), (5, .int (nI i)), (4, .ref od), (3, .ref ou), (2, .ref m), (1, .ref o), (0, .ref (G.2.2.2.1 3))]) (st' := [.int ((nI i) + (nI 1)), .ref (G.2.2.2.1 3), .ref m]) 6 rfl ?_
    refine WW.scr (i + 1) rfl (wn_add rfl rfl) (by show _ < G.2.2.2.2.2.2.1; omega) hlen ?_
    refine WW.callV [.int (G.2.2.2.2.2.2.2 (i + 1))] m [] rfl mX0_202 (hy w1 t hm1) (wdRecv.obj hM1.1 rfl) rfl rfl (wd_le rfl) (wd_le rfl) (by omega) (by omega) (fun o w2 hq => ?_)
    obtain ⟨rfl, hm2, fr2⟩ := hq
    show WW _ _ _ 1026 _ [.int v0] _
    have hO2 := isOf.mFr ok hO1 hM1 hA fr2
    have q35 := mFr.keep ok hM1 fr2 k35 (Or.inl rfl)
    have q36 := mFr.keep ok hM1 fr2 k36 (Or.inr rfl)
    obtain ⟨I2, F2, hM2, ht2⟩ := hm2.cell
    refine WW.run (pc' := 1029) (lv' := [(7, .int v0), (6, .int (nI p)), (5, .int (nI i)), (4, .ref od), (3, .ref ou), (2, .ref m), (1, .ref o), (0, .ref (G.2.2.2.1 3))]) (st' := [.ref m]) 2 rfl ?_
    refine WW.callV [] m [] rfl mX0_149 (sM_thrown hM2) (wdRecv.obj hM2.1 rfl) rfl rfl (wd_le rfl) (wd_le rfl) (by omega) (by omega) (fun o w' hq => ?_)
    obtain ⟨rfl, hw9⟩ := hq
    show WW _ _ _ 1032 _ [.int (I2 2)] _
    rw [hw9]
    clear hw9 w'
    rw [ht2]
    refine WW.run (pc' := 1034) (lv' := [(7, .int v0), (6, .int (nI p)), (5, .int (nI i)), (4, .ref od), (3, .ref ou), (2, .ref m), (1, .ref o), (0, .ref (G.2.2.2.1 3))]) (st' := [.int (nI p), .int (nI p)]) 1 rfl ?_
    refine WW.icmp_eq (tgt := 1039) rfl rfl (fun _ => ?_) (fun hno => absurd rfl hno)
    refine WW.run (pc' := 1041) (lv' := [(7, .int v0), (6, .int (nI p)), (5, .int (nI i)), (4, .ref od), (3, .ref ou), (2, .ref m), (1, .ref o), (0, .ref (G.2.2.2.1 3))]) (st' := [.int (nI p)]) 1 rfl ?_
    refine WW.if_ne (tgt := 1056) rfl rfl (fun _ => ?_) (fun hno => absurd hno (nI_ne0 hp1 (by omega)))
    refine WW.run (pc' := 2455) (lv' := [(7, .int v0), (6, .int (nI p)), (5, .int (nI i)), (4, .ref od), (3, .ref ou), (2, .ref m), (1, .ref o), (0, .ref (G.2.2.2.1 3))]) (st' := []) 1 rfl ?_
    refine WW.pick (lv' := [(5, .int (nI i)), (4, .ref od), (3, .ref ou), (2, .ref m), (1, .ref o), (0, .ref (G.2.2.2.1 3))]) [2, 3, 4, 5, 6, 7] rfl ?_
    exact WW.less (by omega) (by omega) (kk w2 ⟨hO2, hJ0, ⟨_, J, hm2, rfl, rfl, rfl⟩, ⟨_, q35⟩, ⟨_, q36⟩, hA⟩)
  | inr v =>
    obtain ⟨y, rfl⟩ := hr
    obtain ⟨rfl, hf0⟩ := hq
    have hf0 : fL1 0 = y.toInt64 := hf0
    show WW _ _ _ 1014 _ [.int (nI 0)] _
    refine WW.ok fun ok => ?_
    replace ok : wdOk G w1 := ok
    refine WW.run (pc' := 1022) (lv' := [(6, .int (nI 0)), (5, .int (nI i)), (4, .ref od), (3, .ref ou), (2, .ref m), (1, .ref o), (0, .ref (G.2.2.2.1 3))]) (st' := [.int ((nI i) + (nI 1)), .ref (G.2.2.2.1 3), .ref m]) 6 rfl ?_
    refine WW.scr (i + 1) rfl (wn_add rfl rfl) (by show _ < G.2.2.2.2.2.2.1; omega) hlen ?_
    refine WW.callV [.int (G.2.2.2.2.2.2.2 (i + 1))] m [] rfl mX0_202 (hy w1 t hm1) (wdRecv.obj hM1.1 rfl) rfl rfl (wd_le rfl) (wd_le rfl) (by omega) (by omega) (fun o w2 hq => ?_)
    obtain ⟨rfl, hm2, fr2⟩ := hq
    show WW _ _ _ 1026 _ [.int y] _
    have hO2 := isOf.mFr ok hO1 hM1 hA fr2
    have q35 := mFr.keep ok hM1 fr2 k35 (Or.inl rfl)
    have q36 := mFr.keep ok hM1 fr2 k36 (Or.inr rfl)
    obtain ⟨I2, F2, hM2, ht2⟩ := hm2.cell
    refine WW.run (pc' := 1029) (lv' := [(7, .int y), (6, .int (nI 0)), (5, .int (nI i)), (4, .ref od), (3, .ref ou), (2, .ref m), (1, .ref o), (0, .ref (G.2.2.2.1 3))]) (st' := [.ref m]) 2 rfl ?_
    refine WW.callV [] m [] rfl mX0_149 (sM_thrown hM2) (wdRecv.obj hM2.1 rfl) rfl rfl (wd_le rfl) (wd_le rfl) (by omega) (by omega) (fun o w' hq => ?_)
    obtain ⟨rfl, hw9⟩ := hq
    show WW _ _ _ 1032 _ [.int (I2 2)] _
    rw [hw9]
    clear hw9 w'
    rw [ht2]
    refine WW.run (pc' := 1034) (lv' := [(7, .int y), (6, .int (nI 0)), (5, .int (nI i)), (4, .ref od), (3, .ref ou), (2, .ref m), (1, .ref o), (0, .ref (G.2.2.2.1 3))]) (st' := [.int (nI 0), .int (nI 0)]) 1 rfl ?_
    refine WW.icmp_eq (tgt := 1039) rfl rfl (fun _ => ?_) (fun hno => absurd rfl hno)
    refine WW.run (pc' := 1041) (lv' := [(7, .int y), (6, .int (nI 0)), (5, .int (nI i)), (4, .ref od), (3, .ref ou), (2, .ref m), (1, .ref o), (0, .ref (G.2.2.2.1 3))]) (st' := [.int (nI 0)]) 1 rfl ?_
    refine WW.if_ne (tgt := 1056) rfl rfl (fun hno => absurd rfl hno) (fun _ => ?_)
    refine WW.run (pc' := 1046) (lv' := [(7, .int y), (6, .int (nI 0)), (5, .int (nI i)), (4, .ref od), (3, .ref ou), (2, .ref m), (1, .ref o), (0, .ref (G.2.2.2.1 3))]) (st' := [.int (nI 0), .ref ou]) 2 rfl ?_
    refine WW.lald rfl q35 one_in ?_
    show WW _ _ _ 1047 _ [.long (fL1 0)] _
    rw [hf0]
    refine WW.run (pc' := 1050) (lv' := [(7, .int y), (6, .int (nI 0)), (5, .int (nI i)), (4, .ref od), (3, .ref ou), (2, .ref m), (1, .ref o), (0, .ref (G.2.2.2.1 3))]) (st' := [.long y.toInt64, .long y.toInt64]) 2 rfl ?_
    refine WW.lcmp rfl ?_
    rw [lg_cmp_self]
    refine WW.if_eq (tgt := 1056) rfl rfl (fun _ => ?_) (fun hno => absurd rfl hno)
    refine WW.run (pc' := 2455) (lv' := [(7, .int y), (6, .int (nI 0)), (5, .int (nI i)), (4, .ref od), (3, .ref ou), (2, .ref m), (1, .ref o), (0, .ref (G.2.2.2.1 3))]) (st' := []) 1 rfl ?_
    refine WW.pick (lv' := [(5, .int (nI i)), (4, .ref od), (3, .ref ou), (2, .ref m), (1, .ref o), (0, .ref (G.2.2.2.1 3))]) [2, 3, 4, 5, 6, 7] rfl ?_
    exact WW.less (by omega) (by omega) (kk w2 ⟨hO2, hJ0, ⟨_, J, hm2, rfl, rfl, rfl⟩, ⟨_, q35⟩, ⟨_, q36⟩, hA⟩)
theorem lK17 (hL : lI G w o hl inp sb m A ou od cur hn hist sv n ic on oc J) (hi : i + 3 < G.2.2.2.2.2.2.1) (hlen : G.2.2.2.2.2.2.1 < 2 ^ 31) (hkc : 40000 ≤ kc) (hks : 200000 ≤ ks) {r : Nat ⊕ Value} {v0 : Int32} (hx : Sp l G MX1_lessee 9 2 12 [.ref o, .int (G.2.2.2.2.2.2.2 (i + 1))] w (oA G o hl inp sb J cur hn hist sv ic on oc [13, 16] r w)) (hr : rOk 2 r) (hy : ∀ w1 t, isMm w1 m A t J cur hn hist sv n ic on oc → Sp l G MX3_lessee 6 0 0 [.ref m, .int (G.2.2.2.2.2.2.2 (i + 1))] w1 (mA m A J cur hn hist sv n ic on oc (.int v0) r w1)) (kk : lNx l G mc ms kc ks i o hl inp sb m A ou od cur hn hist sv n ic on oc J) : WW (lX l G mc ms) kc ks 1122 (lLV G i o m ou od) [] w := by
  obtain ⟨hO, hJ0, ⟨t, J1, hm, j1, j2, j3⟩, ⟨fL, h35⟩, ⟨fD, h36⟩, hA⟩ := hL
  have hm := hm.j j1.symm j2.symm j3.symm
  refine WW.ok fun ok => ?_
  replace ok : wdOk G w := ok
  refine WW.run (pc' := 1128) (lv' := [(5, .int (nI i)), (4, .ref od), (3, .ref ou), (2, .ref m), (1, .ref o), (0, .ref (G.2.2.2.1 3))]) (st' := [.int ((nI i) + (nI 1)), .ref (G.2.2.2.1 3), .ref o]) 5 rfl ?_
  refine WW.scr (i + 1) rfl (wn_add rfl rfl) (by show _ < G.2.2.2.2.2.2.1; omega) hlen ?_
  refine WW.run (pc' := 1130) (lv' := [(5, .int (nI i)), (4, .ref od), (3, .ref ou), (2, .ref m), (1, .ref o), (0, .ref (G.2.2.2.1 3))]) (st' := [.ref ou, .int (G.2.2.2.2.2.2.2 (i + 1)), .ref o]) 1 rfl ?_
  refine WW.callSH [.ref o, .int (G.2.2.2.2.2.2.2 (i + 1)), .ref ou] [] rfl mX0_206 (lW_lessee (G.2.2.2.2.2.2.2 (i + 1)) hO h35 hx hr) rfl rfl (wd_le rfl) (wd_le rfl) (by omega) (by omega) (fun o w1 hq => ?_)
  obtain ⟨l1, hO1, fL1, k35, hq⟩ := hq
  have k36 := l1.2 _ _ _ h36 (Or.inr (Or.inr (Or.inl rfl)))
  have hm1 := hm.lFr hA l1
  obtain ⟨I1, F1, hM1, ht1⟩ := hm1.cell
  cases r with
  | inl p =>
    obtain rfl := hq
    have hp1 : 1 ≤ p := hr.1
    have hpN : p ≤ 2 := hr.2
    show WW _ _ _ 1133 _ [.int (nI p)] _
    refine WW.ok fun ok => ?_
    replace ok : wdOk G w1 := ok
    refine WW.run (pc' := 1141) (lv' := [(6, .int (nI p)), (5, .int (nI i)), (4, .ref od), (3, .ref ou), (2, .ref m), (1, .ref o), (0, .ref (G.2.2.2.1 3))]) (st' := [.int ((nI i) + (nI 1)), .ref (G.2.2.2.1 3), .ref m]) 6 rfl ?_
    refine WW.scr (i + 1) rfl (wn_add rfl rfl) (by show _ < G.2.2.2.2.2.2.1; omega) hlen ?_
    refine WW.callV [.int (G.2.2.2.2.2.2.2 (i + 1))] m [] rfl mX0_208 (hy w1 t hm1) (wdRecv.obj hM1.1 rfl) rfl rfl (wd_le rfl) (wd_le rfl) (by omega) (by omega) (fun o w2 hq => ?_)
    obtain ⟨rfl, hm2, fr2⟩ := hq
    show WW _ _ _ 1145 _ [.int v0] _
    have hO2 := isOf.mFr ok hO1 hM1 hA fr2
    have q35 := mFr.keep ok hM1 fr2 k35 (Or.inl rfl)
    have q36 := mFr.keep ok hM1 fr2 k36 (Or.inr rfl)
    obtain ⟨I2, F2, hM2, ht2⟩ := hm2.cell
    refine WW.run (pc' := 1148) (lv' := [(7, .int v0), (6, .int (nI p)), (5, .int (nI i)), (4, .ref od), (3, .ref ou), (2, .ref m), (1, .ref o), (0, .ref (G.2.2.2.1 3))]) (st' := [.ref m]) 2 rfl ?_
    refine WW.callV [] m [] rfl mX0_149 (sM_thrown hM2) (wdRecv.obj hM2.1 rfl) rfl rfl (wd_le rfl) (wd_le rfl) (by omega) (by omega) (fun o w' hq => ?_)
    obtain ⟨rfl, hw9⟩ := hq
    show WW _ _ _ 1151 _ [.int (I2 2)] _
    rw [hw9]
    clear hw9 w'
    rw [ht2]
    refine WW.run (pc' := 1153) (lv' := [(7, .int v0), (6, .int (nI p)), (5, .int (nI i)), (4, .ref od), (3, .ref ou), (2, .ref m), (1, .ref o), (0, .ref (G.2.2.2.1 3))]) (st' := [.int (nI p), .int (nI p)]) 1 rfl ?_
    refine WW.icmp_eq (tgt := 1158) rfl rfl (fun _ => ?_) (fun hno => absurd rfl hno)
    refine WW.run (pc' := 1160) (lv' := [(7, .int v0), (6, .int (nI p)), (5, .int (nI i)), (4, .ref od), (3, .ref ou), (2, .ref m), (1, .ref o), (0, .ref (G.2.2.2.1 3))]) (st' := [.int (nI p)]) 1 rfl ?_
    refine WW.if_ne (tgt := 1175) rfl rfl (fun _ => ?_) (fun hno => absurd hno (nI_ne0 hp1 (by omega)))
    refine WW.run (pc' := 2455) (lv' := [(7, .int v0), (6, .int (nI p)), (5, .int (nI i)), (4, .ref od), (3, .ref ou), (2, .ref m), (1, .ref o), (0, .ref (G.2.2.2.1 3))]) (st' := []) 1 rfl ?_
    refine WW.pick (lv' := [(5, .int (nI i)), (4, .ref od), (3, .ref ou), (2, .ref m), (1, .ref o), (0, .ref (G.2.2.2.1 3))]) [2, 3, 4, 5, 6, 7] rfl ?_
    exact WW.less (by omega) (by omega) (kk w2 ⟨hO2, hJ0, ⟨_, J, hm2, rfl, rfl, rfl⟩, ⟨_, q35⟩, ⟨_, q36⟩, hA⟩)
  | inr v =>
    obtain ⟨y, rfl⟩ := hr
    obtain ⟨rfl, hf0⟩ := hq
    have hf0 : fL1 0 = y.toInt64 := hf0
    show WW _ _ _ 1133 _ [.int (nI 0)] _
    refine WW.ok fun ok => ?_
    replace ok : wdOk G w1 := ok
    refine WW.run (pc' := 1141) (lv' := [(6, .int (nI 0)), (5, .int (nI i)), (4, .ref od), (3, .ref ou), (2, .ref m), (1, .ref o), (0, .ref (G.2.2.2.1 3))]) (st' := [.int ((nI i) + (nI 1)), .ref (G.2.2.2.1 3), .ref m]) 6 rfl ?_
    refine WW.scr (i + 1) rfl (wn_add rfl rfl) (by show _ < G.2.2.2.2.2.2.1; omega) hlen ?_
    refine WW.callV [.int (G.2.2.2.2.2.2.2 (i + 1))] m [] rfl mX0_208 (hy w1 t hm1) (wdRecv.obj hM1.1 rfl) rfl rfl (wd_le rfl) (wd_le rfl) (by omega) (by omega) (fun o w2 hq => ?_)
    obtain ⟨rfl, hm2, fr2⟩ := hq
    show WW _ _ _ 1145 _ [.int y] _
    have hO2 := isOf.mFr ok hO1 hM1 hA fr2
    have q35 := mFr.keep ok hM1 fr2 k35 (Or.inl rfl)
    have q36 := mFr.keep ok hM1 fr2 k36 (Or.inr rfl)
    obtain ⟨I2, F2, hM2, ht2⟩ := hm2.cell
    refine WW.run (pc' := 1148) (lv' := [(7, .int y), (6, .int (nI 0)), (5, .int (nI i)), (4, .ref od), (3, .ref ou), (2, .ref m), (1, .ref o), (0, .ref (G.2.2.2.1 3))]) (st' := [.ref m]) 2 rfl ?_
    refine WW.callV [] m [] rfl mX0_149 (sM_thrown hM2) (wdRecv.obj hM2.1 rfl) rfl rfl (wd_le rfl) (wd_le rfl) (by omega) (by omega) (fun o w' hq => ?_)
    obtain ⟨rfl, hw9⟩ := hq
    show WW _ _ _ 1151 _ [.int (I2 2)] _
    rw [hw9]
    clear hw9 w'
    rw [ht2]
    refine WW.run (pc' := 1153) (lv' := [(7, .int y), (6, .int (nI 0)), (5, .int (nI i)), (4, .ref od), (3, .ref ou), (2, .ref m), (1, .ref o), (0, .ref (G.2.2.2.1 3))]) (st' := [.int (nI 0), .int (nI 0)]) 1 rfl ?_
    refine WW.icmp_eq (tgt := 1158) rfl rfl (fun _ => ?_) (fun hno => absurd rfl hno)
    refine WW.run (pc' := 1160) (lv' := [(7, .int y), (6, .int (nI 0)), (5, .int (nI i)), (4, .ref od), (3, .ref ou), (2, .ref m), (1, .ref o), (0, .ref (G.2.2.2.1 3))]) (st' := [.int (nI 0)]) 1 rfl ?_
    refine WW.if_ne (tgt := 1175) rfl rfl (fun hno => absurd rfl hno) (fun _ => ?_)
    refine WW.run (pc' := 1165) (lv' := [(7, .int y), (6, .int (nI 0)), (5, .int (nI i)), (4, .ref od), (3, .ref ou), (2, .ref m), (1, .ref o), (0, .ref (G.2.2.2.1 3))]) (st' := [.int (nI 0), .ref ou]) 2 rfl ?_
    refine WW.lald rfl q35 one_in ?_
    show WW _ _ _ 1166 _ [.long (fL1 0)] _
    rw [hf0]
    refine WW.run (pc' := 1169) (lv' := [(7, .int y), (6, .int (nI 0)), (5, .int (nI i)), (4, .ref od), (3, .ref ou), (2, .ref m), (1, .ref o), (0, .ref (G.2.2.2.1 3))]) (st' := [.long y.toInt64, .long y.toInt64]) 2 rfl ?_
    refine WW.lcmp rfl ?_
    rw [lg_cmp_self]
    refine WW.if_eq (tgt := 1175) rfl rfl (fun _ => ?_) (fun hno => absurd rfl hno)
    refine WW.run (pc' := 2455) (lv' := [(7, .int y), (6, .int (nI 0)), (5, .int (nI i)), (4, .ref od), (3, .ref ou), (2, .ref m), (1, .ref o), (0, .ref (G.2.2.2.1 3))]) (st' := []) 1 rfl ?_
    refine WW.pick (lv' := [(5, .int (nI i)), (4, .ref od), (3, .ref ou), (2, .ref m), (1, .ref o), (0, .ref (G.2.2.2.1 3))]) [2, 3, 4, 5, 6, 7] rfl ?_
    exact WW.less (by omega) (by omega) (kk w2 ⟨hO2, hJ0, ⟨_, J, hm2, rfl, rfl, rfl⟩, ⟨_, q35⟩, ⟨_, q36⟩, hA⟩)
theorem lK18 (hL : lI G w o hl inp sb m A ou od cur hn hist sv n ic on oc J) (hi : i + 3 < G.2.2.2.2.2.2.1) (hlen : G.2.2.2.2.2.2.1 < 2 ^ 31) (hkc : 40000 ≤ kc) (hks : 200000 ≤ ks) {r : Nat ⊕ Value} {v0 : Int32} (hx : Sp l G MX1_endHour 9 2 12 [.ref o, .int (G.2.2.2.2.2.2.2 (i + 1))] w (oA G o hl inp sb J cur hn hist sv ic on oc [13, 16] r w)) (hr : rOk 2 r) (hy : ∀ w1 t, isMm w1 m A t J cur hn hist sv n ic on oc → Sp l G MX3_endHour 6 0 0 [.ref m, .int (G.2.2.2.2.2.2.2 (i + 1))] w1 (mA m A J cur hn hist sv n ic on oc (.int v0) r w1)) (kk : lNx l G mc ms kc ks i o hl inp sb m A ou od cur hn hist sv n ic on oc J) : WW (lX l G mc ms) kc ks 1178 (lLV G i o m ou od) [] w := by
  obtain ⟨hO, hJ0, ⟨t, J1, hm, j1, j2, j3⟩, ⟨fL, h35⟩, ⟨fD, h36⟩, hA⟩ := hL
  have hm := hm.j j1.symm j2.symm j3.symm
  refine WW.ok fun ok => ?_
  replace ok : wdOk G w := ok
  refine WW.run (pc' := 1184) (lv' := [(5, .int (nI i)), (4, .ref od), (3, .ref ou), (2, .ref m), (1, .ref o), (0, .ref (G.2.2.2.1 3))]) (st' := [.int ((nI i) + (nI 1)), .ref (G.2.2.2.1 3), .ref o]) 5 rfl ?_
  refine WW.scr (i + 1) rfl (wn_add rfl rfl) (by show _ < G.2.2.2.2.2.2.1; omega) hlen ?_
  refine WW.run (pc' := 1186) (lv' := [(5, .int (nI i)), (4, .ref od), (3, .ref ou), (2, .ref m), (1, .ref o), (0, .ref (G.2.2.2.1 3))]) (st' := [.ref ou, .int (G.2.2.2.2.2.2.2 (i + 1)), .ref o]) 1 rfl ?_
  refine WW.callSH [.ref o, .int (G.2.2.2.2.2.2.2 (i + 1)), .ref ou] [] rfl mX0_209 (lW_endHour (G.2.2.2.2.2.2.2 (i + 1)) hO h35 hx hr) rfl rfl (wd_le rfl) (wd_le rfl) (by omega) (by omega) (fun o w1 hq => ?_)
  obtain ⟨l1, hO1, fL1, k35, hq⟩ := hq
  have k36 := l1.2 _ _ _ h36 (Or.inr (Or.inr (Or.inl rfl)))
  have hm1 := hm.lFr hA l1
  obtain ⟨I1, F1, hM1, ht1⟩ := hm1.cell
  cases r with
  | inl p =>
    obtain rfl := hq
    have hp1 : 1 ≤ p := hr.1
    have hpN : p ≤ 2 := hr.2
    show WW _ _ _ 1189 _ [.int (nI p)] _
    refine WW.ok fun ok => ?_
    replace ok : wdOk G w1 := ok
    refine WW.run (pc' := 1197) (lv' := [(6, .int (nI p)), (5, .int (nI i)), (4, .ref od), (3, .ref ou), (2, .ref m), (1, .ref o), (0, .ref (G.2.2.2.1 3))]) (st' := [.int ((nI i) + (nI 1)), .ref (G.2.2.2.1 3), .ref m]) 6 rfl ?_
    refine WW.scr (i + 1) rfl (wn_add rfl rfl) (by show _ < G.2.2.2.2.2.2.1; omega) hlen ?_
    refine WW.callV [.int (G.2.2.2.2.2.2.2 (i + 1))] m [] rfl mX0_211 (hy w1 t hm1) (wdRecv.obj hM1.1 rfl) rfl rfl (wd_le rfl) (wd_le rfl) (by omega) (by omega) (fun o w2 hq => ?_)
    obtain ⟨rfl, hm2, fr2⟩ := hq
    show WW _ _ _ 1201 _ [.int v0] _
    have hO2 := isOf.mFr ok hO1 hM1 hA fr2
    have q35 := mFr.keep ok hM1 fr2 k35 (Or.inl rfl)
    have q36 := mFr.keep ok hM1 fr2 k36 (Or.inr rfl)
    obtain ⟨I2, F2, hM2, ht2⟩ := hm2.cell
    refine WW.run (pc' := 1204) (lv' := [(7, .int v0), (6, .int (nI p)), (5, .int (nI i)), (4, .ref od), (3, .ref ou), (2, .ref m), (1, .ref o), (0, .ref (G.2.2.2.1 3))]) (st' := [.ref m]) 2 rfl ?_
    refine WW.callV [] m [] rfl mX0_149 (sM_thrown hM2) (wdRecv.obj hM2.1 rfl) rfl rfl (wd_le rfl) (wd_le rfl) (by omega) (by omega) (fun o w' hq => ?_)
    obtain ⟨rfl, hw9⟩ := hq
    show WW _ _ _ 1207 _ [.int (I2 2)] _
    rw [hw9]
    clear hw9 w'
    rw [ht2]
    refine WW.run (pc' := 1209) (lv' := [(7, .int v0), (6, .int (nI p)), (5, .int (nI i)), (4, .ref od), (3, .ref ou), (2, .ref m), (1, .ref o), (0, .ref (G.2.2.2.1 3))]) (st' := [.int (nI p), .int (nI p)]) 1 rfl ?_
    refine WW.icmp_eq (tgt := 1214) rfl rfl (fun _ => ?_) (fun hno => absurd rfl hno)
    refine WW.run (pc' := 1216) (lv' := [(7, .int v0), (6, .int (nI p)), (5, .int (nI i)), (4, .ref od), (3, .ref ou), (2, .ref m), (1, .ref o), (0, .ref (G.2.2.2.1 3))]) (st' := [.int (nI p)]) 1 rfl ?_
    refine WW.if_ne (tgt := 1231) rfl rfl (fun _ => ?_) (fun hno => absurd hno (nI_ne0 hp1 (by omega)))
    refine WW.run (pc' := 2455) (lv' := [(7, .int v0), (6, .int (nI p)), (5, .int (nI i)), (4, .ref od), (3, .ref ou), (2, .ref m), (1, .ref o), (0, .ref (G.2.2.2.1 3))]) (st' := []) 1 rfl ?_
    refine WW.pick (lv' := [(5, .int (nI i)), (4, .ref od), (3, .ref ou), (2, .ref m), (1, .ref o), (0, .ref (G.2.2.2.1 3))]) [2, 3, 4, 5, 6, 7] rfl ?_
    exact WW.less (by omega) (by omega) (kk w2 ⟨hO2, hJ0, ⟨_, J, hm2, rfl, rfl, rfl⟩, ⟨_, q35⟩, ⟨_, q36⟩, hA⟩)
  | inr v =>
    obtain ⟨y, rfl⟩ := hr
    obtain ⟨rfl, hf0⟩ := hq
    have hf0 : fL1 0 = y.toInt64 := hf0
    show WW _ _ _ 1189 _ [.int (nI 0)] _
    refine WW.ok fun ok => ?_
    replace ok : wdOk G w1 := ok
    refine WW.run (pc' := 1197) (lv' := [(6, .int (nI 0)), (5, .int (nI i)), (4, .ref od), (3, .ref ou), (2, .ref m), (1, .ref o), (0, .ref (G.2.2.2.1 3))]) (st' := [.int ((nI i) + (nI 1)), .ref (G.2.2.2.1 3), .ref m]) 6 rfl ?_
    refine WW.scr (i + 1) rfl (wn_add rfl rfl) (by show _ < G.2.2.2.2.2.2.1; omega) hlen ?_
    refine WW.callV [.int (G.2.2.2.2.2.2.2 (i + 1))] m [] rfl mX0_211 (hy w1 t hm1) (wdRecv.obj hM1.1 rfl) rfl rfl (wd_le rfl) (wd_le rfl) (by omega) (by omega) (fun o w2 hq => ?_)
    obtain ⟨rfl, hm2, fr2⟩ := hq
    show WW _ _ _ 1201 _ [.int y] _
    have hO2 := isOf.mFr ok hO1 hM1 hA fr2
    have q35 := mFr.keep ok hM1 fr2 k35 (Or.inl rfl)
    have q36 := mFr.keep ok hM1 fr2 k36 (Or.inr rfl)
    obtain ⟨I2, F2, hM2, ht2⟩ := hm2.cell
    refine WW.run (pc' := 1204) (lv' := [(7, .int y), (6, .int (nI 0)), (5, .int (nI i)), (4, .ref od), (3, .ref ou), (2, .ref m), (1, .ref o), (0, .ref (G.2.2.2.1 3))]) (st' := [.ref m]) 2 rfl ?_
    refine WW.callV [] m [] rfl mX0_149 (sM_thrown hM2) (wdRecv.obj hM2.1 rfl) rfl rfl (wd_le rfl) (wd_le rfl) (by omega) (by omega) (fun o w' hq => ?_)
    obtain ⟨rfl, hw9⟩ := hq
    show WW _ _ _ 1207 _ [.int (I2 2)] _
    rw [hw9]
    clear hw9 w'
    rw [ht2]
    refine WW.run (pc' := 1209) (lv' := [(7, .int y), (6, .int (nI 0)), (5, .int (nI i)), (4, .ref od), (3, .ref ou), (2, .ref m), (1, .ref o), (0, .ref (G.2.2.2.1 3))]) (st' := [.int (nI 0), .int (nI 0)]) 1 rfl ?_
    refine WW.icmp_eq (tgt := 1214) rfl rfl (fun _ => ?_) (fun hno => absurd rfl hno)
    refine WW.run (pc' := 1216) (lv' := [(7, .int y), (6, .int (nI 0)), (5, .int (nI i)), (4, .ref od), (3, .ref ou), (2, .ref m), (1, .ref o), (0, .ref (G.2.2.2.1 3))]) (st' := [.int (nI 0)]) 1 rfl ?_
    refine WW.if_ne (tgt := 1231) rfl rfl (fun hno => absurd rfl hno) (fun _ => ?_)
    refine WW.run (pc' := 1221) (lv' := [(7, .int y), (6, .int (nI 0)), (5, .int (nI i)), (4, .ref od), (3, .ref ou), (2, .ref m), (1, .ref o), (0, .ref (G.2.2.2.1 3))]) (st' := [.int (nI 0), .ref ou]) 2 rfl ?_
    refine WW.lald rfl q35 one_in ?_
    show WW _ _ _ 1222 _ [.long (fL1 0)] _
    rw [hf0]
    refine WW.run (pc' := 1225) (lv' := [(7, .int y), (6, .int (nI 0)), (5, .int (nI i)), (4, .ref od), (3, .ref ou), (2, .ref m), (1, .ref o), (0, .ref (G.2.2.2.1 3))]) (st' := [.long y.toInt64, .long y.toInt64]) 2 rfl ?_
    refine WW.lcmp rfl ?_
    rw [lg_cmp_self]
    refine WW.if_eq (tgt := 1231) rfl rfl (fun _ => ?_) (fun hno => absurd rfl hno)
    refine WW.run (pc' := 2455) (lv' := [(7, .int y), (6, .int (nI 0)), (5, .int (nI i)), (4, .ref od), (3, .ref ou), (2, .ref m), (1, .ref o), (0, .ref (G.2.2.2.1 3))]) (st' := []) 1 rfl ?_
    refine WW.pick (lv' := [(5, .int (nI i)), (4, .ref od), (3, .ref ou), (2, .ref m), (1, .ref o), (0, .ref (G.2.2.2.1 3))]) [2, 3, 4, 5, 6, 7] rfl ?_
    exact WW.less (by omega) (by omega) (kk w2 ⟨hO2, hJ0, ⟨_, J, hm2, rfl, rfl, rfl⟩, ⟨_, q35⟩, ⟨_, q36⟩, hA⟩)
theorem lK19 (hL : lI G w o hl inp sb m A ou od cur hn hist sv n ic on oc J) (hi : i + 3 < G.2.2.2.2.2.2.1) (hlen : G.2.2.2.2.2.2.1 < 2 ^ 31) (hkc : 40000 ≤ kc) (hks : 200000 ≤ ks) {r : Nat ⊕ Value} {v0 : Int32} (hx : Sp l G MX1_brightHours 8 1 6 [.ref o, .int (G.2.2.2.2.2.2.2 (i + 1))] w (oA G o hl inp sb J cur hn hist sv ic on oc [13] r w)) (hr : rOk 1 r) (hy : ∀ w1 t, isMm w1 m A t J cur hn hist sv n ic on oc → Sp l G MX3_brightHours 6 0 0 [.ref m, .int (G.2.2.2.2.2.2.2 (i + 1))] w1 (mA m A J cur hn hist sv n ic on oc (.int v0) r w1)) (kk : lNx l G mc ms kc ks i o hl inp sb m A ou od cur hn hist sv n ic on oc J) : WW (lX l G mc ms) kc ks 1234 (lLV G i o m ou od) [] w := by
  obtain ⟨hO, hJ0, ⟨t, J1, hm, j1, j2, j3⟩, ⟨fL, h35⟩, ⟨fD, h36⟩, hA⟩ := hL
  have hm := hm.j j1.symm j2.symm j3.symm
  refine WW.ok fun ok => ?_
  replace ok : wdOk G w := ok
  refine WW.run (pc' := 1240) (lv' := [(5, .int (nI i)), (4, .ref od), (3, .ref ou), (2, .ref m), (1, .ref o), (0, .ref (G.2.2.2.1 3))]) (st' := [.int ((nI i) + (nI 1)), .ref (G.2.2.2.1 3), .ref o]) 5 rfl ?_
  refine WW.scr (i + 1) rfl (wn_add rfl rfl) (by show _ < G.2.2.2.2.2.2.1; omega) hlen ?_
  refine WW.run (pc' := 1242) (lv' := [(5, .int (nI i)), (4, .ref od), (3, .ref ou), (2, .ref m), (1, .ref o), (0, .ref (G.2.2.2.1 3))]) (st' := [.ref ou, .int (G.2.2.2.2.2.2.2 (i + 1)), .ref o]) 1 rfl ?_
  refine WW.callSH [.ref o, .int (G.2.2.2.2.2.2.2 (i + 1)), .ref ou] [] rfl mX0_212 (lW_brightHours (G.2.2.2.2.2.2.2 (i + 1)) hO h35 hx hr) rfl rfl (wd_le rfl) (wd_le rfl) (by omega) (by omega) (fun o w1 hq => ?_)
  obtain ⟨l1, hO1, fL1, k35, hq⟩ := hq
  have k36 := l1.2 _ _ _ h36 (Or.inr (Or.inr (Or.inl rfl)))
  have hm1 := hm.lFr hA l1
  obtain ⟨I1, F1, hM1, ht1⟩ := hm1.cell
  cases r with
  | inl p =>
    obtain rfl := hq
    have hp1 : 1 ≤ p := hr.1
    have hpN : p ≤ 1 := hr.2
    show WW _ _ _ 1245 _ [.int (nI p)] _
    refine WW.ok fun ok => ?_
    replace ok : wdOk G w1 := ok
    refine WW.run (pc' := 1253) (lv' := [(6, .int (nI p)), (5, .int (nI i)), (4, .ref od), (3, .ref ou), (2, .ref m), (1, .ref o), (0, .ref (G.2.2.2.1 3))]) (st' := [.int ((nI i) + (nI 1)), .ref (G.2.2.2.1 3), .ref m]) 6 rfl ?_
    refine WW.scr (i + 1) rfl (wn_add rfl rfl) (by show _ < G.2.2.2.2.2.2.1; omega) hlen ?_
    refine WW.callV [.int (G.2.2.2.2.2.2.2 (i + 1))] m [] rfl mX0_214 (hy w1 t hm1) (wdRecv.obj hM1.1 rfl) rfl rfl (wd_le rfl) (wd_le rfl) (by omega) (by omega) (fun o w2 hq => ?_)
    obtain ⟨rfl, hm2, fr2⟩ := hq
    show WW _ _ _ 1257 _ [.int v0] _
    have hO2 := isOf.mFr ok hO1 hM1 hA fr2
    have q35 := mFr.keep ok hM1 fr2 k35 (Or.inl rfl)
    have q36 := mFr.keep ok hM1 fr2 k36 (Or.inr rfl)
    obtain ⟨I2, F2, hM2, ht2⟩ := hm2.cell
    refine WW.run (pc' := 1260) (lv' := [(7, .int v0), (6, .int (nI p)), (5, .int (nI i)), (4, .ref od), (3, .ref ou), (2, .ref m), (1, .ref o), (0, .ref (G.2.2.2.1 3))]) (st' := [.ref m]) 2 rfl ?_
    refine WW.callV [] m [] rfl mX0_149 (sM_thrown hM2) (wdRecv.obj hM2.1 rfl) rfl rfl (wd_le rfl) (wd_le rfl) (by omega) (by omega) (fun o w' hq => ?_)
    obtain ⟨rfl, hw9⟩ := hq
    show WW _ _ _ 1263 _ [.int (I2 2)] _
    rw [hw9]
    clear hw9 w'
    rw [ht2]
    refine WW.run (pc' := 1265) (lv' := [(7, .int v0), (6, .int (nI p)), (5, .int (nI i)), (4, .ref od), (3, .ref ou), (2, .ref m), (1, .ref o), (0, .ref (G.2.2.2.1 3))]) (st' := [.int (nI p), .int (nI p)]) 1 rfl ?_
    refine WW.icmp_eq (tgt := 1270) rfl rfl (fun _ => ?_) (fun hno => absurd rfl hno)
    refine WW.run (pc' := 1272) (lv' := [(7, .int v0), (6, .int (nI p)), (5, .int (nI i)), (4, .ref od), (3, .ref ou), (2, .ref m), (1, .ref o), (0, .ref (G.2.2.2.1 3))]) (st' := [.int (nI p)]) 1 rfl ?_
    refine WW.if_ne (tgt := 1287) rfl rfl (fun _ => ?_) (fun hno => absurd hno (nI_ne0 hp1 (by omega)))
    refine WW.run (pc' := 2455) (lv' := [(7, .int v0), (6, .int (nI p)), (5, .int (nI i)), (4, .ref od), (3, .ref ou), (2, .ref m), (1, .ref o), (0, .ref (G.2.2.2.1 3))]) (st' := []) 1 rfl ?_
    refine WW.pick (lv' := [(5, .int (nI i)), (4, .ref od), (3, .ref ou), (2, .ref m), (1, .ref o), (0, .ref (G.2.2.2.1 3))]) [2, 3, 4, 5, 6, 7] rfl ?_
    exact WW.less (by omega) (by omega) (kk w2 ⟨hO2, hJ0, ⟨_, J, hm2, rfl, rfl, rfl⟩, ⟨_, q35⟩, ⟨_, q36⟩, hA⟩)
  | inr v =>
    obtain ⟨y, rfl⟩ := hr
    obtain ⟨rfl, hf0⟩ := hq
    have hf0 : fL1 0 = y.toInt64 := hf0
    show WW _ _ _ 1245 _ [.int (nI 0)] _
    refine WW.ok fun ok => ?_
    replace ok : wdOk G w1 := ok
    refine WW.run (pc' := 1253) (lv' := [(6, .int (nI 0)), (5, .int (nI i)), (4, .ref od), (3, .ref ou), (2, .ref m), (1, .ref o), (0, .ref (G.2.2.2.1 3))]) (st' := [.int ((nI i) + (nI 1)), .ref (G.2.2.2.1 3), .ref m]) 6 rfl ?_
    refine WW.scr (i + 1) rfl (wn_add rfl rfl) (by show _ < G.2.2.2.2.2.2.1; omega) hlen ?_
    refine WW.callV [.int (G.2.2.2.2.2.2.2 (i + 1))] m [] rfl mX0_214 (hy w1 t hm1) (wdRecv.obj hM1.1 rfl) rfl rfl (wd_le rfl) (wd_le rfl) (by omega) (by omega) (fun o w2 hq => ?_)
    obtain ⟨rfl, hm2, fr2⟩ := hq
    show WW _ _ _ 1257 _ [.int y] _
    have hO2 := isOf.mFr ok hO1 hM1 hA fr2
    have q35 := mFr.keep ok hM1 fr2 k35 (Or.inl rfl)
    have q36 := mFr.keep ok hM1 fr2 k36 (Or.inr rfl)
    obtain ⟨I2, F2, hM2, ht2⟩ := hm2.cell
    refine WW.run (pc' := 1260) (lv' := [(7, .int y), (6, .int (nI 0)), (5, .int (nI i)), (4, .ref od), (3, .ref ou), (2, .ref m), (1, .ref o), (0, .ref (G.2.2.2.1 3))]) (st' := [.ref m]) 2 rfl ?_
    refine WW.callV [] m [] rfl mX0_149 (sM_thrown hM2) (wdRecv.obj hM2.1 rfl) rfl rfl (wd_le rfl) (wd_le rfl) (by omega) (by omega) (fun o w' hq => ?_)
    obtain ⟨rfl, hw9⟩ := hq
    show WW _ _ _ 1263 _ [.int (I2 2)] _
    rw [hw9]
    clear hw9 w'
    rw [ht2]
    refine WW.run (pc' := 1265) (lv' := [(7, .int y), (6, .int (nI 0)), (5, .int (nI i)), (4, .ref od), (3, .ref ou), (2, .ref m), (1, .ref o), (0, .ref (G.2.2.2.1 3))]) (st' := [.int (nI 0), .int (nI 0)]) 1 rfl ?_
    refine WW.icmp_eq (tgt := 1270) rfl rfl (fun _ => ?_) (fun hno => absurd rfl hno)
    refine WW.run (pc' := 1272) (lv' := [(7, .int y), (6, .int (nI 0)), (5, .int (nI i)), (4, .ref od), (3, .ref ou), (2, .ref m), (1, .ref o), (0, .ref (G.2.2.2.1 3))]) (st' := [.int (nI 0)]) 1 rfl ?_
    refine WW.if_ne (tgt := 1287) rfl rfl (fun hno => absurd rfl hno) (fun _ => ?_)
    refine WW.run (pc' := 1277) (lv' := [(7, .int y), (6, .int (nI 0)), (5, .int (nI i)), (4, .ref od), (3, .ref ou), (2, .ref m), (1, .ref o), (0, .ref (G.2.2.2.1 3))]) (st' := [.int (nI 0), .ref ou]) 2 rfl ?_
    refine WW.lald rfl q35 one_in ?_
    show WW _ _ _ 1278 _ [.long (fL1 0)] _
    rw [hf0]
    refine WW.run (pc' := 1281) (lv' := [(7, .int y), (6, .int (nI 0)), (5, .int (nI i)), (4, .ref od), (3, .ref ou), (2, .ref m), (1, .ref o), (0, .ref (G.2.2.2.1 3))]) (st' := [.long y.toInt64, .long y.toInt64]) 2 rfl ?_
    refine WW.lcmp rfl ?_
    rw [lg_cmp_self]
    refine WW.if_eq (tgt := 1287) rfl rfl (fun _ => ?_) (fun hno => absurd rfl hno)
    refine WW.run (pc' := 2455) (lv' := [(7, .int y), (6, .int (nI 0)), (5, .int (nI i)), (4, .ref od), (3, .ref ou), (2, .ref m), (1, .ref o), (0, .ref (G.2.2.2.1 3))]) (st' := []) 1 rfl ?_
    refine WW.pick (lv' := [(5, .int (nI i)), (4, .ref od), (3, .ref ou), (2, .ref m), (1, .ref o), (0, .ref (G.2.2.2.1 3))]) [2, 3, 4, 5, 6, 7] rfl ?_
    exact WW.less (by omega) (by omega) (kk w2 ⟨hO2, hJ0, ⟨_, J, hm2, rfl, rfl, rfl⟩, ⟨_, q35⟩, ⟨_, q36⟩, hA⟩)
theorem lK21 (hL : lI G w o hl inp sb m A ou od cur hn hist sv n ic on oc J) (hi : i + 3 < G.2.2.2.2.2.2.1) (hlen : G.2.2.2.2.2.2.1 < 2 ^ 31) (hkc : 40000 ≤ kc) (hks : 200000 ≤ ks) {y v0 : Int32} (hx : Sp l G MX1_leasedLamps 4 1 4 [.ref o] w (oA G o hl inp sb J cur hn hist sv ic on oc [] (.inr (.int y)) w)) (hy : ∀ w1 t, isMm w1 m A t J cur hn hist sv n ic on oc → Sp l G MX3_leasedLamps 6 0 0 [.ref m] w1 (mA m A J cur hn hist sv n ic on oc (.int v0) (.inr (.int y)) w1)) (kk : lNx l G mc ms kc ks i o hl inp sb m A ou od cur hn hist sv n ic on oc J) : WW (lX l G mc ms) kc ks 1353 (lLV G i o m ou od) [] w := by
  obtain ⟨hO, hJ0, ⟨t, J1, hm, j1, j2, j3⟩, ⟨fL, h35⟩, ⟨fD, h36⟩, hA⟩ := hL
  have hm := hm.j j1.symm j2.symm j3.symm
  refine WW.ok fun ok => ?_
  replace ok : wdOk G w := ok
  obtain ⟨fs, hc⟩ := hO.cell
  refine WW.run (pc' := 1354) (lv' := [(5, .int (nI i)), (4, .ref od), (3, .ref ou), (2, .ref m), (1, .ref o), (0, .ref (G.2.2.2.1 3))]) (st' := [.ref o]) 1 rfl ?_
  refine WW.callV [] o [] rfl mX0_218 hx (wdRecv.obj hc rfl) rfl rfl (wd_le rfl) (wd_le rfl) (by omega) (by omega) (fun o w1 hq => ?_)
  obtain ⟨f1, hO1, rfl⟩ := hq
  have l1 : lFr inp 35 w w1 := lFr.of (Or.inl rfl) f1
  have k35 := f1.2 _ _ _ h35 (Or.inr (Or.inr (Or.inl rfl)))
  have k36 := f1.2 _ _ _ h36 (Or.inr (Or.inr (Or.inr (Or.inl rfl))))
  have hm1 := hm.lFr hA l1
  obtain ⟨I1, F1, hM1, ht1⟩ := hm1.cell
  show WW _ _ _ 1357 _ [.int y] _
  refine WW.ok fun ok => ?_
  replace ok : wdOk G w1 := ok
  refine WW.run (pc' := 1358) (lv' := [(5, .int (nI i)), (4, .ref od), (3, .ref ou), (2, .ref m), (1, .ref o), (0, .ref (G.2.2.2.1 3))]) (st' := [.ref m, .int y]) 1 rfl ?_
  refine WW.callV [] m [.int y] rfl mX0_221 (hy w1 t hm1) (wdRecv.obj hM1.1 rfl) rfl rfl (wd_le rfl) (wd_le rfl) (by omega) (by omega) (fun o w2 hq => ?_)
  obtain ⟨rfl, hm2, fr2⟩ := hq
  show WW _ _ _ 1361 _ [.int y, .int y] _
  have hO2 := isOf.mFr ok hO1 hM1 hA fr2
  have q35 := mFr.keep ok hM1 fr2 k35 (Or.inl rfl)
  have q36 := mFr.keep ok hM1 fr2 k36 (Or.inr rfl)
  refine WW.icmp_eq (tgt := 2455) rfl rfl (fun _ => ?_) (fun hno => absurd rfl hno)
  exact WW.less (by omega) (by omega) (kk w2 ⟨hO2, hJ0, ⟨_, J, hm2, rfl, rfl, rfl⟩, ⟨_, q35⟩, ⟨_, q36⟩, hA⟩)
theorem lK22 (hL : lI G w o hl inp sb m A ou od cur hn hist sv n ic on oc J) (hi : i + 3 < G.2.2.2.2.2.2.1) (hlen : G.2.2.2.2.2.2.1 < 2 ^ 31) (hkc : 40000 ≤ kc) (hks : 200000 ≤ ks) {y v0 : Int32} (hx : Sp l G MX1_oil 1 0 0 [.ref o] w (oA G o hl inp sb J cur hn hist sv ic on oc [] (.inr (.int y)) w)) (hy : ∀ w1 t, isMm w1 m A t J cur hn hist sv n ic on oc → Sp l G MX3_oil 6 0 0 [.ref m] w1 (mA m A J cur hn hist sv n ic on oc (.int v0) (.inr (.int y)) w1)) (kk : lNx l G mc ms kc ks i o hl inp sb m A ou od cur hn hist sv n ic on oc J) : WW (lX l G mc ms) kc ks 1366 (lLV G i o m ou od) [] w := by
  obtain ⟨hO, hJ0, ⟨t, J1, hm, j1, j2, j3⟩, ⟨fL, h35⟩, ⟨fD, h36⟩, hA⟩ := hL
  have hm := hm.j j1.symm j2.symm j3.symm
  refine WW.ok fun ok => ?_
  replace ok : wdOk G w := ok
  obtain ⟨fs, hc⟩ := hO.cell
  refine WW.run (pc' := 1367) (lv' := [(5, .int (nI i)), (4, .ref od), (3, .ref ou), (2, .ref m), (1, .ref o), (0, .ref (G.2.2.2.1 3))]) (st' := [.ref o]) 1 rfl ?_
  refine WW.callV [] o [] rfl mX0_222 hx (wdRecv.obj hc rfl) rfl rfl (wd_le rfl) (wd_le rfl) (by omega) (by omega) (fun o w1 hq => ?_)
  obtain ⟨f1, hO1, rfl⟩ := hq
  have l1 : lFr inp 35 w w1 := lFr.of (Or.inl rfl) f1
  have k35 := f1.2 _ _ _ h35 (Or.inr (Or.inr (Or.inl rfl)))
  have k36 := f1.2 _ _ _ h36 (Or.inr (Or.inr (Or.inr (Or.inl rfl))))
  have hm1 := hm.lFr hA l1
  obtain ⟨I1, F1, hM1, ht1⟩ := hm1.cell
  show WW _ _ _ 1370 _ [.int y] _
  refine WW.ok fun ok => ?_
  replace ok : wdOk G w1 := ok
  refine WW.run (pc' := 1371) (lv' := [(5, .int (nI i)), (4, .ref od), (3, .ref ou), (2, .ref m), (1, .ref o), (0, .ref (G.2.2.2.1 3))]) (st' := [.ref m, .int y]) 1 rfl ?_
  refine WW.callV [] m [.int y] rfl mX0_225 (hy w1 t hm1) (wdRecv.obj hM1.1 rfl) rfl rfl (wd_le rfl) (wd_le rfl) (by omega) (by omega) (fun o w2 hq => ?_)
  obtain ⟨rfl, hm2, fr2⟩ := hq
  show WW _ _ _ 1374 _ [.int y, .int y] _
  have hO2 := isOf.mFr ok hO1 hM1 hA fr2
  have q35 := mFr.keep ok hM1 fr2 k35 (Or.inl rfl)
  have q36 := mFr.keep ok hM1 fr2 k36 (Or.inr rfl)
  refine WW.icmp_eq (tgt := 2455) rfl rfl (fun _ => ?_) (fun hno => absurd rfl hno)
  exact WW.less (by omega) (by omega) (kk w2 ⟨hO2, hJ0, ⟨_, J, hm2, rfl, rfl, rfl⟩, ⟨_, q35⟩, ⟨_, q36⟩, hA⟩)
theorem lK23 (hL : lI G w o hl inp sb m A ou od cur hn hist sv n ic on oc J) (hi : i + 3 < G.2.2.2.2.2.2.1) (hlen : G.2.2.2.2.2.2.1 < 2 ^ 31) (hkc : 40000 ≤ kc) (hks : 200000 ≤ ks) {y v0 : Int32} (hx : Sp l G MX1_consumption 4 1 4 [.ref o] w (oA G o hl inp sb J cur hn hist sv ic on oc [] (.inr (.int y)) w)) (hy : ∀ w1 t, isMm w1 m A t J cur hn hist sv n ic on oc → Sp l G MX3_consumption 6 0 0 [.ref m] w1 (mA m A J cur hn hist sv n ic on oc (.int v0) (.inr (.int y)) w1)) (kk : lNx l G mc ms kc ks i o hl inp sb m A ou od cur hn hist sv n ic on oc J) : WW (lX l G mc ms) kc ks 1379 (lLV G i o m ou od) [] w := by
  obtain ⟨hO, hJ0, ⟨t, J1, hm, j1, j2, j3⟩, ⟨fL, h35⟩, ⟨fD, h36⟩, hA⟩ := hL
  have hm := hm.j j1.symm j2.symm j3.symm
  refine WW.ok fun ok => ?_
  replace ok : wdOk G w := ok
  obtain ⟨fs, hc⟩ := hO.cell
  refine WW.run (pc' := 1380) (lv' := [(5, .int (nI i)), (4, .ref od), (3, .ref ou), (2, .ref m), (1, .ref o), (0, .ref (G.2.2.2.1 3))]) (st' := [.ref o]) 1 rfl ?_
  refine WW.callV [] o [] rfl mX0_226 hx (wdRecv.obj hc rfl) rfl rfl (wd_le rfl) (wd_le rfl) (by omega) (by omega) (fun o w1 hq => ?_)
  obtain ⟨f1, hO1, rfl⟩ := hq
  have l1 : lFr inp 35 w w1 := lFr.of (Or.inl rfl) f1
  have k35 := f1.2 _ _ _ h35 (Or.inr (Or.inr (Or.inl rfl)))
  have k36 := f1.2 _ _ _ h36 (Or.inr (Or.inr (Or.inr (Or.inl rfl))))
  have hm1 := hm.lFr hA l1
  obtain ⟨I1, F1, hM1, ht1⟩ := hm1.cell
  show WW _ _ _ 1383 _ [.int y] _
  refine WW.ok fun ok => ?_
  replace ok : wdOk G w1 := ok
  refine WW.run (pc' := 1384) (lv' := [(5, .int (nI i)), (4, .ref od), (3, .ref ou), (2, .ref m), (1, .ref o), (0, .ref (G.2.2.2.1 3))]) (st' := [.ref m, .int y]) 1 rfl ?_
  refine WW.callV [] m [.int y] rfl mX0_229 (hy w1 t hm1) (wdRecv.obj hM1.1 rfl) rfl rfl (wd_le rfl) (wd_le rfl) (by omega) (by omega) (fun o w2 hq => ?_)
  obtain ⟨rfl, hm2, fr2⟩ := hq
  show WW _ _ _ 1387 _ [.int y, .int y] _
  have hO2 := isOf.mFr ok hO1 hM1 hA fr2
  have q35 := mFr.keep ok hM1 fr2 k35 (Or.inl rfl)
  have q36 := mFr.keep ok hM1 fr2 k36 (Or.inr rfl)
  refine WW.icmp_eq (tgt := 2455) rfl rfl (fun _ => ?_) (fun hno => absurd rfl hno)
  exact WW.less (by omega) (by omega) (kk w2 ⟨hO2, hJ0, ⟨_, J, hm2, rfl, rfl, rfl⟩, ⟨_, q35⟩, ⟨_, q36⟩, hA⟩)
theorem lK24 (hL : lI G w o hl inp sb m A ou od cur hn hist sv n ic on oc J) (hi : i + 3 < G.2.2.2.2.2.2.1) (hlen : G.2.2.2.2.2.2.1 < 2 ^ 31) (hkc : 40000 ≤ kc) (hks : 200000 ≤ ks) {r : Nat ⊕ Value} {v0 : Int32} (hx : Sp l G MX1_hoursOfOil 8 2061 8346 [.ref o] w (oA G o hl inp sb J cur hn hist sv ic on oc [16] r w)) (hr : rOk 1 r) (hy : ∀ w1 t, isMm w1 m A t J cur hn hist sv n ic on oc → Sp l G MX3_hoursOfOil 6 0 0 [.ref m] w1 (mA m A J cur hn hist sv n ic on oc (.int v0) r w1)) (kk : lNx l G mc ms kc ks i o hl inp sb m A ou od cur hn hist sv n ic on oc J) : WW (lX l G mc ms) kc ks 1392 (lLV G i o m ou od) [] w := by
  obtain ⟨hO, hJ0, ⟨t, J1, hm, j1, j2, j3⟩, ⟨fL, h35⟩, ⟨fD, h36⟩, hA⟩ := hL
  have hm := hm.j j1.symm j2.symm j3.symm
  refine WW.ok fun ok => ?_
  replace ok : wdOk G w := ok
  refine WW.run (pc' := 1394) (lv' := [(5, .int (nI i)), (4, .ref od), (3, .ref ou), (2, .ref m), (1, .ref o), (0, .ref (G.2.2.2.1 3))]) (st' := [.ref ou, .ref o]) 2 rfl ?_
  refine WW.callSH [.ref o, .ref ou] [] rfl mX0_230 (lW_hoursOfOil  hO h35 hx hr) rfl rfl (wd_le rfl) (wd_le rfl) (by omega) (by omega) (fun o w1 hq => ?_)
  obtain ⟨l1, hO1, fL1, k35, hq⟩ := hq
  have k36 := l1.2 _ _ _ h36 (Or.inr (Or.inr (Or.inl rfl)))
  have hm1 := hm.lFr hA l1
  obtain ⟨I1, F1, hM1, ht1⟩ := hm1.cell
  cases r with
  | inl p =>
    obtain rfl := hq
    have hp1 : 1 ≤ p := hr.1
    have hpN : p ≤ 1 := hr.2
    show WW _ _ _ 1397 _ [.int (nI p)] _
    refine WW.ok fun ok => ?_
    replace ok : wdOk G w1 := ok
    refine WW.run (pc' := 1400) (lv' := [(6, .int (nI p)), (5, .int (nI i)), (4, .ref od), (3, .ref ou), (2, .ref m), (1, .ref o), (0, .ref (G.2.2.2.1 3))]) (st' := [.ref m]) 2 rfl ?_
    refine WW.callV [] m [] rfl mX0_232 (hy w1 t hm1) (wdRecv.obj hM1.1 rfl) rfl rfl (wd_le rfl) (wd_le rfl) (by omega) (by omega) (fun o w2 hq => ?_)
    obtain ⟨rfl, hm2, fr2⟩ := hq
    show WW _ _ _ 1403 _ [.int v0] _
    have hO2 := isOf.mFr ok hO1 hM1 hA fr2
    have q35 := mFr.keep ok hM1 fr2 k35 (Or.inl rfl)
    have q36 := mFr.keep ok hM1 fr2 k36 (Or.inr rfl)
    obtain ⟨I2, F2, hM2, ht2⟩ := hm2.cell
    refine WW.run (pc' := 1406) (lv' := [(7, .int v0), (6, .int (nI p)), (5, .int (nI i)), (4, .ref od), (3, .ref ou), (2, .ref m), (1, .ref o), (0, .ref (G.2.2.2.1 3))]) (st' := [.ref m]) 2 rfl ?_
    refine WW.callV [] m [] rfl mX0_149 (sM_thrown hM2) (wdRecv.obj hM2.1 rfl) rfl rfl (wd_le rfl) (wd_le rfl) (by omega) (by omega) (fun o w' hq => ?_)
    obtain ⟨rfl, hw9⟩ := hq
    show WW _ _ _ 1409 _ [.int (I2 2)] _
    rw [hw9]
    clear hw9 w'
    rw [ht2]
    refine WW.run (pc' := 1411) (lv' := [(7, .int v0), (6, .int (nI p)), (5, .int (nI i)), (4, .ref od), (3, .ref ou), (2, .ref m), (1, .ref o), (0, .ref (G.2.2.2.1 3))]) (st' := [.int (nI p), .int (nI p)]) 1 rfl ?_
    refine WW.icmp_eq (tgt := 1416) rfl rfl (fun _ => ?_) (fun hno => absurd rfl hno)
    refine WW.run (pc' := 1418) (lv' := [(7, .int v0), (6, .int (nI p)), (5, .int (nI i)), (4, .ref od), (3, .ref ou), (2, .ref m), (1, .ref o), (0, .ref (G.2.2.2.1 3))]) (st' := [.int (nI p)]) 1 rfl ?_
    refine WW.if_ne (tgt := 1433) rfl rfl (fun _ => ?_) (fun hno => absurd hno (nI_ne0 hp1 (by omega)))
    refine WW.run (pc' := 2455) (lv' := [(7, .int v0), (6, .int (nI p)), (5, .int (nI i)), (4, .ref od), (3, .ref ou), (2, .ref m), (1, .ref o), (0, .ref (G.2.2.2.1 3))]) (st' := []) 1 rfl ?_
    refine WW.pick (lv' := [(5, .int (nI i)), (4, .ref od), (3, .ref ou), (2, .ref m), (1, .ref o), (0, .ref (G.2.2.2.1 3))]) [2, 3, 4, 5, 6, 7] rfl ?_
    exact WW.less (by omega) (by omega) (kk w2 ⟨hO2, hJ0, ⟨_, J, hm2, rfl, rfl, rfl⟩, ⟨_, q35⟩, ⟨_, q36⟩, hA⟩)
  | inr v =>
    obtain ⟨y, rfl⟩ := hr
    obtain ⟨rfl, hf0⟩ := hq
    have hf0 : fL1 0 = y.toInt64 := hf0
    show WW _ _ _ 1397 _ [.int (nI 0)] _
    refine WW.ok fun ok => ?_
    replace ok : wdOk G w1 := ok
    refine WW.run (pc' := 1400) (lv' := [(6, .int (nI 0)), (5, .int (nI i)), (4, .ref od), (3, .ref ou), (2, .ref m), (1, .ref o), (0, .ref (G.2.2.2.1 3))]) (st' := [.ref m]) 2 rfl ?_
    refine WW.callV [] m [] rfl mX0_232 (hy w1 t hm1) (wdRecv.obj hM1.1 rfl) rfl rfl (wd_le rfl) (wd_le rfl) (by omega) (by omega) (fun o w2 hq => ?_)
    obtain ⟨rfl, hm2, fr2⟩ := hq
    show WW _ _ _ 1403 _ [.int y] _
    have hO2 := isOf.mFr ok hO1 hM1 hA fr2
    have q35 := mFr.keep ok hM1 fr2 k35 (Or.inl rfl)
    have q36 := mFr.keep ok hM1 fr2 k36 (Or.inr rfl)
    obtain ⟨I2, F2, hM2, ht2⟩ := hm2.cell
    refine WW.run (pc' := 1406) (lv' := [(7, .int y), (6, .int (nI 0)), (5, .int (nI i)), (4, .ref od), (3, .ref ou), (2, .ref m), (1, .ref o), (0, .ref (G.2.2.2.1 3))]) (st' := [.ref m]) 2 rfl ?_
    refine WW.callV [] m [] rfl mX0_149 (sM_thrown hM2) (wdRecv.obj hM2.1 rfl) rfl rfl (wd_le rfl) (wd_le rfl) (by omega) (by omega) (fun o w' hq => ?_)
    obtain ⟨rfl, hw9⟩ := hq
    show WW _ _ _ 1409 _ [.int (I2 2)] _
    rw [hw9]
    clear hw9 w'
    rw [ht2]
    refine WW.run (pc' := 1411) (lv' := [(7, .int y), (6, .int (nI 0)), (5, .int (nI i)), (4, .ref od), (3, .ref ou), (2, .ref m), (1, .ref o), (0, .ref (G.2.2.2.1 3))]) (st' := [.int (nI 0), .int (nI 0)]) 1 rfl ?_
    refine WW.icmp_eq (tgt := 1416) rfl rfl (fun _ => ?_) (fun hno => absurd rfl hno)
    refine WW.run (pc' := 1418) (lv' := [(7, .int y), (6, .int (nI 0)), (5, .int (nI i)), (4, .ref od), (3, .ref ou), (2, .ref m), (1, .ref o), (0, .ref (G.2.2.2.1 3))]) (st' := [.int (nI 0)]) 1 rfl ?_
    refine WW.if_ne (tgt := 1433) rfl rfl (fun hno => absurd rfl hno) (fun _ => ?_)
    refine WW.run (pc' := 1423) (lv' := [(7, .int y), (6, .int (nI 0)), (5, .int (nI i)), (4, .ref od), (3, .ref ou), (2, .ref m), (1, .ref o), (0, .ref (G.2.2.2.1 3))]) (st' := [.int (nI 0), .ref ou]) 2 rfl ?_
    refine WW.lald rfl q35 one_in ?_
    show WW _ _ _ 1424 _ [.long (fL1 0)] _
    rw [hf0]
    refine WW.run (pc' := 1427) (lv' := [(7, .int y), (6, .int (nI 0)), (5, .int (nI i)), (4, .ref od), (3, .ref ou), (2, .ref m), (1, .ref o), (0, .ref (G.2.2.2.1 3))]) (st' := [.long y.toInt64, .long y.toInt64]) 2 rfl ?_
    refine WW.lcmp rfl ?_
    rw [lg_cmp_self]
    refine WW.if_eq (tgt := 1433) rfl rfl (fun _ => ?_) (fun hno => absurd rfl hno)
    refine WW.run (pc' := 2455) (lv' := [(7, .int y), (6, .int (nI 0)), (5, .int (nI i)), (4, .ref od), (3, .ref ou), (2, .ref m), (1, .ref o), (0, .ref (G.2.2.2.1 3))]) (st' := []) 1 rfl ?_
    refine WW.pick (lv' := [(5, .int (nI i)), (4, .ref od), (3, .ref ou), (2, .ref m), (1, .ref o), (0, .ref (G.2.2.2.1 3))]) [2, 3, 4, 5, 6, 7] rfl ?_
    exact WW.less (by omega) (by omega) (kk w2 ⟨hO2, hJ0, ⟨_, J, hm2, rfl, rfl, rfl⟩, ⟨_, q35⟩, ⟨_, q36⟩, hA⟩)
theorem lK25 (hL : lI G w o hl inp sb m A ou od cur hn hist sv n ic on oc J) (hi : i + 3 < G.2.2.2.2.2.2.1) (hlen : G.2.2.2.2.2.2.1 < 2 ^ 31) (hkc : 40000 ≤ kc) (hks : 200000 ≤ ks) {r : Nat ⊕ Value} {v0 : Int32} (hx : Sp l G MX1_hoursOfOilByEnds 8 2061 8346 [.ref o] w (oA G o hl inp sb J cur hn hist sv ic on oc [16] r w)) (hr : rOk 1 r) (hy : ∀ w1 t, isMm w1 m A t J cur hn hist sv n ic on oc → Sp l G MX3_hoursOfOilByEnds 7 0 0 [.ref m] w1 (mA m A J cur hn hist sv n ic on oc (.int v0) r w1)) (kk : lNx l G mc ms kc ks i o hl inp sb m A ou od cur hn hist sv n ic on oc J) : WW (lX l G mc ms) kc ks 1436 (lLV G i o m ou od) [] w := by
  obtain ⟨hO, hJ0, ⟨t, J1, hm, j1, j2, j3⟩, ⟨fL, h35⟩, ⟨fD, h36⟩, hA⟩ := hL
  have hm := hm.j j1.symm j2.symm j3.symm
  refine WW.ok fun ok => ?_
  replace ok : wdOk G w := ok
  refine WW.run (pc' := 1438) (lv' := [(5, .int (nI i)), (4, .ref od), (3, .ref ou), (2, .ref m), (1, .ref o), (0, .ref (G.2.2.2.1 3))]) (st' := [.ref ou, .ref o]) 2 rfl ?_
  refine WW.callSH [.ref o, .ref ou] [] rfl mX0_233 (lW_hoursOfOilByEnds  hO h35 hx hr) rfl rfl (wd_le rfl) (wd_le rfl) (by omega) (by omega) (fun o w1 hq => ?_)
  obtain ⟨l1, hO1, fL1, k35, hq⟩ := hq
  have k36 := l1.2 _ _ _ h36 (Or.inr (Or.inr (Or.inl rfl)))
  have hm1 := hm.lFr hA l1
  obtain ⟨I1, F1, hM1, ht1⟩ := hm1.cell
  cases r with
  | inl p =>
    obtain rfl := hq
    have hp1 : 1 ≤ p := hr.1
    have hpN : p ≤ 1 := hr.2
    show WW _ _ _ 1441 _ [.int (nI p)] _
    refine WW.ok fun ok => ?_
    replace ok : wdOk G w1 := ok
    refine WW.run (pc' := 1444) (lv' := [(6, .int (nI p)), (5, .int (nI i)), (4, .ref od), (3, .ref ou), (2, .ref m), (1, .ref o), (0, .ref (G.2.2.2.1 3))]) (st' := [.ref m]) 2 rfl ?_
    refine WW.callV [] m [] rfl mX0_235 (hy w1 t hm1) (wdRecv.obj hM1.1 rfl) rfl rfl (wd_le rfl) (wd_le rfl) (by omega) (by omega) (fun o w2 hq => ?_)
    obtain ⟨rfl, hm2, fr2⟩ := hq
    show WW _ _ _ 1447 _ [.int v0] _
    have hO2 := isOf.mFr ok hO1 hM1 hA fr2
    have q35 := mFr.keep ok hM1 fr2 k35 (Or.inl rfl)
    have q36 := mFr.keep ok hM1 fr2 k36 (Or.inr rfl)
    obtain ⟨I2, F2, hM2, ht2⟩ := hm2.cell
    refine WW.run (pc' := 1450) (lv' := [(7, .int v0), (6, .int (nI p)), (5, .int (nI i)), (4, .ref od), (3, .ref ou), (2, .ref m), (1, .ref o), (0, .ref (G.2.2.2.1 3))]) (st' := [.ref m]) 2 rfl ?_
    refine WW.callV [] m [] rfl mX0_149 (sM_thrown hM2) (wdRecv.obj hM2.1 rfl) rfl rfl (wd_le rfl) (wd_le rfl) (by omega) (by omega) (fun o w' hq => ?_)
    obtain ⟨rfl, hw9⟩ := hq
    show WW _ _ _ 1453 _ [.int (I2 2)] _
    rw [hw9]
    clear hw9 w'
    rw [ht2]
    refine WW.run (pc' := 1455) (lv' := [(7, .int v0), (6, .int (nI p)), (5, .int (nI i)), (4, .ref od), (3, .ref ou), (2, .ref m), (1, .ref o), (0, .ref (G.2.2.2.1 3))]) (st' := [.int (nI p), .int (nI p)]) 1 rfl ?_
    refine WW.icmp_eq (tgt := 1460) rfl rfl (fun _ => ?_) (fun hno => absurd rfl hno)
    refine WW.run (pc' := 1462) (lv' := [(7, .int v0), (6, .int (nI p)), (5, .int (nI i)), (4, .ref od), (3, .ref ou), (2, .ref m), (1, .ref o), (0, .ref (G.2.2.2.1 3))]) (st' := [.int (nI p)]) 1 rfl ?_
    refine WW.if_ne (tgt := 1477) rfl rfl (fun _ => ?_) (fun hno => absurd hno (nI_ne0 hp1 (by omega)))
    refine WW.run (pc' := 2455) (lv' := [(7, .int v0), (6, .int (nI p)), (5, .int (nI i)), (4, .ref od), (3, .ref ou), (2, .ref m), (1, .ref o), (0, .ref (G.2.2.2.1 3))]) (st' := []) 1 rfl ?_
    refine WW.pick (lv' := [(5, .int (nI i)), (4, .ref od), (3, .ref ou), (2, .ref m), (1, .ref o), (0, .ref (G.2.2.2.1 3))]) [2, 3, 4, 5, 6, 7] rfl ?_
    exact WW.less (by omega) (by omega) (kk w2 ⟨hO2, hJ0, ⟨_, J, hm2, rfl, rfl, rfl⟩, ⟨_, q35⟩, ⟨_, q36⟩, hA⟩)
  | inr v =>
    obtain ⟨y, rfl⟩ := hr
    obtain ⟨rfl, hf0⟩ := hq
    have hf0 : fL1 0 = y.toInt64 := hf0
    show WW _ _ _ 1441 _ [.int (nI 0)] _
    refine WW.ok fun ok => ?_
    replace ok : wdOk G w1 := ok
    refine WW.run (pc' := 1444) (lv' := [(6, .int (nI 0)), (5, .int (nI i)), (4, .ref od), (3, .ref ou), (2, .ref m), (1, .ref o), (0, .ref (G.2.2.2.1 3))]) (st' := [.ref m]) 2 rfl ?_
    refine WW.callV [] m [] rfl mX0_235 (hy w1 t hm1) (wdRecv.obj hM1.1 rfl) rfl rfl (wd_le rfl) (wd_le rfl) (by omega) (by omega) (fun o w2 hq => ?_)
    obtain ⟨rfl, hm2, fr2⟩ := hq
    show WW _ _ _ 1447 _ [.int y] _
    have hO2 := isOf.mFr ok hO1 hM1 hA fr2
    have q35 := mFr.keep ok hM1 fr2 k35 (Or.inl rfl)
    have q36 := mFr.keep ok hM1 fr2 k36 (Or.inr rfl)
    obtain ⟨I2, F2, hM2, ht2⟩ := hm2.cell
    refine WW.run (pc' := 1450) (lv' := [(7, .int y), (6, .int (nI 0)), (5, .int (nI i)), (4, .ref od), (3, .ref ou), (2, .ref m), (1, .ref o), (0, .ref (G.2.2.2.1 3))]) (st' := [.ref m]) 2 rfl ?_
    refine WW.callV [] m [] rfl mX0_149 (sM_thrown hM2) (wdRecv.obj hM2.1 rfl) rfl rfl (wd_le rfl) (wd_le rfl) (by omega) (by omega) (fun o w' hq => ?_)
    obtain ⟨rfl, hw9⟩ := hq
    show WW _ _ _ 1453 _ [.int (I2 2)] _
    rw [hw9]
    clear hw9 w'
    rw [ht2]
    refine WW.run (pc' := 1455) (lv' := [(7, .int y), (6, .int (nI 0)), (5, .int (nI i)), (4, .ref od), (3, .ref ou), (2, .ref m), (1, .ref o), (0, .ref (G.2.2.2.1 3))]) (st' := [.int (nI 0), .int (nI 0)]) 1 rfl ?_
    refine WW.icmp_eq (tgt := 1460) rfl rfl (fun _ => ?_) (fun hno => absurd rfl hno)
    refine WW.run (pc' := 1462) (lv' := [(7, .int y), (6, .int (nI 0)), (5, .int (nI i)), (4, .ref od), (3, .ref ou), (2, .ref m), (1, .ref o), (0, .ref (G.2.2.2.1 3))]) (st' := [.int (nI 0)]) 1 rfl ?_
    refine WW.if_ne (tgt := 1477) rfl rfl (fun hno => absurd rfl hno) (fun _ => ?_)
    refine WW.run (pc' := 1467) (lv' := [(7, .int y), (6, .int (nI 0)), (5, .int (nI i)), (4, .ref od), (3, .ref ou), (2, .ref m), (1, .ref o), (0, .ref (G.2.2.2.1 3))]) (st' := [.int (nI 0), .ref ou]) 2 rfl ?_
    refine WW.lald rfl q35 one_in ?_
    show WW _ _ _ 1468 _ [.long (fL1 0)] _
    rw [hf0]
    refine WW.run (pc' := 1471) (lv' := [(7, .int y), (6, .int (nI 0)), (5, .int (nI i)), (4, .ref od), (3, .ref ou), (2, .ref m), (1, .ref o), (0, .ref (G.2.2.2.1 3))]) (st' := [.long y.toInt64, .long y.toInt64]) 2 rfl ?_
    refine WW.lcmp rfl ?_
    rw [lg_cmp_self]
    refine WW.if_eq (tgt := 1477) rfl rfl (fun _ => ?_) (fun hno => absurd rfl hno)
    refine WW.run (pc' := 2455) (lv' := [(7, .int y), (6, .int (nI 0)), (5, .int (nI i)), (4, .ref od), (3, .ref ou), (2, .ref m), (1, .ref o), (0, .ref (G.2.2.2.1 3))]) (st' := []) 1 rfl ?_
    refine WW.pick (lv' := [(5, .int (nI i)), (4, .ref od), (3, .ref ou), (2, .ref m), (1, .ref o), (0, .ref (G.2.2.2.1 3))]) [2, 3, 4, 5, 6, 7] rfl ?_
    exact WW.less (by omega) (by omega) (kk w2 ⟨hO2, hJ0, ⟨_, J, hm2, rfl, rfl, rfl⟩, ⟨_, q35⟩, ⟨_, q36⟩, hA⟩)
theorem lK26 (hL : lI G w o hl inp sb m A ou od cur hn hist sv n ic on oc J) (hi : i + 3 < G.2.2.2.2.2.2.1) (hlen : G.2.2.2.2.2.2.1 < 2 ^ 31) (hkc : 40000 ≤ kc) (hks : 200000 ≤ ks) {y v0 : Int32} (hx : Sp l G MX1_brightNext 6 61 344 [.ref o] w (oA G o hl inp sb J cur hn hist sv ic on oc [] (.inr (.int y)) w)) (hy : ∀ w1 t, isMm w1 m A t J cur hn hist sv n ic on oc → Sp l G MX3_brightNext 6 0 0 [.ref m] w1 (mA m A J cur hn hist sv n ic on oc (.int v0) (.inr (.int y)) w1)) (kk : lNx l G mc ms kc ks i o hl inp sb m A ou od cur hn hist sv n ic on oc J) : WW (lX l G mc ms) kc ks 1480 (lLV G i o m ou od) [] w := by
  obtain ⟨hO, hJ0, ⟨t, J1, hm, j1, j2, j3⟩, ⟨fL, h35⟩, ⟨fD, h36⟩, hA⟩ := hL
  have hm := hm.j j1.symm j2.symm j3.symm
  refine WW.ok fun ok => ?_
  replace ok : wdOk G w := ok
  obtain ⟨fs, hc⟩ := hO.cell
  refine WW.run (pc' := 1481) (lv' := [(5, .int (nI i)), (4, .ref od), (3, .ref ou), (2, .ref m), (1, .ref o), (0, .ref (G.2.2.2.1 3))]) (st' := [.ref o]) 1 rfl ?_
  refine WW.callV [] o [] rfl mX0_236 hx (wdRecv.obj hc rfl) rfl rfl (wd_le rfl) (wd_le rfl) (by omega) (by omega) (fun o w1 hq => ?_)
  obtain ⟨f1, hO1, rfl⟩ := hq
  have l1 : lFr inp 35 w w1 := lFr.of (Or.inl rfl) f1
  have k35 := f1.2 _ _ _ h35 (Or.inr (Or.inr (Or.inl rfl)))
  have k36 := f1.2 _ _ _ h36 (Or.inr (Or.inr (Or.inr (Or.inl rfl))))
  have hm1 := hm.lFr hA l1
  obtain ⟨I1, F1, hM1, ht1⟩ := hm1.cell
  show WW _ _ _ 1484 _ [.int y] _
  refine WW.ok fun ok => ?_
  replace ok : wdOk G w1 := ok
  refine WW.run (pc' := 1485) (lv' := [(5, .int (nI i)), (4, .ref od), (3, .ref ou), (2, .ref m), (1, .ref o), (0, .ref (G.2.2.2.1 3))]) (st' := [.ref m, .int y]) 1 rfl ?_
  refine WW.callV [] m [.int y] rfl mX0_239 (hy w1 t hm1) (wdRecv.obj hM1.1 rfl) rfl rfl (wd_le rfl) (wd_le rfl) (by omega) (by omega) (fun o w2 hq => ?_)
  obtain ⟨rfl, hm2, fr2⟩ := hq
  show WW _ _ _ 1488 _ [.int y, .int y] _
  have hO2 := isOf.mFr ok hO1 hM1 hA fr2
  have q35 := mFr.keep ok hM1 fr2 k35 (Or.inl rfl)
  have q36 := mFr.keep ok hM1 fr2 k36 (Or.inr rfl)
  refine WW.icmp_eq (tgt := 2455) rfl rfl (fun _ => ?_) (fun hno => absurd rfl hno)
  exact WW.less (by omega) (by omega) (kk w2 ⟨hO2, hJ0, ⟨_, J, hm2, rfl, rfl, rfl⟩, ⟨_, q35⟩, ⟨_, q36⟩, hA⟩)
theorem lK27 (hL : lI G w o hl inp sb m A ou od cur hn hist sv n ic on oc J) (hi : i + 3 < G.2.2.2.2.2.2.1) (hlen : G.2.2.2.2.2.2.1 < 2 ^ 31) (hkc : 40000 ≤ kc) (hks : 200000 ≤ ks) {y v0 : Int32} (hx : Sp l G MX1_mostBright 8 2061 8346 [.ref o] w (oA G o hl inp sb J cur hn hist sv ic on oc [] (.inr (.int y)) w)) (hy : ∀ w1 t, isMm w1 m A t J cur hn hist sv n ic on oc → Sp l G MX3_mostBright 6 0 0 [.ref m] w1 (mA m A J cur hn hist sv n ic on oc (.int v0) (.inr (.int y)) w1)) (kk : lNx l G mc ms kc ks i o hl inp sb m A ou od cur hn hist sv n ic on oc J) : WW (lX l G mc ms) kc ks 1493 (lLV G i o m ou od) [] w := by
  obtain ⟨hO, hJ0, ⟨t, J1, hm, j1, j2, j3⟩, ⟨fL, h35⟩, ⟨fD, h36⟩, hA⟩ := hL
  have hm := hm.j j1.symm j2.symm j3.symm
  refine WW.ok fun ok => ?_
  replace ok : wdOk G w := ok
  obtain ⟨fs, hc⟩ := hO.cell
  refine WW.run (pc' := 1494) (lv' := [(5, .int (nI i)), (4, .ref od), (3, .ref ou), (2, .ref m), (1, .ref o), (0, .ref (G.2.2.2.1 3))]) (st' := [.ref o]) 1 rfl ?_
  refine WW.callV [] o [] rfl mX0_240 hx (wdRecv.obj hc rfl) rfl rfl (wd_le rfl) (wd_le rfl) (by omega) (by omega) (fun o w1 hq => ?_)
  obtain ⟨f1, hO1, rfl⟩ := hq
  have l1 : lFr inp 35 w w1 := lFr.of (Or.inl rfl) f1
  have k35 := f1.2 _ _ _ h35 (Or.inr (Or.inr (Or.inl rfl)))
  have k36 := f1.2 _ _ _ h36 (Or.inr (Or.inr (Or.inr (Or.inl rfl))))
  have hm1 := hm.lFr hA l1
  obtain ⟨I1, F1, hM1, ht1⟩ := hm1.cell
  show WW _ _ _ 1497 _ [.int y] _
  refine WW.ok fun ok => ?_
  replace ok : wdOk G w1 := ok
  refine WW.run (pc' := 1498) (lv' := [(5, .int (nI i)), (4, .ref od), (3, .ref ou), (2, .ref m), (1, .ref o), (0, .ref (G.2.2.2.1 3))]) (st' := [.ref m, .int y]) 1 rfl ?_
  refine WW.callV [] m [.int y] rfl mX0_243 (hy w1 t hm1) (wdRecv.obj hM1.1 rfl) rfl rfl (wd_le rfl) (wd_le rfl) (by omega) (by omega) (fun o w2 hq => ?_)
  obtain ⟨rfl, hm2, fr2⟩ := hq
  show WW _ _ _ 1501 _ [.int y, .int y] _
  have hO2 := isOf.mFr ok hO1 hM1 hA fr2
  have q35 := mFr.keep ok hM1 fr2 k35 (Or.inl rfl)
  have q36 := mFr.keep ok hM1 fr2 k36 (Or.inr rfl)
  refine WW.icmp_eq (tgt := 2455) rfl rfl (fun _ => ?_) (fun hno => absurd rfl hno)
  exact WW.less (by omega) (by omega) (kk w2 ⟨hO2, hJ0, ⟨_, J, hm2, rfl, rfl, rfl⟩, ⟨_, q35⟩, ⟨_, q36⟩, hA⟩)
theorem lK28 (hL : lI G w o hl inp sb m A ou od cur hn hist sv n ic on oc J) (hi : i + 3 < G.2.2.2.2.2.2.1) (hlen : G.2.2.2.2.2.2.1 < 2 ^ 31) (hkc : 40000 ≤ kc) (hks : 200000 ≤ ks) {y v0 : Int32} (hx : Sp l G MX1_mostBrightBySums 8 2061 8346 [.ref o] w (oA G o hl inp sb J cur hn hist sv ic on oc [] (.inr (.int y)) w)) (hy : ∀ w1 t, isMm w1 m A t J cur hn hist sv n ic on oc → Sp l G MX3_mostBrightBySums 7 0 0 [.ref m] w1 (mA m A J cur hn hist sv n ic on oc (.int v0) (.inr (.int y)) w1)) (kk : lNx l G mc ms kc ks i o hl inp sb m A ou od cur hn hist sv n ic on oc J) : WW (lX l G mc ms) kc ks 1506 (lLV G i o m ou od) [] w := by
  obtain ⟨hO, hJ0, ⟨t, J1, hm, j1, j2, j3⟩, ⟨fL, h35⟩, ⟨fD, h36⟩, hA⟩ := hL
  have hm := hm.j j1.symm j2.symm j3.symm
  refine WW.ok fun ok => ?_
  replace ok : wdOk G w := ok
  obtain ⟨fs, hc⟩ := hO.cell
  refine WW.run (pc' := 1507) (lv' := [(5, .int (nI i)), (4, .ref od), (3, .ref ou), (2, .ref m), (1, .ref o), (0, .ref (G.2.2.2.1 3))]) (st' := [.ref o]) 1 rfl ?_
  refine WW.callV [] o [] rfl mX0_244 hx (wdRecv.obj hc rfl) rfl rfl (wd_le rfl) (wd_le rfl) (by omega) (by omega) (fun o w1 hq => ?_)
  obtain ⟨f1, hO1, rfl⟩ := hq
  have l1 : lFr inp 35 w w1 := lFr.of (Or.inl rfl) f1
  have k35 := f1.2 _ _ _ h35 (Or.inr (Or.inr (Or.inl rfl)))
  have k36 := f1.2 _ _ _ h36 (Or.inr (Or.inr (Or.inr (Or.inl rfl))))
  have hm1 := hm.lFr hA l1
  obtain ⟨I1, F1, hM1, ht1⟩ := hm1.cell
  show WW _ _ _ 1510 _ [.int y] _
  refine WW.ok fun ok => ?_
  replace ok : wdOk G w1 := ok
  refine WW.run (pc' := 1511) (lv' := [(5, .int (nI i)), (4, .ref od), (3, .ref ou), (2, .ref m), (1, .ref o), (0, .ref (G.2.2.2.1 3))]) (st' := [.ref m, .int y]) 1 rfl ?_
  refine WW.callV [] m [.int y] rfl mX0_247 (hy w1 t hm1) (wdRecv.obj hM1.1 rfl) rfl rfl (wd_le rfl) (wd_le rfl) (by omega) (by omega) (fun o w2 hq => ?_)
  obtain ⟨rfl, hm2, fr2⟩ := hq
  show WW _ _ _ 1514 _ [.int y, .int y] _
  have hO2 := isOf.mFr ok hO1 hM1 hA fr2
  have q35 := mFr.keep ok hM1 fr2 k35 (Or.inl rfl)
  have q36 := mFr.keep ok hM1 fr2 k36 (Or.inr rfl)
  refine WW.icmp_eq (tgt := 2455) rfl rfl (fun _ => ?_) (fun hno => absurd rfl hno)
  exact WW.less (by omega) (by omega) (kk w2 ⟨hO2, hJ0, ⟨_, J, hm2, rfl, rfl, rfl⟩, ⟨_, q35⟩, ⟨_, q36⟩, hA⟩)
theorem lK29 (hL : lI G w o hl inp sb m A ou od cur hn hist sv n ic on oc J) (hi : i + 3 < G.2.2.2.2.2.2.1) (hlen : G.2.2.2.2.2.2.1 < 2 ^ 31) (hkc : 40000 ≤ kc) (hks : 200000 ≤ ks) {r : Nat ⊕ Value} {v0 : Int32} (hx : Sp l G MX1_share 8 2061 8346 [.ref o, .int (G.2.2.2.2.2.2.2 (i + 1))] w (oA G o hl inp sb J cur hn hist sv ic on oc [13] r w)) (hr : rOk 1 r) (hy : ∀ w1 t, isMm w1 m A t J cur hn hist sv n ic on oc → Sp l G MX3_share 6 0 0 [.ref m, .int (G.2.2.2.2.2.2.2 (i + 1))] w1 (mA m A J cur hn hist sv n ic on oc (.int v0) r w1)) (kk : lNx l G mc ms kc ks i o hl inp sb m A ou od cur hn hist sv n ic on oc J) : WW (lX l G mc ms) kc ks 1519 (lLV G i o m ou od) [] w := by
  obtain ⟨hO, hJ0, ⟨t, J1, hm, j1, j2, j3⟩, ⟨fL, h35⟩, ⟨fD, h36⟩, hA⟩ := hL
  have hm := hm.j j1.symm j2.symm j3.symm
  refine WW.ok fun ok => ?_
  replace ok : wdOk G w := ok
  refine WW.run (pc' := 1525) (lv' := [(5, .int (nI i)), (4, .ref od), (3, .ref ou), (2, .ref m), (1, .ref o), (0, .ref (G.2.2.2.1 3))]) (st' := [.int ((nI i) + (nI 1)), .ref (G.2.2.2.1 3), .ref o]) 5 rfl ?_
  refine WW.scr (i + 1) rfl (wn_add rfl rfl) (by show _ < G.2.2.2.2.2.2.1; omega) hlen ?_
  refine WW.run (pc' := 1527) (lv' := [(5, .int (nI i)), (4, .ref od), (3, .ref ou), (2, .ref m), (1, .ref o), (0, .ref (G.2.2.2.1 3))]) (st' := [.ref ou, .int (G.2.2.2.2.2.2.2 (i + 1)), .ref o]) 1 rfl ?_
  refine WW.callSH [.ref o, .int (G.2.2.2.2.2.2.2 (i + 1)), .ref ou] [] rfl mX0_248 (lW_share (G.2.2.2.2.2.2.2 (i + 1)) hO h35 hx hr) rfl rfl (wd_le rfl) (wd_le rfl) (by omega) (by omega) (fun o w1 hq => ?_)
  obtain ⟨l1, hO1, fL1, k35, hq⟩ := hq
  have k36 := l1.2 _ _ _ h36 (Or.inr (Or.inr (Or.inl rfl)))
  have hm1 := hm.lFr hA l1
  obtain ⟨I1, F1, hM1, ht1⟩ := hm1.cell
  cases r with
  | inl p =>
    obtain rfl := hq
    have hp1 : 1 ≤ p := hr.1
    have hpN : p ≤ 1 := hr.2
    show WW _ _ _ 1530 _ [.int (nI p)] _
    refine WW.ok fun ok => ?_
    replace ok : wdOk G w1 := ok
    refine WW.run (pc' := 1538) (lv' := [(6, .int (nI p)), (5, .int (nI i)), (4, .ref od), (3, .ref ou), (2, .ref m), (1, .ref o), (0, .ref (G.2.2.2.1 3))]) (st' := [.int ((nI i) + (nI 1)), .ref (G.2.2.2.1 3), .ref m]) 6 rfl ?_
    refine WW.scr (i + 1) rfl (wn_add rfl rfl) (by show _ < G.2.2.2.2.2.2.1; omega) hlen ?_
    refine WW.callV [.int (G.2.2.2.2.2.2.2 (i + 1))] m [] rfl mX0_250 (hy w1 t hm1) (wdRecv.obj hM1.1 rfl) rfl rfl (wd_le rfl) (wd_le rfl) (by omega) (by omega) (fun o w2 hq => ?_)
    obtain ⟨rfl, hm2, fr2⟩ := hq
    show WW _ _ _ 1542 _ [.int v0] _
    have hO2 := isOf.mFr ok hO1 hM1 hA fr2
    have q35 := mFr.keep ok hM1 fr2 k35 (Or.inl rfl)
    have q36 := mFr.keep ok hM1 fr2 k36 (Or.inr rfl)
    obtain ⟨I2, F2, hM2, ht2⟩ := hm2.cell
    refine WW.run (pc' := 1545) (lv' := [(7, .int v0), (6, .int (nI p)), (5, .int (nI i)), (4, .ref od), (3, .ref ou), (2, .ref m), (1, .ref o), (0, .ref (G.2.2.2.1 3))]) (st' := [.ref m]) 2 rfl ?_
    refine WW.callV [] m [] rfl mX0_149 (sM_thrown hM2) (wdRecv.obj hM2.1 rfl) rfl rfl (wd_le rfl) (wd_le rfl) (by omega) (by omega) (fun o w' hq => ?_)
    obtain ⟨rfl, hw9⟩ := hq
    show WW _ _ _ 1548 _ [.int (I2 2)] _
    rw [hw9]
    clear hw9 w'
    rw [ht2]
    refine WW.run (pc' := 1550) (lv' := [(7, .int v0), (6, .int (nI p)), (5, .int (nI i)), (4, .ref od), (3, .ref ou), (2, .ref m), (1, .ref o), (0, .ref (G.2.2.2.1 3))]) (st' := [.int (nI p), .int (nI p)]) 1 rfl ?_
    refine WW.icmp_eq (tgt := 1555) rfl rfl (fun _ => ?_) (fun hno => absurd rfl hno)
    refine WW.run (pc' := 1557) (lv' := [(7, .int v0), (6, .int (nI p)), (5, .int (nI i)), (4, .ref od), (3, .ref ou), (2, .ref m), (1, .ref o), (0, .ref (G.2.2.2.1 3))]) (st' := [.int (nI p)]) 1 rfl ?_
    refine WW.if_ne (tgt := 1572) rfl rfl (fun _ => ?_) (fun hno => absurd hno (nI_ne0 hp1 (by omega)))
    refine WW.run (pc' := 2455) (lv' := [(7, .int v0), (6, .int (nI p)), (5, .int (nI i)), (4, .ref od), (3, .ref ou), (2, .ref m), (1, .ref o), (0, .ref (G.2.2.2.1 3))]) (st' := []) 1 rfl ?_
    refine WW.pick (lv' := [(5, .int (nI i)), (4, .ref od), (3, .ref ou), (2, .ref m), (1, .ref o), (0, .ref (G.2.2.2.1 3))]) [2, 3, 4, 5, 6, 7] rfl ?_
    exact WW.less (by omega) (by omega) (kk w2 ⟨hO2, hJ0, ⟨_, J, hm2, rfl, rfl, rfl⟩, ⟨_, q35⟩, ⟨_, q36⟩, hA⟩)
  | inr v =>
    obtain ⟨y, rfl⟩ := hr
    obtain ⟨rfl, hf0⟩ := hq
    have hf0 : fL1 0 = y.toInt64 := hf0
    show WW _ _ _ 1530 _ [.int (nI 0)] _
    refine WW.ok fun ok => ?_
    replace ok : wdOk G w1 := ok
    refine WW.run (pc' := 1538) (lv' := [(6, .int (nI 0)), (5, .int (nI i)), (4, .ref od), (3, .ref ou), (2, .ref m), (1, .ref o), (0, .ref (G.2.2.2.1 3))]) (st' := [.int ((nI i) + (nI 1)), .ref (G.2.2.2.1 3), .ref m]) 6 rfl ?_
    refine WW.scr (i + 1) rfl (wn_add rfl rfl) (by show _ < G.2.2.2.2.2.2.1; omega) hlen ?_
    refine WW.callV [.int (G.2.2.2.2.2.2.2 (i + 1))] m [] rfl mX0_250 (hy w1 t hm1) (wdRecv.obj hM1.1 rfl) rfl rfl (wd_le rfl) (wd_le rfl) (by omega) (by omega) (fun o w2 hq => ?_)
    obtain ⟨rfl, hm2, fr2⟩ := hq
    show WW _ _ _ 1542 _ [.int y] _
    have hO2 := isOf.mFr ok hO1 hM1 hA fr2
    have q35 := mFr.keep ok hM1 fr2 k35 (Or.inl rfl)
    have q36 := mFr.keep ok hM1 fr2 k36 (Or.inr rfl)
    obtain ⟨I2, F2, hM2, ht2⟩ := hm2.cell
    refine WW.run (pc' := 1545) (lv' := [(7, .int y), (6, .int (nI 0)), (5, .int (nI i)), (4, .ref od), (3, .ref ou), (2, .ref m), (1, .ref o), (0, .ref (G.2.2.2.1 3))]) (st' := [.ref m]) 2 rfl ?_
    refine WW.callV [] m [] rfl mX0_149 (sM_thrown hM2) (wdRecv.obj hM2.1 rfl) rfl rfl (wd_le rfl) (wd_le rfl) (by omega) (by omega) (fun o w' hq => ?_)
    obtain ⟨rfl, hw9⟩ := hq
    show WW _ _ _ 1548 _ [.int (I2 2)] _
    rw [hw9]
    clear hw9 w'
    rw [ht2]
    refine WW.run (pc' := 1550) (lv' := [(7, .int y), (6, .int (nI 0)), (5, .int (nI i)), (4, .ref od), (3, .ref ou), (2, .ref m), (1, .ref o), (0, .ref (G.2.2.2.1 3))]) (st' := [.int (nI 0), .int (nI 0)]) 1 rfl ?_
    refine WW.icmp_eq (tgt := 1555) rfl rfl (fun _ => ?_) (fun hno => absurd rfl hno)
    refine WW.run (pc' := 1557) (lv' := [(7, .int y), (6, .int (nI 0)), (5, .int (nI i)), (4, .ref od), (3, .ref ou), (2, .ref m), (1, .ref o), (0, .ref (G.2.2.2.1 3))]) (st' := [.int (nI 0)]) 1 rfl ?_
    refine WW.if_ne (tgt := 1572) rfl rfl (fun hno => absurd rfl hno) (fun _ => ?_)
    refine WW.run (pc' := 1562) (lv' := [(7, .int y), (6, .int (nI 0)), (5, .int (nI i)), (4, .ref od), (3, .ref ou), (2, .ref m), (1, .ref o), (0, .ref (G.2.2.2.1 3))]) (st' := [.int (nI 0), .ref ou]) 2 rfl ?_
    refine WW.lald rfl q35 one_in ?_
    show WW _ _ _ 1563 _ [.long (fL1 0)] _
    rw [hf0]
    refine WW.run (pc' := 1566) (lv' := [(7, .int y), (6, .int (nI 0)), (5, .int (nI i)), (4, .ref od), (3, .ref ou), (2, .ref m), (1, .ref o), (0, .ref (G.2.2.2.1 3))]) (st' := [.long y.toInt64, .long y.toInt64]) 2 rfl ?_
    refine WW.lcmp rfl ?_
    rw [lg_cmp_self]
    refine WW.if_eq (tgt := 1572) rfl rfl (fun _ => ?_) (fun hno => absurd rfl hno)
    refine WW.run (pc' := 2455) (lv' := [(7, .int y), (6, .int (nI 0)), (5, .int (nI i)), (4, .ref od), (3, .ref ou), (2, .ref m), (1, .ref o), (0, .ref (G.2.2.2.1 3))]) (st' := []) 1 rfl ?_
    refine WW.pick (lv' := [(5, .int (nI i)), (4, .ref od), (3, .ref ou), (2, .ref m), (1, .ref o), (0, .ref (G.2.2.2.1 3))]) [2, 3, 4, 5, 6, 7] rfl ?_
    exact WW.less (by omega) (by omega) (kk w2 ⟨hO2, hJ0, ⟨_, J, hm2, rfl, rfl, rfl⟩, ⟨_, q35⟩, ⟨_, q36⟩, hA⟩)
theorem lK30 (hL : lI G w o hl inp sb m A ou od cur hn hist sv n ic on oc J) (hi : i + 3 < G.2.2.2.2.2.2.1) (hlen : G.2.2.2.2.2.2.1 < 2 ^ 31) (hkc : 40000 ≤ kc) (hks : 200000 ≤ ks) {r : Nat ⊕ Value} {v0 : Int32} (hx : Sp l G MX1_shareByRank 8 2061 8346 [.ref o, .int (G.2.2.2.2.2.2.2 (i + 1))] w (oA G o hl inp sb J cur hn hist sv ic on oc [13] r w)) (hr : rOk 1 r) (hy : ∀ w1 t, isMm w1 m A t J cur hn hist sv n ic on oc → Sp l G MX3_shareByRank 7 0 0 [.ref m, .int (G.2.2.2.2.2.2.2 (i + 1))] w1 (mA m A J cur hn hist sv n ic on oc (.int v0) r w1)) (kk : lNx l G mc ms kc ks i o hl inp sb m A ou od cur hn hist sv n ic on oc J) : WW (lX l G mc ms) kc ks 1575 (lLV G i o m ou od) [] w := by
  obtain ⟨hO, hJ0, ⟨t, J1, hm, j1, j2, j3⟩, ⟨fL, h35⟩, ⟨fD, h36⟩, hA⟩ := hL
  have hm := hm.j j1.symm j2.symm j3.symm
  refine WW.ok fun ok => ?_
  replace ok : wdOk G w := ok
  refine WW.run (pc' := 1581) (lv' := [(5, .int (nI i)), (4, .ref od), (3, .ref ou), (2, .ref m), (1, .ref o), (0, .ref (G.2.2.2.1 3))]) (st' := [.int ((nI i) + (nI 1)), .ref (G.2.2.2.1 3), .ref o]) 5 rfl ?_
  refine WW.scr (i + 1) rfl (wn_add rfl rfl) (by show _ < G.2.2.2.2.2.2.1; omega) hlen ?_
  refine WW.run (pc' := 1583) (lv' := [(5, .int (nI i)), (4, .ref od), (3, .ref ou), (2, .ref m), (1, .ref o), (0, .ref (G.2.2.2.1 3))]) (st' := [.ref ou, .int (G.2.2.2.2.2.2.2 (i + 1)), .ref o]) 1 rfl ?_
  refine WW.callSH [.ref o, .int (G.2.2.2.2.2.2.2 (i + 1)), .ref ou] [] rfl mX0_251 (lW_shareByRank (G.2.2.2.2.2.2.2 (i + 1)) hO h35 hx hr) rfl rfl (wd_le rfl) (wd_le rfl) (by omega) (by omega) (fun o w1 hq => ?_)
  obtain ⟨l1, hO1, fL1, k35, hq⟩ := hq
  have k36 := l1.2 _ _ _ h36 (Or.inr (Or.inr (Or.inl rfl)))
  have hm1 := hm.lFr hA l1
  obtain ⟨I1, F1, hM1, ht1⟩ := hm1.cell
  cases r with
  | inl p =>
    obtain rfl := hq
    have hp1 : 1 ≤ p := hr.1
    have hpN : p ≤ 1 := hr.2
    show WW _ _ _ 1586 _ [.int (nI p)] _
    refine WW.ok fun ok => ?_
    replace ok : wdOk G w1 := ok
    refine WW.run (pc' := 1594) (lv' := [(6, .int (nI p)), (5, .int (nI i)), (4, .ref od), (3, .ref ou), (2, .ref m), (1, .ref o), (0, .ref (G.2.2.2.1 3))]) (st' := [.int ((nI i) + (nI 1)), .ref (G.2.2.2.1 3), .ref m]) 6 rfl ?_
    refine WW.scr (i + 1) rfl (wn_add rfl rfl) (by show _ < G.2.2.2.2.2.2.1; omega) hlen ?_
    refine WW.callV [.int (G.2.2.2.2.2.2.2 (i + 1))] m [] rfl mX0_253 (hy w1 t hm1) (wdRecv.obj hM1.1 rfl) rfl rfl (wd_le rfl) (wd_le rfl) (by omega) (by omega) (fun o w2 hq => ?_)
    obtain ⟨rfl, hm2, fr2⟩ := hq
    show WW _ _ _ 1598 _ [.int v0] _
    have hO2 := isOf.mFr ok hO1 hM1 hA fr2
    have q35 := mFr.keep ok hM1 fr2 k35 (Or.inl rfl)
    have q36 := mFr.keep ok hM1 fr2 k36 (Or.inr rfl)
    obtain ⟨I2, F2, hM2, ht2⟩ := hm2.cell
    refine WW.run (pc' := 1601) (lv' := [(7, .int v0), (6, .int (nI p)), (5, .int (nI i)), (4, .ref od), (3, .ref ou), (2, .ref m), (1, .ref o), (0, .ref (G.2.2.2.1 3))]) (st' := [.ref m]) 2 rfl ?_
    refine WW.callV [] m [] rfl mX0_149 (sM_thrown hM2) (wdRecv.obj hM2.1 rfl) rfl rfl (wd_le rfl) (wd_le rfl) (by omega) (by omega) (fun o w' hq => ?_)
    obtain ⟨rfl, hw9⟩ := hq
    show WW _ _ _ 1604 _ [.int (I2 2)] _
    rw [hw9]
    clear hw9 w'
    rw [ht2]
    refine WW.run (pc' := 1606) (lv' := [(7, .int v0), (6, .int (nI p)), (5, .int (nI i)), (4, .ref od), (3, .ref ou), (2, .ref m), (1, .ref o), (0, .ref (G.2.2.2.1 3))]) (st' := [.int (nI p), .int (nI p)]) 1 rfl ?_
    refine WW.icmp_eq (tgt := 1611) rfl rfl (fun _ => ?_) (fun hno => absurd rfl hno)
    refine WW.run (pc' := 1613) (lv' := [(7, .int v0), (6, .int (nI p)), (5, .int (nI i)), (4, .ref od), (3, .ref ou), (2, .ref m), (1, .ref o), (0, .ref (G.2.2.2.1 3))]) (st' := [.int (nI p)]) 1 rfl ?_
    refine WW.if_ne (tgt := 1628) rfl rfl (fun _ => ?_) (fun hno => absurd hno (nI_ne0 hp1 (by omega)))
    refine WW.run (pc' := 2455) (lv' := [(7, .int v0), (6, .int (nI p)), (5, .int (nI i)), (4, .ref od), (3, .ref ou), (2, .ref m), (1, .ref o), (0, .ref (G.2.2.2.1 3))]) (st' := []) 1 rfl ?_
    refine WW.pick (lv' := [(5, .int (nI i)), (4, .ref od), (3, .ref ou), (2, .ref m), (1, .ref o), (0, .ref (G.2.2.2.1 3))]) [2, 3, 4, 5, 6, 7] rfl ?_
    exact WW.less (by omega) (by omega) (kk w2 ⟨hO2, hJ0, ⟨_, J, hm2, rfl, rfl, rfl⟩, ⟨_, q35⟩, ⟨_, q36⟩, hA⟩)
  | inr v =>
    obtain ⟨y, rfl⟩ := hr
    obtain ⟨rfl, hf0⟩ := hq
    have hf0 : fL1 0 = y.toInt64 := hf0
    show WW _ _ _ 1586 _ [.int (nI 0)] _
    refine WW.ok fun ok => ?_
    replace ok : wdOk G w1 := ok
    refine WW.run (pc' := 1594) (lv' := [(6, .int (nI 0)), (5, .int (nI i)), (4, .ref od), (3, .ref ou), (2, .ref m), (1, .ref o), (0, .ref (G.2.2.2.1 3))]) (st' := [.int ((nI i) + (nI 1)), .ref (G.2.2.2.1 3), .ref m]) 6 rfl ?_
    refine WW.scr (i + 1) rfl (wn_add rfl rfl) (by show _ < G.2.2.2.2.2.2.1; omega) hlen ?_
    refine WW.callV [.int (G.2.2.2.2.2.2.2 (i + 1))] m [] rfl mX0_253 (hy w1 t hm1) (wdRecv.obj hM1.1 rfl) rfl rfl (wd_le rfl) (wd_le rfl) (by omega) (by omega) (fun o w2 hq => ?_)
    obtain ⟨rfl, hm2, fr2⟩ := hq
    show WW _ _ _ 1598 _ [.int y] _
    have hO2 := isOf.mFr ok hO1 hM1 hA fr2
    have q35 := mFr.keep ok hM1 fr2 k35 (Or.inl rfl)
    have q36 := mFr.keep ok hM1 fr2 k36 (Or.inr rfl)
    obtain ⟨I2, F2, hM2, ht2⟩ := hm2.cell
    refine WW.run (pc' := 1601) (lv' := [(7, .int y), (6, .int (nI 0)), (5, .int (nI i)), (4, .ref od), (3, .ref ou), (2, .ref m), (1, .ref o), (0, .ref (G.2.2.2.1 3))]) (st' := [.ref m]) 2 rfl ?_
    refine WW.callV [] m [] rfl mX0_149 (sM_thrown hM2) (wdRecv.obj hM2.1 rfl) rfl rfl (wd_le rfl) (wd_le rfl) (by omega) (by omega) (fun o w' hq => ?_)
    obtain ⟨rfl, hw9⟩ := hq
    show WW _ _ _ 1604 _ [.int (I2 2)] _
    rw [hw9]
    clear hw9 w'
    rw [ht2]
    refine WW.run (pc' := 1606) (lv' := [(7, .int y), (6, .int (nI 0)), (5, .int (nI i)), (4, .ref od), (3, .ref ou), (2, .ref m), (1, .ref o), (0, .ref (G.2.2.2.1 3))]) (st' := [.int (nI 0), .int (nI 0)]) 1 rfl ?_
    refine WW.icmp_eq (tgt := 1611) rfl rfl (fun _ => ?_) (fun hno => absurd rfl hno)
    refine WW.run (pc' := 1613) (lv' := [(7, .int y), (6, .int (nI 0)), (5, .int (nI i)), (4, .ref od), (3, .ref ou), (2, .ref m), (1, .ref o), (0, .ref (G.2.2.2.1 3))]) (st' := [.int (nI 0)]) 1 rfl ?_
    refine WW.if_ne (tgt := 1628) rfl rfl (fun hno => absurd rfl hno) (fun _ => ?_)
    refine WW.run (pc' := 1618) (lv' := [(7, .int y), (6, .int (nI 0)), (5, .int (nI i)), (4, .ref od), (3, .ref ou), (2, .ref m), (1, .ref o), (0, .ref (G.2.2.2.1 3))]) (st' := [.int (nI 0), .ref ou]) 2 rfl ?_
    refine WW.lald rfl q35 one_in ?_
    show WW _ _ _ 1619 _ [.long (fL1 0)] _
    rw [hf0]
    refine WW.run (pc' := 1622) (lv' := [(7, .int y), (6, .int (nI 0)), (5, .int (nI i)), (4, .ref od), (3, .ref ou), (2, .ref m), (1, .ref o), (0, .ref (G.2.2.2.1 3))]) (st' := [.long y.toInt64, .long y.toInt64]) 2 rfl ?_
    refine WW.lcmp rfl ?_
    rw [lg_cmp_self]
    refine WW.if_eq (tgt := 1628) rfl rfl (fun _ => ?_) (fun hno => absurd rfl hno)
    refine WW.run (pc' := 2455) (lv' := [(7, .int y), (6, .int (nI 0)), (5, .int (nI i)), (4, .ref od), (3, .ref ou), (2, .ref m), (1, .ref o), (0, .ref (G.2.2.2.1 3))]) (st' := []) 1 rfl ?_
    refine WW.pick (lv' := [(5, .int (nI i)), (4, .ref od), (3, .ref ou), (2, .ref m), (1, .ref o), (0, .ref (G.2.2.2.1 3))]) [2, 3, 4, 5, 6, 7] rfl ?_
    exact WW.less (by omega) (by omega) (kk w2 ⟨hO2, hJ0, ⟨_, J, hm2, rfl, rfl, rfl⟩, ⟨_, q35⟩, ⟨_, q36⟩, hA⟩)
theorem lK31 (hL : lI G w o hl inp sb m A ou od cur hn hist sv n ic on oc J) (hi : i + 3 < G.2.2.2.2.2.2.1) (hlen : G.2.2.2.2.2.2.1 < 2 ^ 31) (hkc : 40000 ≤ kc) (hks : 200000 ≤ ks) {y v0 : Int32} (hx : Sp l G MX1_requestCount 1 0 0 [.ref o] w (oA G o hl inp sb J cur hn hist sv ic on oc [] (.inr (.int y)) w)) (hy : ∀ w1 t, isMm w1 m A t J cur hn hist sv n ic on oc → Sp l G MX3_requestCount 6 0 0 [.ref m] w1 (mA m A J cur hn hist sv n ic on oc (.int v0) (.inr (.int y)) w1)) (kk : lNx l G mc ms kc ks i o hl inp sb m A ou od cur hn hist sv n ic on oc J) : WW (lX l G mc ms) kc ks 1631 (lLV G i o m ou od) [] w := by
  obtain ⟨hO, hJ0, ⟨t, J1, hm, j1, j2, j3⟩, ⟨fL, h35⟩, ⟨fD, h36⟩, hA⟩ := hL
  have hm := hm.j j1.symm j2.symm j3.symm
  refine WW.ok fun ok => ?_
  replace ok : wdOk G w := ok
  obtain ⟨fs, hc⟩ := hO.cell
  refine WW.run (pc' := 1632) (lv' := [(5, .int (nI i)), (4, .ref od), (3, .ref ou), (2, .ref m), (1, .ref o), (0, .ref (G.2.2.2.1 3))]) (st' := [.ref o]) 1 rfl ?_
  refine WW.callV [] o [] rfl mX0_254 hx (wdRecv.obj hc rfl) rfl rfl (wd_le rfl) (wd_le rfl) (by omega) (by omega) (fun o w1 hq => ?_)
  obtain ⟨f1, hO1, rfl⟩ := hq
  have l1 : lFr inp 35 w w1 := lFr.of (Or.inl rfl) f1
  have k35 := f1.2 _ _ _ h35 (Or.inr (Or.inr (Or.inl rfl)))
  have k36 := f1.2 _ _ _ h36 (Or.inr (Or.inr (Or.inr (Or.inl rfl))))
  have hm1 := hm.lFr hA l1
  obtain ⟨I1, F1, hM1, ht1⟩ := hm1.cell
  show WW _ _ _ 1635 _ [.int y] _
  refine WW.ok fun ok => ?_
  replace ok : wdOk G w1 := ok
  refine WW.run (pc' := 1636) (lv' := [(5, .int (nI i)), (4, .ref od), (3, .ref ou), (2, .ref m), (1, .ref o), (0, .ref (G.2.2.2.1 3))]) (st' := [.ref m, .int y]) 1 rfl ?_
  refine WW.callV [] m [.int y] rfl mX0_257 (hy w1 t hm1) (wdRecv.obj hM1.1 rfl) rfl rfl (wd_le rfl) (wd_le rfl) (by omega) (by omega) (fun o w2 hq => ?_)
  obtain ⟨rfl, hm2, fr2⟩ := hq
  show WW _ _ _ 1639 _ [.int y, .int y] _
  have hO2 := isOf.mFr ok hO1 hM1 hA fr2
  have q35 := mFr.keep ok hM1 fr2 k35 (Or.inl rfl)
  have q36 := mFr.keep ok hM1 fr2 k36 (Or.inr rfl)
  refine WW.icmp_eq (tgt := 2455) rfl rfl (fun _ => ?_) (fun hno => absurd rfl hno)
  exact WW.less (by omega) (by omega) (kk w2 ⟨hO2, hJ0, ⟨_, J, hm2, rfl, rfl, rfl⟩, ⟨_, q35⟩, ⟨_, q36⟩, hA⟩)
theorem lK32 (hL : lI G w o hl inp sb m A ou od cur hn hist sv n ic on oc J) (hi : i + 3 < G.2.2.2.2.2.2.1) (hlen : G.2.2.2.2.2.2.1 < 2 ^ 31) (hkc : 40000 ≤ kc) (hks : 200000 ≤ ks) {r : Nat ⊕ Value} {v0 : Int32} (hx : Sp l G MX1_requestedLamp 8 1 6 [.ref o, .int (G.2.2.2.2.2.2.2 (i + 1))] w (oA G o hl inp sb J cur hn hist sv ic on oc [16] r w)) (hr : rOk 1 r) (hy : ∀ w1 t, isMm w1 m A t J cur hn hist sv n ic on oc → Sp l G MX3_requestedLamp 6 0 0 [.ref m, .int (G.2.2.2.2.2.2.2 (i + 1))] w1 (mA m A J cur hn hist sv n ic on oc (.int v0) r w1)) (kk : lNx l G mc ms kc ks i o hl inp sb m A ou od cur hn hist sv n ic on oc J) : WW (lX l G mc ms) kc ks 1644 (lLV G i o m ou od) [] w := by
  obtain ⟨hO, hJ0, ⟨t, J1, hm, j1, j2, j3⟩, ⟨fL, h35⟩, ⟨fD, h36⟩, hA⟩ := hL
  have hm := hm.j j1.symm j2.symm j3.symm
  refine WW.ok fun ok => ?_
  replace ok : wdOk G w := ok
  refine WW.run (pc' := 1650) (lv' := [(5, .int (nI i)), (4, .ref od), (3, .ref ou), (2, .ref m), (1, .ref o), (0, .ref (G.2.2.2.1 3))]) (st' := [.int ((nI i) + (nI 1)), .ref (G.2.2.2.1 3), .ref o]) 5 rfl ?_
  refine WW.scr (i + 1) rfl (wn_add rfl rfl) (by show _ < G.2.2.2.2.2.2.1; omega) hlen ?_
  refine WW.run (pc' := 1652) (lv' := [(5, .int (nI i)), (4, .ref od), (3, .ref ou), (2, .ref m), (1, .ref o), (0, .ref (G.2.2.2.1 3))]) (st' := [.ref ou, .int (G.2.2.2.2.2.2.2 (i + 1)), .ref o]) 1 rfl ?_
  refine WW.callSH [.ref o, .int (G.2.2.2.2.2.2.2 (i + 1)), .ref ou] [] rfl mX0_258 (lW_requestedLamp (G.2.2.2.2.2.2.2 (i + 1)) hO h35 hx hr) rfl rfl (wd_le rfl) (wd_le rfl) (by omega) (by omega) (fun o w1 hq => ?_)
  obtain ⟨l1, hO1, fL1, k35, hq⟩ := hq
  have k36 := l1.2 _ _ _ h36 (Or.inr (Or.inr (Or.inl rfl)))
  have hm1 := hm.lFr hA l1
  obtain ⟨I1, F1, hM1, ht1⟩ := hm1.cell
  cases r with
  | inl p =>
    obtain rfl := hq
    have hp1 : 1 ≤ p := hr.1
    have hpN : p ≤ 1 := hr.2
    show WW _ _ _ 1655 _ [.int (nI p)] _
    refine WW.ok fun ok => ?_
    replace ok : wdOk G w1 := ok
    refine WW.run (pc' := 1663) (lv' := [(6, .int (nI p)), (5, .int (nI i)), (4, .ref od), (3, .ref ou), (2, .ref m), (1, .ref o), (0, .ref (G.2.2.2.1 3))]) (st' := [.int ((nI i) + (nI 1)), .ref (G.2.2.2.1 3), .ref m]) 6 rfl ?_
    refine WW.scr (i + 1) rfl (wn_add rfl rfl) (by show _ < G.2.2.2.2.2.2.1; omega) hlen ?_
    refine WW.callV [.int (G.2.2.2.2.2.2.2 (i + 1))] m [] rfl mX0_260 (hy w1 t hm1) (wdRecv.obj hM1.1 rfl) rfl rfl (wd_le rfl) (wd_le rfl) (by omega) (by omega) (fun o w2 hq => ?_)
    obtain ⟨rfl, hm2, fr2⟩ := hq
    show WW _ _ _ 1667 _ [.int v0] _
    have hO2 := isOf.mFr ok hO1 hM1 hA fr2
    have q35 := mFr.keep ok hM1 fr2 k35 (Or.inl rfl)
    have q36 := mFr.keep ok hM1 fr2 k36 (Or.inr rfl)
    obtain ⟨I2, F2, hM2, ht2⟩ := hm2.cell
    refine WW.run (pc' := 1670) (lv' := [(7, .int v0), (6, .int (nI p)), (5, .int (nI i)), (4, .ref od), (3, .ref ou), (2, .ref m), (1, .ref o), (0, .ref (G.2.2.2.1 3))]) (st' := [.ref m]) 2 rfl ?_
    refine WW.callV [] m [] rfl mX0_149 (sM_thrown hM2) (wdRecv.obj hM2.1 rfl) rfl rfl (wd_le rfl) (wd_le rfl) (by omega) (by omega) (fun o w' hq => ?_)
    obtain ⟨rfl, hw9⟩ := hq
    show WW _ _ _ 1673 _ [.int (I2 2)] _
    rw [hw9]
    clear hw9 w'
    rw [ht2]
    refine WW.run (pc' := 1675) (lv' := [(7, .int v0), (6, .int (nI p)), (5, .int (nI i)), (4, .ref od), (3, .ref ou), (2, .ref m), (1, .ref o), (0, .ref (G.2.2.2.1 3))]) (st' := [.int (nI p), .int (nI p)]) 1 rfl ?_
    refine WW.icmp_eq (tgt := 1680) rfl rfl (fun _ => ?_) (fun hno => absurd rfl hno)
    refine WW.run (pc' := 1682) (lv' := [(7, .int v0), (6, .int (nI p)), (5, .int (nI i)), (4, .ref od), (3, .ref ou), (2, .ref m), (1, .ref o), (0, .ref (G.2.2.2.1 3))]) (st' := [.int (nI p)]) 1 rfl ?_
    refine WW.if_ne (tgt := 1697) rfl rfl (fun _ => ?_) (fun hno => absurd hno (nI_ne0 hp1 (by omega)))
    refine WW.run (pc' := 2455) (lv' := [(7, .int v0), (6, .int (nI p)), (5, .int (nI i)), (4, .ref od), (3, .ref ou), (2, .ref m), (1, .ref o), (0, .ref (G.2.2.2.1 3))]) (st' := []) 1 rfl ?_
    refine WW.pick (lv' := [(5, .int (nI i)), (4, .ref od), (3, .ref ou), (2, .ref m), (1, .ref o), (0, .ref (G.2.2.2.1 3))]) [2, 3, 4, 5, 6, 7] rfl ?_
    exact WW.less (by omega) (by omega) (kk w2 ⟨hO2, hJ0, ⟨_, J, hm2, rfl, rfl, rfl⟩, ⟨_, q35⟩, ⟨_, q36⟩, hA⟩)
  | inr v =>
    obtain ⟨y, rfl⟩ := hr
    obtain ⟨rfl, hf0⟩ := hq
    have hf0 : fL1 0 = y.toInt64 := hf0
    show WW _ _ _ 1655 _ [.int (nI 0)] _
    refine WW.ok fun ok => ?_
    replace ok : wdOk G w1 := ok
    refine WW.run (pc' := 1663) (lv' := [(6, .int (nI 0)), (5, .int (nI i)), (4, .ref od), (3, .ref ou), (2, .ref m), (1, .ref o), (0, .ref (G.2.2.2.1 3))]) (st' := [.int ((nI i) + (nI 1)), .ref (G.2.2.2.1 3), .ref m]) 6 rfl ?_
    refine WW.scr (i + 1) rfl (wn_add rfl rfl) (by show _ < G.2.2.2.2.2.2.1; omega) hlen ?_
    refine WW.callV [.int (G.2.2.2.2.2.2.2 (i + 1))] m [] rfl mX0_260 (hy w1 t hm1) (wdRecv.obj hM1.1 rfl) rfl rfl (wd_le rfl) (wd_le rfl) (by omega) (by omega) (fun o w2 hq => ?_)
    obtain ⟨rfl, hm2, fr2⟩ := hq
    show WW _ _ _ 1667 _ [.int y] _
    have hO2 := isOf.mFr ok hO1 hM1 hA fr2
    have q35 := mFr.keep ok hM1 fr2 k35 (Or.inl rfl)
    have q36 := mFr.keep ok hM1 fr2 k36 (Or.inr rfl)
    obtain ⟨I2, F2, hM2, ht2⟩ := hm2.cell
    refine WW.run (pc' := 1670) (lv' := [(7, .int y), (6, .int (nI 0)), (5, .int (nI i)), (4, .ref od), (3, .ref ou), (2, .ref m), (1, .ref o), (0, .ref (G.2.2.2.1 3))]) (st' := [.ref m]) 2 rfl ?_
    refine WW.callV [] m [] rfl mX0_149 (sM_thrown hM2) (wdRecv.obj hM2.1 rfl) rfl rfl (wd_le rfl) (wd_le rfl) (by omega) (by omega) (fun o w' hq => ?_)
    obtain ⟨rfl, hw9⟩ := hq
    show WW _ _ _ 1673 _ [.int (I2 2)] _
    rw [hw9]
    clear hw9 w'
    rw [ht2]
    refine WW.run (pc' := 1675) (lv' := [(7, .int y), (6, .int (nI 0)), (5, .int (nI i)), (4, .ref od), (3, .ref ou), (2, .ref m), (1, .ref o), (0, .ref (G.2.2.2.1 3))]) (st' := [.int (nI 0), .int (nI 0)]) 1 rfl ?_
    refine WW.icmp_eq (tgt := 1680) rfl rfl (fun _ => ?_) (fun hno => absurd rfl hno)
    refine WW.run (pc' := 1682) (lv' := [(7, .int y), (6, .int (nI 0)), (5, .int (nI i)), (4, .ref od), (3, .ref ou), (2, .ref m), (1, .ref o), (0, .ref (G.2.2.2.1 3))]) (st' := [.int (nI 0)]) 1 rfl ?_
    refine WW.if_ne (tgt := 1697) rfl rfl (fun hno => absurd rfl hno) (fun _ => ?_)
    refine WW.run (pc' := 1687) (lv' := [(7, .int y), (6, .int (nI 0)), (5, .int (nI i)), (4, .ref od), (3, .ref ou), (2, .ref m), (1, .ref o), (0, .ref (G.2.2.2.1 3))]) (st' := [.int (nI 0), .ref ou]) 2 rfl ?_
    refine WW.lald rfl q35 one_in ?_
    show WW _ _ _ 1688 _ [.long (fL1 0)] _
    rw [hf0]
    refine WW.run (pc' := 1691) (lv' := [(7, .int y), (6, .int (nI 0)), (5, .int (nI i)), (4, .ref od), (3, .ref ou), (2, .ref m), (1, .ref o), (0, .ref (G.2.2.2.1 3))]) (st' := [.long y.toInt64, .long y.toInt64]) 2 rfl ?_
    refine WW.lcmp rfl ?_
    rw [lg_cmp_self]
    refine WW.if_eq (tgt := 1697) rfl rfl (fun _ => ?_) (fun hno => absurd rfl hno)
    refine WW.run (pc' := 2455) (lv' := [(7, .int y), (6, .int (nI 0)), (5, .int (nI i)), (4, .ref od), (3, .ref ou), (2, .ref m), (1, .ref o), (0, .ref (G.2.2.2.1 3))]) (st' := []) 1 rfl ?_
    refine WW.pick (lv' := [(5, .int (nI i)), (4, .ref od), (3, .ref ou), (2, .ref m), (1, .ref o), (0, .ref (G.2.2.2.1 3))]) [2, 3, 4, 5, 6, 7] rfl ?_
    exact WW.less (by omega) (by omega) (kk w2 ⟨hO2, hJ0, ⟨_, J, hm2, rfl, rfl, rfl⟩, ⟨_, q35⟩, ⟨_, q36⟩, hA⟩)
theorem lK33 (hL : lI G w o hl inp sb m A ou od cur hn hist sv n ic on oc J) (hi : i + 3 < G.2.2.2.2.2.2.1) (hlen : G.2.2.2.2.2.2.1 < 2 ^ 31) (hkc : 40000 ≤ kc) (hks : 200000 ≤ ks) {r : Nat ⊕ Value} {v0 : Int32} (hx : Sp l G MX1_requestedHours 8 1 6 [.ref o, .int (G.2.2.2.2.2.2.2 (i + 1))] w (oA G o hl inp sb J cur hn hist sv ic on oc [16] r w)) (hr : rOk 1 r) (hy : ∀ w1 t, isMm w1 m A t J cur hn hist sv n ic on oc → Sp l G MX3_requestedHours 6 0 0 [.ref m, .int (G.2.2.2.2.2.2.2 (i + 1))] w1 (mA m A J cur hn hist sv n ic on oc (.int v0) r w1)) (kk : lNx l G mc ms kc ks i o hl inp sb m A ou od cur hn hist sv n ic on oc J) : WW (lX l G mc ms) kc ks 1700 (lLV G i o m ou od) [] w := by
  obtain ⟨hO, hJ0, ⟨t, J1, hm, j1, j2, j3⟩, ⟨fL, h35⟩, ⟨fD, h36⟩, hA⟩ := hL
  have hm := hm.j j1.symm j2.symm j3.symm
  refine WW.ok fun ok => ?_
  replace ok : wdOk G w := ok
  refine WW.run (pc' := 1706) (lv' := [(5, .int (nI i)), (4, .ref od), (3, .ref ou), (2, .ref m), (1, .ref o), (0, .ref (G.2.2.2.1 3))]) (st' := [.int ((nI i) + (nI 1)), .ref (G.2.2.2.1 3), .ref o]) 5 rfl ?_
  refine WW.scr (i + 1) rfl (wn_add rfl rfl) (by show _ < G.2.2.2.2.2.2.1; omega) hlen ?_
  refine WW.run (pc' := 1708) (lv' := [(5, .int (nI i)), (4, .ref od), (3, .ref ou), (2, .ref m), (1, .ref o), (0, .ref (G.2.2.2.1 3))]) (st' := [.ref ou, .int (G.2.2.2.2.2.2.2 (i + 1)), .ref o]) 1 rfl ?_
  refine WW.callSH [.ref o, .int (G.2.2.2.2.2.2.2 (i + 1)), .ref ou] [] rfl mX0_261 (lW_requestedHours (G.2.2.2.2.2.2.2 (i + 1)) hO h35 hx hr) rfl rfl (wd_le rfl) (wd_le rfl) (by omega) (by omega) (fun o w1 hq => ?_)
  obtain ⟨l1, hO1, fL1, k35, hq⟩ := hq
  have k36 := l1.2 _ _ _ h36 (Or.inr (Or.inr (Or.inl rfl)))
  have hm1 := hm.lFr hA l1
  obtain ⟨I1, F1, hM1, ht1⟩ := hm1.cell
  cases r with
  | inl p =>
    obtain rfl := hq
    have hp1 : 1 ≤ p := hr.1
    have hpN : p ≤ 1 := hr.2
    show WW _ _ _ 1711 _ [.int (nI p)] _
    refine WW.ok fun ok => ?_
    replace ok : wdOk G w1 := ok
    refine WW.run (pc' := 1719) (lv' := [(6, .int (nI p)), (5, .int (nI i)), (4, .ref od), (3, .ref ou), (2, .ref m), (1, .ref o), (0, .ref (G.2.2.2.1 3))]) (st' := [.int ((nI i) + (nI 1)), .ref (G.2.2.2.1 3), .ref m]) 6 rfl ?_
    refine WW.scr (i + 1) rfl (wn_add rfl rfl) (by show _ < G.2.2.2.2.2.2.1; omega) hlen ?_
    refine WW.callV [.int (G.2.2.2.2.2.2.2 (i + 1))] m [] rfl mX0_263 (hy w1 t hm1) (wdRecv.obj hM1.1 rfl) rfl rfl (wd_le rfl) (wd_le rfl) (by omega) (by omega) (fun o w2 hq => ?_)
    obtain ⟨rfl, hm2, fr2⟩ := hq
    show WW _ _ _ 1723 _ [.int v0] _
    have hO2 := isOf.mFr ok hO1 hM1 hA fr2
    have q35 := mFr.keep ok hM1 fr2 k35 (Or.inl rfl)
    have q36 := mFr.keep ok hM1 fr2 k36 (Or.inr rfl)
    obtain ⟨I2, F2, hM2, ht2⟩ := hm2.cell
    refine WW.run (pc' := 1726) (lv' := [(7, .int v0), (6, .int (nI p)), (5, .int (nI i)), (4, .ref od), (3, .ref ou), (2, .ref m), (1, .ref o), (0, .ref (G.2.2.2.1 3))]) (st' := [.ref m]) 2 rfl ?_
    refine WW.callV [] m [] rfl mX0_149 (sM_thrown hM2) (wdRecv.obj hM2.1 rfl) rfl rfl (wd_le rfl) (wd_le rfl) (by omega) (by omega) (fun o w' hq => ?_)
    obtain ⟨rfl, hw9⟩ := hq
    show WW _ _ _ 1729 _ [.int (I2 2)] _
    rw [hw9]
    clear hw9 w'
    rw [ht2]
    refine WW.run (pc' := 1731) (lv' := [(7, .int v0), (6, .int (nI p)), (5, .int (nI i)), (4, .ref od), (3, .ref ou), (2, .ref m), (1, .ref o), (0, .ref (G.2.2.2.1 3))]) (st' := [.int (nI p), .int (nI p)]) 1 rfl ?_
    refine WW.icmp_eq (tgt := 1736) rfl rfl (fun _ => ?_) (fun hno => absurd rfl hno)
    refine WW.run (pc' := 1738) (lv' := [(7, .int v0), (6, .int (nI p)), (5, .int (nI i)), (4, .ref od), (3, .ref ou), (2, .ref m), (1, .ref o), (0, .ref (G.2.2.2.1 3))]) (st' := [.int (nI p)]) 1 rfl ?_
    refine WW.if_ne (tgt := 1753) rfl rfl (fun _ => ?_) (fun hno => absurd hno (nI_ne0 hp1 (by omega)))
    refine WW.run (pc' := 2455) (lv' := [(7, .int v0), (6, .int (nI p)), (5, .int (nI i)), (4, .ref od), (3, .ref ou), (2, .ref m), (1, .ref o), (0, .ref (G.2.2.2.1 3))]) (st' := []) 1 rfl ?_
    refine WW.pick (lv' := [(5, .int (nI i)), (4, .ref od), (3, .ref ou), (2, .ref m), (1, .ref o), (0, .ref (G.2.2.2.1 3))]) [2, 3, 4, 5, 6, 7] rfl ?_
    exact WW.less (by omega) (by omega) (kk w2 ⟨hO2, hJ0, ⟨_, J, hm2, rfl, rfl, rfl⟩, ⟨_, q35⟩, ⟨_, q36⟩, hA⟩)
  | inr v =>
    obtain ⟨y, rfl⟩ := hr
    obtain ⟨rfl, hf0⟩ := hq
    have hf0 : fL1 0 = y.toInt64 := hf0
    show WW _ _ _ 1711 _ [.int (nI 0)] _
    refine WW.ok fun ok => ?_
    replace ok : wdOk G w1 := ok
    refine WW.run (pc' := 1719) (lv' := [(6, .int (nI 0)), (5, .int (nI i)), (4, .ref od), (3, .ref ou), (2, .ref m), (1, .ref o), (0, .ref (G.2.2.2.1 3))]) (st' := [.int ((nI i) + (nI 1)), .ref (G.2.2.2.1 3), .ref m]) 6 rfl ?_
    refine WW.scr (i + 1) rfl (wn_add rfl rfl) (by show _ < G.2.2.2.2.2.2.1; omega) hlen ?_
    refine WW.callV [.int (G.2.2.2.2.2.2.2 (i + 1))] m [] rfl mX0_263 (hy w1 t hm1) (wdRecv.obj hM1.1 rfl) rfl rfl (wd_le rfl) (wd_le rfl) (by omega) (by omega) (fun o w2 hq => ?_)
    obtain ⟨rfl, hm2, fr2⟩ := hq
    show WW _ _ _ 1723 _ [.int y] _
    have hO2 := isOf.mFr ok hO1 hM1 hA fr2
    have q35 := mFr.keep ok hM1 fr2 k35 (Or.inl rfl)
    have q36 := mFr.keep ok hM1 fr2 k36 (Or.inr rfl)
    obtain ⟨I2, F2, hM2, ht2⟩ := hm2.cell
    refine WW.run (pc' := 1726) (lv' := [(7, .int y), (6, .int (nI 0)), (5, .int (nI i)), (4, .ref od), (3, .ref ou), (2, .ref m), (1, .ref o), (0, .ref (G.2.2.2.1 3))]) (st' := [.ref m]) 2 rfl ?_
    refine WW.callV [] m [] rfl mX0_149 (sM_thrown hM2) (wdRecv.obj hM2.1 rfl) rfl rfl (wd_le rfl) (wd_le rfl) (by omega) (by omega) (fun o w' hq => ?_)
    obtain ⟨rfl, hw9⟩ := hq
    show WW _ _ _ 1729 _ [.int (I2 2)] _
    rw [hw9]
    clear hw9 w'
    rw [ht2]
    refine WW.run (pc' := 1731) (lv' := [(7, .int y), (6, .int (nI 0)), (5, .int (nI i)), (4, .ref od), (3, .ref ou), (2, .ref m), (1, .ref o), (0, .ref (G.2.2.2.1 3))]) (st' := [.int (nI 0), .int (nI 0)]) 1 rfl ?_
    refine WW.icmp_eq (tgt := 1736) rfl rfl (fun _ => ?_) (fun hno => absurd rfl hno)
    refine WW.run (pc' := 1738) (lv' := [(7, .int y), (6, .int (nI 0)), (5, .int (nI i)), (4, .ref od), (3, .ref ou), (2, .ref m), (1, .ref o), (0, .ref (G.2.2.2.1 3))]) (st' := [.int (nI 0)]) 1 rfl ?_
    refine WW.if_ne (tgt := 1753) rfl rfl (fun hno => absurd rfl hno) (fun _ => ?_)
    refine WW.run (pc' := 1743) (lv' := [(7, .int y), (6, .int (nI 0)), (5, .int (nI i)), (4, .ref od), (3, .ref ou), (2, .ref m), (1, .ref o), (0, .ref (G.2.2.2.1 3))]) (st' := [.int (nI 0), .ref ou]) 2 rfl ?_
    refine WW.lald rfl q35 one_in ?_
    show WW _ _ _ 1744 _ [.long (fL1 0)] _
    rw [hf0]
    refine WW.run (pc' := 1747) (lv' := [(7, .int y), (6, .int (nI 0)), (5, .int (nI i)), (4, .ref od), (3, .ref ou), (2, .ref m), (1, .ref o), (0, .ref (G.2.2.2.1 3))]) (st' := [.long y.toInt64, .long y.toInt64]) 2 rfl ?_
    refine WW.lcmp rfl ?_
    rw [lg_cmp_self]
    refine WW.if_eq (tgt := 1753) rfl rfl (fun _ => ?_) (fun hno => absurd rfl hno)
    refine WW.run (pc' := 2455) (lv' := [(7, .int y), (6, .int (nI 0)), (5, .int (nI i)), (4, .ref od), (3, .ref ou), (2, .ref m), (1, .ref o), (0, .ref (G.2.2.2.1 3))]) (st' := []) 1 rfl ?_
    refine WW.pick (lv' := [(5, .int (nI i)), (4, .ref od), (3, .ref ou), (2, .ref m), (1, .ref o), (0, .ref (G.2.2.2.1 3))]) [2, 3, 4, 5, 6, 7] rfl ?_
    exact WW.less (by omega) (by omega) (kk w2 ⟨hO2, hJ0, ⟨_, J, hm2, rfl, rfl, rfl⟩, ⟨_, q35⟩, ⟨_, q36⟩, hA⟩)
theorem lK34 (hL : lI G w o hl inp sb m A ou od cur hn hist sv n ic on oc J) (hi : i + 3 < G.2.2.2.2.2.2.1) (hlen : G.2.2.2.2.2.2.1 < 2 ^ 31) (hkc : 40000 ≤ kc) (hks : 200000 ≤ ks) {y v0 : Int32} (hx : Sp l G MX1_refusedRenewals 1 0 0 [.ref o] w (oA G o hl inp sb J cur hn hist sv ic on oc [] (.inr (.int y)) w)) (hy : ∀ w1 t, isMm w1 m A t J cur hn hist sv n ic on oc → Sp l G MX3_refusedRenewals 6 0 0 [.ref m] w1 (mA m A J cur hn hist sv n ic on oc (.int v0) (.inr (.int y)) w1)) (kk : lNx l G mc ms kc ks i o hl inp sb m A ou od cur hn hist sv n ic on oc J) : WW (lX l G mc ms) kc ks 1756 (lLV G i o m ou od) [] w := by
  obtain ⟨hO, hJ0, ⟨t, J1, hm, j1, j2, j3⟩, ⟨fL, h35⟩, ⟨fD, h36⟩, hA⟩ := hL
  have hm := hm.j j1.symm j2.symm j3.symm
  refine WW.ok fun ok => ?_
  replace ok : wdOk G w := ok
  obtain ⟨fs, hc⟩ := hO.cell
  refine WW.run (pc' := 1757) (lv' := [(5, .int (nI i)), (4, .ref od), (3, .ref ou), (2, .ref m), (1, .ref o), (0, .ref (G.2.2.2.1 3))]) (st' := [.ref o]) 1 rfl ?_
  refine WW.callV [] o [] rfl mX0_264 hx (wdRecv.obj hc rfl) rfl rfl (wd_le rfl) (wd_le rfl) (by omega) (by omega) (fun o w1 hq => ?_)
  obtain ⟨f1, hO1, rfl⟩ := hq
  have l1 : lFr inp 35 w w1 := lFr.of (Or.inl rfl) f1
  have k35 := f1.2 _ _ _ h35 (Or.inr (Or.inr (Or.inl rfl)))
  have k36 := f1.2 _ _ _ h36 (Or.inr (Or.inr (Or.inr (Or.inl rfl))))
  have hm1 := hm.lFr hA l1
  obtain ⟨I1, F1, hM1, ht1⟩ := hm1.cell
  show WW _ _ _ 1760 _ [.int y] _
  refine WW.ok fun ok => ?_
  replace ok : wdOk G w1 := ok
  refine WW.run (pc' := 1761) (lv' := [(5, .int (nI i)), (4, .ref od), (3, .ref ou), (2, .ref m), (1, .ref o), (0, .ref (G.2.2.2.1 3))]) (st' := [.ref m, .int y]) 1 rfl ?_
  refine WW.callV [] m [.int y] rfl mX0_267 (hy w1 t hm1) (wdRecv.obj hM1.1 rfl) rfl rfl (wd_le rfl) (wd_le rfl) (by omega) (by omega) (fun o w2 hq => ?_)
  obtain ⟨rfl, hm2, fr2⟩ := hq
  show WW _ _ _ 1764 _ [.int y, .int y] _
  have hO2 := isOf.mFr ok hO1 hM1 hA fr2
  have q35 := mFr.keep ok hM1 fr2 k35 (Or.inl rfl)
  have q36 := mFr.keep ok hM1 fr2 k36 (Or.inr rfl)
  refine WW.icmp_eq (tgt := 2455) rfl rfl (fun _ => ?_) (fun hno => absurd rfl hno)
  exact WW.less (by omega) (by omega) (kk w2 ⟨hO2, hJ0, ⟨_, J, hm2, rfl, rfl, rfl⟩, ⟨_, q35⟩, ⟨_, q36⟩, hA⟩)
theorem lK35 (hL : lI G w o hl inp sb m A ou od cur hn hist sv n ic on oc J) (hi : i + 3 < G.2.2.2.2.2.2.1) (hlen : G.2.2.2.2.2.2.1 < 2 ^ 31) (hkc : 40000 ≤ kc) (hks : 200000 ≤ ks) {y v0 : Int32} (hx : Sp l G MX1_officeCoins 1 0 0 [.ref o] w (oA G o hl inp sb J cur hn hist sv ic on oc [] (.inr (.int y)) w)) (hy : ∀ w1 t, isMm w1 m A t J cur hn hist sv n ic on oc → Sp l G MX3_officeCoins 6 0 0 [.ref m] w1 (mA m A J cur hn hist sv n ic on oc (.int v0) (.inr (.int y)) w1)) (kk : lNx l G mc ms kc ks i o hl inp sb m A ou od cur hn hist sv n ic on oc J) : WW (lX l G mc ms) kc ks 1769 (lLV G i o m ou od) [] w := by
  obtain ⟨hO, hJ0, ⟨t, J1, hm, j1, j2, j3⟩, ⟨fL, h35⟩, ⟨fD, h36⟩, hA⟩ := hL
  have hm := hm.j j1.symm j2.symm j3.symm
  refine WW.ok fun ok => ?_
  replace ok : wdOk G w := ok
  obtain ⟨fs, hc⟩ := hO.cell
  refine WW.run (pc' := 1770) (lv' := [(5, .int (nI i)), (4, .ref od), (3, .ref ou), (2, .ref m), (1, .ref o), (0, .ref (G.2.2.2.1 3))]) (st' := [.ref o]) 1 rfl ?_
  refine WW.callV [] o [] rfl mX0_268 hx (wdRecv.obj hc rfl) rfl rfl (wd_le rfl) (wd_le rfl) (by omega) (by omega) (fun o w1 hq => ?_)
  obtain ⟨f1, hO1, rfl⟩ := hq
  have l1 : lFr inp 35 w w1 := lFr.of (Or.inl rfl) f1
  have k35 := f1.2 _ _ _ h35 (Or.inr (Or.inr (Or.inl rfl)))
  have k36 := f1.2 _ _ _ h36 (Or.inr (Or.inr (Or.inr (Or.inl rfl))))
  have hm1 := hm.lFr hA l1
  obtain ⟨I1, F1, hM1, ht1⟩ := hm1.cell
  show WW _ _ _ 1773 _ [.int y] _
  refine WW.ok fun ok => ?_
  replace ok : wdOk G w1 := ok
  refine WW.run (pc' := 1774) (lv' := [(5, .int (nI i)), (4, .ref od), (3, .ref ou), (2, .ref m), (1, .ref o), (0, .ref (G.2.2.2.1 3))]) (st' := [.ref m, .int y]) 1 rfl ?_
  refine WW.callV [] m [.int y] rfl mX0_271 (hy w1 t hm1) (wdRecv.obj hM1.1 rfl) rfl rfl (wd_le rfl) (wd_le rfl) (by omega) (by omega) (fun o w2 hq => ?_)
  obtain ⟨rfl, hm2, fr2⟩ := hq
  show WW _ _ _ 1777 _ [.int y, .int y] _
  have hO2 := isOf.mFr ok hO1 hM1 hA fr2
  have q35 := mFr.keep ok hM1 fr2 k35 (Or.inl rfl)
  have q36 := mFr.keep ok hM1 fr2 k36 (Or.inr rfl)
  refine WW.icmp_eq (tgt := 2455) rfl rfl (fun _ => ?_) (fun hno => absurd rfl hno)
  exact WW.less (by omega) (by omega) (kk w2 ⟨hO2, hJ0, ⟨_, J, hm2, rfl, rfl, rfl⟩, ⟨_, q35⟩, ⟨_, q36⟩, hA⟩)
theorem lK36 (hL : lI G w o hl inp sb m A ou od cur hn hist sv n ic on oc J) (hi : i + 3 < G.2.2.2.2.2.2.1) (hlen : G.2.2.2.2.2.2.1 < 2 ^ 31) (hkc : 40000 ≤ kc) (hks : 200000 ≤ ks) {r : Nat ⊕ Value} {v0 : Int32} (hx : Sp l G MX1_shipByFines 8 2061 8346 [.ref o, .int (G.2.2.2.2.2.2.2 (i + 1))] w (oA G o hl inp sb J cur hn hist sv ic on oc [16] r w)) (hr : rOk 1 r) (hy : ∀ w1 t, isMm w1 m A t J cur hn hist sv n ic on oc → Sp l G MX3_shipByFines 6 0 0 [.ref m, .int (G.2.2.2.2.2.2.2 (i + 1))] w1 (mA m A J cur hn hist sv n ic on oc (.int v0) r w1)) (kk : lNx l G mc ms kc ks i o hl inp sb m A ou od cur hn hist sv n ic on oc J) : WW (lX l G mc ms) kc ks 1782 (lLV G i o m ou od) [] w := by
  obtain ⟨hO, hJ0, ⟨t, J1, hm, j1, j2, j3⟩, ⟨fL, h35⟩, ⟨fD, h36⟩, hA⟩ := hL
  have hm := hm.j j1.symm j2.symm j3.symm
  refine WW.ok fun ok => ?_
  replace ok : wdOk G w := ok
  refine WW.run (pc' := 1788) (lv' := [(5, .int (nI i)), (4, .ref od), (3, .ref ou), (2, .ref m), (1, .ref o), (0, .ref (G.2.2.2.1 3))]) (st' := [.int ((nI i) + (nI 1)), .ref (G.2.2.2.1 3), .ref o]) 5 rfl ?_
  refine WW.scr (i + 1) rfl (wn_add rfl rfl) (by show _ < G.2.2.2.2.2.2.1; omega) hlen ?_
  refine WW.run (pc' := 1790) (lv' := [(5, .int (nI i)), (4, .ref od), (3, .ref ou), (2, .ref m), (1, .ref o), (0, .ref (G.2.2.2.1 3))]) (st' := [.ref ou, .int (G.2.2.2.2.2.2.2 (i + 1)), .ref o]) 1 rfl ?_
  refine WW.callSH [.ref o, .int (G.2.2.2.2.2.2.2 (i + 1)), .ref ou] [] rfl mX0_272 (lW_shipByFines (G.2.2.2.2.2.2.2 (i + 1)) hO h35 hx hr) rfl rfl (wd_le rfl) (wd_le rfl) (by omega) (by omega) (fun o w1 hq => ?_)
  obtain ⟨l1, hO1, fL1, k35, hq⟩ := hq
  have k36 := l1.2 _ _ _ h36 (Or.inr (Or.inr (Or.inl rfl)))
  have hm1 := hm.lFr hA l1
  obtain ⟨I1, F1, hM1, ht1⟩ := hm1.cell
  cases r with
  | inl p =>
    obtain rfl := hq
    have hp1 : 1 ≤ p := hr.1
    have hpN : p ≤ 1 := hr.2
    show WW _ _ _ 1793 _ [.int (nI p)] _
    refine WW.ok fun ok => ?_
    replace ok : wdOk G w1 := ok
    refine WW.run (pc' := 1801) (lv' := [(6, .int (nI p)), (5, .int (nI i)), (4, .ref od), (3, .ref ou), (2, .ref m), (1, .ref o), (0, .ref (G.2.2.2.1 3))]) (st' := [.int ((nI i) + (nI 1)), .ref (G.2.2.2.1 3), .ref m]) 6 rfl ?_
    refine WW.scr (i + 1) rfl (wn_add rfl rfl) (by show _ < G.2.2.2.2.2.2.1; omega) hlen ?_
    refine WW.callV [.int (G.2.2.2.2.2.2.2 (i + 1))] m [] rfl mX0_274 (hy w1 t hm1) (wdRecv.obj hM1.1 rfl) rfl rfl (wd_le rfl) (wd_le rfl) (by omega) (by omega) (fun o w2 hq => ?_)
    obtain ⟨rfl, hm2, fr2⟩ := hq
    show WW _ _ _ 1805 _ [.int v0] _
    have hO2 := isOf.mFr ok hO1 hM1 hA fr2
    have q35 := mFr.keep ok hM1 fr2 k35 (Or.inl rfl)
    have q36 := mFr.keep ok hM1 fr2 k36 (Or.inr rfl)
    obtain ⟨I2, F2, hM2, ht2⟩ := hm2.cell
    refine WW.run (pc' := 1808) (lv' := [(7, .int v0), (6, .int (nI p)), (5, .int (nI i)), (4, .ref od), (3, .ref ou), (2, .ref m), (1, .ref o), (0, .ref (G.2.2.2.1 3))]) (st' := [.ref m]) 2 rfl ?_
    refine WW.callV [] m [] rfl mX0_149 (sM_thrown hM2) (wdRecv.obj hM2.1 rfl) rfl rfl (wd_le rfl) (wd_le rfl) (by omega) (by omega) (fun o w' hq => ?_)
    obtain ⟨rfl, hw9⟩ := hq
    show WW _ _ _ 1811 _ [.int (I2 2)] _
    rw [hw9]
    clear hw9 w'
    rw [ht2]
    refine WW.run (pc' := 1813) (lv' := [(7, .int v0), (6, .int (nI p)), (5, .int (nI i)), (4, .ref od), (3, .ref ou), (2, .ref m), (1, .ref o), (0, .ref (G.2.2.2.1 3))]) (st' := [.int (nI p), .int (nI p)]) 1 rfl ?_
    refine WW.icmp_eq (tgt := 1818) rfl rfl (fun _ => ?_) (fun hno => absurd rfl hno)
    refine WW.run (pc' := 1820) (lv' := [(7, .int v0), (6, .int (nI p)), (5, .int (nI i)), (4, .ref od), (3, .ref ou), (2, .ref m), (1, .ref o), (0, .ref (G.2.2.2.1 3))]) (st' := [.int (nI p)]) 1 rfl ?_
    refine WW.if_ne (tgt := 1835) rfl rfl (fun _ => ?_) (fun hno => absurd hno (nI_ne0 hp1 (by omega)))
    refine WW.run (pc' := 2455) (lv' := [(7, .int v0), (6, .int (nI p)), (5, .int (nI i)), (4, .ref od), (3, .ref ou), (2, .ref m), (1, .ref o), (0, .ref (G.2.2.2.1 3))]) (st' := []) 1 rfl ?_
    refine WW.pick (lv' := [(5, .int (nI i)), (4, .ref od), (3, .ref ou), (2, .ref m), (1, .ref o), (0, .ref (G.2.2.2.1 3))]) [2, 3, 4, 5, 6, 7] rfl ?_
    exact WW.less (by omega) (by omega) (kk w2 ⟨hO2, hJ0, ⟨_, J, hm2, rfl, rfl, rfl⟩, ⟨_, q35⟩, ⟨_, q36⟩, hA⟩)
  | inr v =>
    obtain ⟨y, rfl⟩ := hr
    obtain ⟨rfl, hf0⟩ := hq
    have hf0 : fL1 0 = y.toInt64 := hf0
    show WW _ _ _ 1793 _ [.int (nI 0)] _
    refine WW.ok fun ok => ?_
    replace ok : wdOk G w1 := ok
    refine WW.run (pc' := 1801) (lv' := [(6, .int (nI 0)), (5, .int (nI i)), (4, .ref od), (3, .ref ou), (2, .ref m), (1, .ref o), (0, .ref (G.2.2.2.1 3))]) (st' := [.int ((nI i) + (nI 1)), .ref (G.2.2.2.1 3), .ref m]) 6 rfl ?_
    refine WW.scr (i + 1) rfl (wn_add rfl rfl) (by show _ < G.2.2.2.2.2.2.1; omega) hlen ?_
    refine WW.callV [.int (G.2.2.2.2.2.2.2 (i + 1))] m [] rfl mX0_274 (hy w1 t hm1) (wdRecv.obj hM1.1 rfl) rfl rfl (wd_le rfl) (wd_le rfl) (by omega) (by omega) (fun o w2 hq => ?_)
    obtain ⟨rfl, hm2, fr2⟩ := hq
    show WW _ _ _ 1805 _ [.int y] _
    have hO2 := isOf.mFr ok hO1 hM1 hA fr2
    have q35 := mFr.keep ok hM1 fr2 k35 (Or.inl rfl)
    have q36 := mFr.keep ok hM1 fr2 k36 (Or.inr rfl)
    obtain ⟨I2, F2, hM2, ht2⟩ := hm2.cell
    refine WW.run (pc' := 1808) (lv' := [(7, .int y), (6, .int (nI 0)), (5, .int (nI i)), (4, .ref od), (3, .ref ou), (2, .ref m), (1, .ref o), (0, .ref (G.2.2.2.1 3))]) (st' := [.ref m]) 2 rfl ?_
    refine WW.callV [] m [] rfl mX0_149 (sM_thrown hM2) (wdRecv.obj hM2.1 rfl) rfl rfl (wd_le rfl) (wd_le rfl) (by omega) (by omega) (fun o w' hq => ?_)
    obtain ⟨rfl, hw9⟩ := hq
    show WW _ _ _ 1811 _ [.int (I2 2)] _
    rw [hw9]
    clear hw9 w'
    rw [ht2]
    refine WW.run (pc' := 1813) (lv' := [(7, .int y), (6, .int (nI 0)), (5, .int (nI i)), (4, .ref od), (3, .ref ou), (2, .ref m), (1, .ref o), (0, .ref (G.2.2.2.1 3))]) (st' := [.int (nI 0), .int (nI 0)]) 1 rfl ?_
    refine WW.icmp_eq (tgt := 1818) rfl rfl (fun _ => ?_) (fun hno => absurd rfl hno)
    refine WW.run (pc' := 1820) (lv' := [(7, .int y), (6, .int (nI 0)), (5, .int (nI i)), (4, .ref od), (3, .ref ou), (2, .ref m), (1, .ref o), (0, .ref (G.2.2.2.1 3))]) (st' := [.int (nI 0)]) 1 rfl ?_
    refine WW.if_ne (tgt := 1835) rfl rfl (fun hno => absurd rfl hno) (fun _ => ?_)
    refine WW.run (pc' := 1825) (lv' := [(7, .int y), (6, .int (nI 0)), (5, .int (nI i)), (4, .ref od), (3, .ref ou), (2, .ref m), (1, .ref o), (0, .ref (G.2.2.2.1 3))]) (st' := [.int (nI 0), .ref ou]) 2 rfl ?_
    refine WW.lald rfl q35 one_in ?_
    show WW _ _ _ 1826 _ [.long (fL1 0)] _
    rw [hf0]
    refine WW.run (pc' := 1829) (lv' := [(7, .int y), (6, .int (nI 0)), (5, .int (nI i)), (4, .ref od), (3, .ref ou), (2, .ref m), (1, .ref o), (0, .ref (G.2.2.2.1 3))]) (st' := [.long y.toInt64, .long y.toInt64]) 2 rfl ?_
    refine WW.lcmp rfl ?_
    rw [lg_cmp_self]
    refine WW.if_eq (tgt := 1835) rfl rfl (fun _ => ?_) (fun hno => absurd rfl hno)
    refine WW.run (pc' := 2455) (lv' := [(7, .int y), (6, .int (nI 0)), (5, .int (nI i)), (4, .ref od), (3, .ref ou), (2, .ref m), (1, .ref o), (0, .ref (G.2.2.2.1 3))]) (st' := []) 1 rfl ?_
    refine WW.pick (lv' := [(5, .int (nI i)), (4, .ref od), (3, .ref ou), (2, .ref m), (1, .ref o), (0, .ref (G.2.2.2.1 3))]) [2, 3, 4, 5, 6, 7] rfl ?_
    exact WW.less (by omega) (by omega) (kk w2 ⟨hO2, hJ0, ⟨_, J, hm2, rfl, rfl, rfl⟩, ⟨_, q35⟩, ⟨_, q36⟩, hA⟩)
theorem lK37 (hL : lI G w o hl inp sb m A ou od cur hn hist sv n ic on oc J) (hi : i + 3 < G.2.2.2.2.2.2.1) (hlen : G.2.2.2.2.2.2.1 < 2 ^ 31) (hkc : 40000 ≤ kc) (hks : 200000 ≤ ks) {r : Nat ⊕ Value} {v0 : Int32} (hx : Sp l G MX1_lampByEnd 8 2061 8346 [.ref o, .int (G.2.2.2.2.2.2.2 (i + 1))] w (oA G o hl inp sb J cur hn hist sv ic on oc [16] r w)) (hr : rOk 1 r) (hy : ∀ w1 t, isMm w1 m A t J cur hn hist sv n ic on oc → Sp l G MX3_lampByEnd 6 0 0 [.ref m, .int (G.2.2.2.2.2.2.2 (i + 1))] w1 (mA m A J cur hn hist sv n ic on oc (.int v0) r w1)) (kk : lNx l G mc ms kc ks i o hl inp sb m A ou od cur hn hist sv n ic on oc J) : WW (lX l G mc ms) kc ks 1838 (lLV G i o m ou od) [] w := by
  obtain ⟨hO, hJ0, ⟨t, J1, hm, j1, j2, j3⟩, ⟨fL, h35⟩, ⟨fD, h36⟩, hA⟩ := hL
  have hm := hm.j j1.symm j2.symm j3.symm
  refine WW.ok fun ok => ?_
  replace ok : wdOk G w := ok
  refine WW.run (pc' := 1844) (lv' := [(5, .int (nI i)), (4, .ref od), (3, .ref ou), (2, .ref m), (1, .ref o), (0, .ref (G.2.2.2.1 3))]) (st' := [.int ((nI i) + (nI 1)), .ref (G.2.2.2.1 3), .ref o]) 5 rfl ?_
  refine WW.scr (i + 1) rfl (wn_add rfl rfl) (by show _ < G.2.2.2.2.2.2.1; omega) hlen ?_
  refine WW.run (pc' := 1846) (lv' := [(5, .int (nI i)), (4, .ref od), (3, .ref ou), (2, .ref m), (1, .ref o), (0, .ref (G.2.2.2.1 3))]) (st' := [.ref ou, .int (G.2.2.2.2.2.2.2 (i + 1)), .ref o]) 1 rfl ?_
  refine WW.callSH [.ref o, .int (G.2.2.2.2.2.2.2 (i + 1)), .ref ou] [] rfl mX0_275 (lW_lampByEnd (G.2.2.2.2.2.2.2 (i + 1)) hO h35 hx hr) rfl rfl (wd_le rfl) (wd_le rfl) (by omega) (by omega) (fun o w1 hq => ?_)
  obtain ⟨l1, hO1, fL1, k35, hq⟩ := hq
  have k36 := l1.2 _ _ _ h36 (Or.inr (Or.inr (Or.inl rfl)))
  have hm1 := hm.lFr hA l1
  obtain ⟨I1, F1, hM1, ht1⟩ := hm1.cell
  cases r with
  | inl p =>
    obtain rfl := hq
    have hp1 : 1 ≤ p := hr.1
    have hpN : p ≤ 1 := hr.2
    show WW _ _ _ 1849 _ [.int (nI p)] _
    refine WW.ok fun ok => ?_
    replace ok : wdOk G w1 := ok
    refine WW.run (pc' := 1857) (lv' := [(6, .int (nI p)), (5, .int (nI i)), (4, .ref od), (3, .ref ou), (2, .ref m), (1, .ref o), (0, .ref (G.2.2.2.1 3))]) (st' := [.int ((nI i) + (nI 1)), .ref (G.2.2.2.1 3), .ref m]) 6 rfl ?_
    refine WW.scr (i + 1) rfl (wn_add rfl rfl) (by show _ < G.2.2.2.2.2.2.1; omega) hlen ?_
    refine WW.callV [.int (G.2.2.2.2.2.2.2 (i + 1))] m [] rfl mX0_277 (hy w1 t hm1) (wdRecv.obj hM1.1 rfl) rfl rfl (wd_le rfl) (wd_le rfl) (by omega) (by omega) (fun o w2 hq => ?_)
    obtain ⟨rfl, hm2, fr2⟩ := hq
    show WW _ _ _ 1861 _ [.int v0] _
    have hO2 := isOf.mFr ok hO1 hM1 hA fr2
    have q35 := mFr.keep ok hM1 fr2 k35 (Or.inl rfl)
    have q36 := mFr.keep ok hM1 fr2 k36 (Or.inr rfl)
    obtain ⟨I2, F2, hM2, ht2⟩ := hm2.cell
    refine WW.run (pc' := 1864) (lv' := [(7, .int v0), (6, .int (nI p)), (5, .int (nI i)), (4, .ref od), (3, .ref ou), (2, .ref m), (1, .ref o), (0, .ref (G.2.2.2.1 3))]) (st' := [.ref m]) 2 rfl ?_
    refine WW.callV [] m [] rfl mX0_149 (sM_thrown hM2) (wdRecv.obj hM2.1 rfl) rfl rfl (wd_le rfl) (wd_le rfl) (by omega) (by omega) (fun o w' hq => ?_)
    obtain ⟨rfl, hw9⟩ := hq
    show WW _ _ _ 1867 _ [.int (I2 2)] _
    rw [hw9]
    clear hw9 w'
    rw [ht2]
    refine WW.run (pc' := 1869) (lv' := [(7, .int v0), (6, .int (nI p)), (5, .int (nI i)), (4, .ref od), (3, .ref ou), (2, .ref m), (1, .ref o), (0, .ref (G.2.2.2.1 3))]) (st' := [.int (nI p), .int (nI p)]) 1 rfl ?_
    refine WW.icmp_eq (tgt := 1874) rfl rfl (fun _ => ?_) (fun hno => absurd rfl hno)
    refine WW.run (pc' := 1876) (lv' := [(7, .int v0), (6, .int (nI p)), (5, .int (nI i)), (4, .ref od), (3, .ref ou), (2, .ref m), (1, .ref o), (0, .ref (G.2.2.2.1 3))]) (st' := [.int (nI p)]) 1 rfl ?_
    refine WW.if_ne (tgt := 1891) rfl rfl (fun _ => ?_) (fun hno => absurd hno (nI_ne0 hp1 (by omega)))
    refine WW.run (pc' := 2455) (lv' := [(7, .int v0), (6, .int (nI p)), (5, .int (nI i)), (4, .ref od), (3, .ref ou), (2, .ref m), (1, .ref o), (0, .ref (G.2.2.2.1 3))]) (st' := []) 1 rfl ?_
    refine WW.pick (lv' := [(5, .int (nI i)), (4, .ref od), (3, .ref ou), (2, .ref m), (1, .ref o), (0, .ref (G.2.2.2.1 3))]) [2, 3, 4, 5, 6, 7] rfl ?_
    exact WW.less (by omega) (by omega) (kk w2 ⟨hO2, hJ0, ⟨_, J, hm2, rfl, rfl, rfl⟩, ⟨_, q35⟩, ⟨_, q36⟩, hA⟩)
  | inr v =>
    obtain ⟨y, rfl⟩ := hr
    obtain ⟨rfl, hf0⟩ := hq
    have hf0 : fL1 0 = y.toInt64 := hf0
    show WW _ _ _ 1849 _ [.int (nI 0)] _
    refine WW.ok fun ok => ?_
    replace ok : wdOk G w1 := ok
    refine WW.run (pc' := 1857) (lv' := [(6, .int (nI 0)), (5, .int (nI i)), (4, .ref od), (3, .ref ou), (2, .ref m), (1, .ref o), (0, .ref (G.2.2.2.1 3))]) (st' := [.int ((nI i) + (nI 1)), .ref (G.2.2.2.1 3), .ref m]) 6 rfl ?_
    refine WW.scr (i + 1) rfl (wn_add rfl rfl) (by show _ < G.2.2.2.2.2.2.1; omega) hlen ?_
    refine WW.callV [.int (G.2.2.2.2.2.2.2 (i + 1))] m [] rfl mX0_277 (hy w1 t hm1) (wdRecv.obj hM1.1 rfl) rfl rfl (wd_le rfl) (wd_le rfl) (by omega) (by omega) (fun o w2 hq => ?_)
    obtain ⟨rfl, hm2, fr2⟩ := hq
    show WW _ _ _ 1861 _ [.int y] _
    have hO2 := isOf.mFr ok hO1 hM1 hA fr2
    have q35 := mFr.keep ok hM1 fr2 k35 (Or.inl rfl)
    have q36 := mFr.keep ok hM1 fr2 k36 (Or.inr rfl)
    obtain ⟨I2, F2, hM2, ht2⟩ := hm2.cell
    refine WW.run (pc' := 1864) (lv' := [(7, .int y), (6, .int (nI 0)), (5, .int (nI i)), (4, .ref od), (3, .ref ou), (2, .ref m), (1, .ref o), (0, .ref (G.2.2.2.1 3))]) (st' := [.ref m]) 2 rfl ?_
    refine WW.callV [] m [] rfl mX0_149 (sM_thrown hM2) (wdRecv.obj hM2.1 rfl) rfl rfl (wd_le rfl) (wd_le rfl) (by omega) (by omega) (fun o w' hq => ?_)
    obtain ⟨rfl, hw9⟩ := hq
    show WW _ _ _ 1867 _ [.int (I2 2)] _
    rw [hw9]
    clear hw9 w'
    rw [ht2]
    refine WW.run (pc' := 1869) (lv' := [(7, .int y), (6, .int (nI 0)), (5, .int (nI i)), (4, .ref od), (3, .ref ou), (2, .ref m), (1, .ref o), (0, .ref (G.2.2.2.1 3))]) (st' := [.int (nI 0), .int (nI 0)]) 1 rfl ?_
    refine WW.icmp_eq (tgt := 1874) rfl rfl (fun _ => ?_) (fun hno => absurd rfl hno)
    refine WW.run (pc' := 1876) (lv' := [(7, .int y), (6, .int (nI 0)), (5, .int (nI i)), (4, .ref od), (3, .ref ou), (2, .ref m), (1, .ref o), (0, .ref (G.2.2.2.1 3))]) (st' := [.int (nI 0)]) 1 rfl ?_
    refine WW.if_ne (tgt := 1891) rfl rfl (fun hno => absurd rfl hno) (fun _ => ?_)
    refine WW.run (pc' := 1881) (lv' := [(7, .int y), (6, .int (nI 0)), (5, .int (nI i)), (4, .ref od), (3, .ref ou), (2, .ref m), (1, .ref o), (0, .ref (G.2.2.2.1 3))]) (st' := [.int (nI 0), .ref ou]) 2 rfl ?_
    refine WW.lald rfl q35 one_in ?_
    show WW _ _ _ 1882 _ [.long (fL1 0)] _
    rw [hf0]
    refine WW.run (pc' := 1885) (lv' := [(7, .int y), (6, .int (nI 0)), (5, .int (nI i)), (4, .ref od), (3, .ref ou), (2, .ref m), (1, .ref o), (0, .ref (G.2.2.2.1 3))]) (st' := [.long y.toInt64, .long y.toInt64]) 2 rfl ?_
    refine WW.lcmp rfl ?_
    rw [lg_cmp_self]
    refine WW.if_eq (tgt := 1891) rfl rfl (fun _ => ?_) (fun hno => absurd rfl hno)
    refine WW.run (pc' := 2455) (lv' := [(7, .int y), (6, .int (nI 0)), (5, .int (nI i)), (4, .ref od), (3, .ref ou), (2, .ref m), (1, .ref o), (0, .ref (G.2.2.2.1 3))]) (st' := []) 1 rfl ?_
    refine WW.pick (lv' := [(5, .int (nI i)), (4, .ref od), (3, .ref ou), (2, .ref m), (1, .ref o), (0, .ref (G.2.2.2.1 3))]) [2, 3, 4, 5, 6, 7] rfl ?_
    exact WW.less (by omega) (by omega) (kk w2 ⟨hO2, hJ0, ⟨_, J, hm2, rfl, rfl, rfl⟩, ⟨_, q35⟩, ⟨_, q36⟩, hA⟩)
theorem lK40 (hL : lI G w o hl inp sb m A ou od cur hn hist sv n ic on oc J) (hi : i + 3 < G.2.2.2.2.2.2.1) (hlen : G.2.2.2.2.2.2.1 < 2 ^ 31) (hkc : 40000 ≤ kc) (hks : 200000 ≤ ks) {y v0 : Int32} (hx : Sp l G MX1_isConsistent 10 3000 12000 [.ref o] w (oA G o hl inp sb J cur hn hist sv ic on oc [] (.inr (.int y)) w)) (hy : ∀ w1 t, isMm w1 m A t J cur hn hist sv n ic on oc → Sp l G MX3_isConsistent 6 0 0 [.ref m] w1 (mA m A J cur hn hist sv n ic on oc (.int v0) (.inr (.int y)) w1)) (kk : lNx l G mc ms kc ks i o hl inp sb m A ou od cur hn hist sv n ic on oc J) : WW (lX l G mc ms) kc ks 2025 (lLV G i o m ou od) [] w := by
  obtain ⟨hO, hJ0, ⟨t, J1, hm, j1, j2, j3⟩, ⟨fL, h35⟩, ⟨fD, h36⟩, hA⟩ := hL
  have hm := hm.j j1.symm j2.symm j3.symm
  refine WW.ok fun ok => ?_
  replace ok : wdOk G w := ok
  obtain ⟨fs, hc⟩ := hO.cell
  refine WW.run (pc' := 2026) (lv' := [(5, .int (nI i)), (4, .ref od), (3, .ref ou), (2, .ref m), (1, .ref o), (0, .ref (G.2.2.2.1 3))]) (st' := [.ref o]) 1 rfl ?_
  refine WW.callV [] o [] rfl mX0_285 hx (wdRecv.obj hc rfl) rfl rfl (wd_le rfl) (wd_le rfl) (by omega) (by omega) (fun o w1 hq => ?_)
  obtain ⟨f1, hO1, rfl⟩ := hq
  have l1 : lFr inp 35 w w1 := lFr.of (Or.inl rfl) f1
  have k35 := f1.2 _ _ _ h35 (Or.inr (Or.inr (Or.inl rfl)))
  have k36 := f1.2 _ _ _ h36 (Or.inr (Or.inr (Or.inr (Or.inl rfl))))
  have hm1 := hm.lFr hA l1
  obtain ⟨I1, F1, hM1, ht1⟩ := hm1.cell
  show WW _ _ _ 2029 _ [.int y] _
  refine WW.ok fun ok => ?_
  replace ok : wdOk G w1 := ok
  refine WW.run (pc' := 2030) (lv' := [(5, .int (nI i)), (4, .ref od), (3, .ref ou), (2, .ref m), (1, .ref o), (0, .ref (G.2.2.2.1 3))]) (st' := [.ref m, .int y]) 1 rfl ?_
  refine WW.callV [] m [.int y] rfl mX0_289 (hy w1 t hm1) (wdRecv.obj hM1.1 rfl) rfl rfl (wd_le rfl) (wd_le rfl) (by omega) (by omega) (fun o w2 hq => ?_)
  obtain ⟨rfl, hm2, fr2⟩ := hq
  show WW _ _ _ 2033 _ [.int y, .int y] _
  have hO2 := isOf.mFr ok hO1 hM1 hA fr2
  have q35 := mFr.keep ok hM1 fr2 k35 (Or.inl rfl)
  have q36 := mFr.keep ok hM1 fr2 k36 (Or.inr rfl)
  refine WW.icmp_eq (tgt := 2455) rfl rfl (fun _ => ?_) (fun hno => absurd rfl hno)
  exact WW.less (by omega) (by omega) (kk w2 ⟨hO2, hJ0, ⟨_, J, hm2, rfl, rfl, rfl⟩, ⟨_, q35⟩, ⟨_, q36⟩, hA⟩)
theorem lK43 (hL : lI G w o hl inp sb m A ou od cur hn hist sv n ic on oc J) (hi : i + 3 < G.2.2.2.2.2.2.1) (hlen : G.2.2.2.2.2.2.1 < 2 ^ 31) (hkc : 40000 ≤ kc) (hks : 200000 ≤ ks) {r : Nat ⊕ Value} {v0 : Int32} (hx : Sp l G MX1_errorPosition 7 1 6 [.ref o] w (oA G o hl inp sb J cur hn hist sv ic on oc [16] r w)) (hr : rOk 1 r) (hy : ∀ w1 t, isMm w1 m A t J cur hn hist sv n ic on oc → Sp l G MX3_errorPosition 6 0 0 [.ref m] w1 (mA m A J cur hn hist sv n ic on oc (.int v0) r w1)) (kk : lNx l G mc ms kc ks i o hl inp sb m A ou od cur hn hist sv n ic on oc J) : WW (lX l G mc ms) kc ks 2140 (lLV G i o m ou od) [] w := by
  obtain ⟨hO, hJ0, ⟨t, J1, hm, j1, j2, j3⟩, ⟨fL, h35⟩, ⟨fD, h36⟩, hA⟩ := hL
  have hm := hm.j j1.symm j2.symm j3.symm
  refine WW.ok fun ok => ?_
  replace ok : wdOk G w := ok
  refine WW.run (pc' := 2142) (lv' := [(5, .int (nI i)), (4, .ref od), (3, .ref ou), (2, .ref m), (1, .ref o), (0, .ref (G.2.2.2.1 3))]) (st' := [.ref ou, .ref o]) 2 rfl ?_
  refine WW.callSH [.ref o, .ref ou] [] rfl mX0_297 (lW_errorPosition  hO h35 hx hr) rfl rfl (wd_le rfl) (wd_le rfl) (by omega) (by omega) (fun o w1 hq => ?_)
  obtain ⟨l1, hO1, fL1, k35, hq⟩ := hq
  have k36 := l1.2 _ _ _ h36 (Or.inr (Or.inr (Or.inl rfl)))
  have hm1 := hm.lFr hA l1
  obtain ⟨I1, F1, hM1, ht1⟩ := hm1.cell
  cases r with
  | inl p =>
    obtain rfl := hq
    have hp1 : 1 ≤ p := hr.1
    have hpN : p ≤ 1 := hr.2
    show WW _ _ _ 2145 _ [.int (nI p)] _
    refine WW.ok fun ok => ?_
    replace ok : wdOk G w1 := ok
    refine WW.run (pc' := 2148) (lv' := [(6, .int (nI p)), (5, .int (nI i)), (4, .ref od), (3, .ref ou), (2, .ref m), (1, .ref o), (0, .ref (G.2.2.2.1 3))]) (st' := [.ref m]) 2 rfl ?_
    refine WW.callV [] m [] rfl mX0_299 (hy w1 t hm1) (wdRecv.obj hM1.1 rfl) rfl rfl (wd_le rfl) (wd_le rfl) (by omega) (by omega) (fun o w2 hq => ?_)
    obtain ⟨rfl, hm2, fr2⟩ := hq
    show WW _ _ _ 2151 _ [.int v0] _
    have hO2 := isOf.mFr ok hO1 hM1 hA fr2
    have q35 := mFr.keep ok hM1 fr2 k35 (Or.inl rfl)
    have q36 := mFr.keep ok hM1 fr2 k36 (Or.inr rfl)
    obtain ⟨I2, F2, hM2, ht2⟩ := hm2.cell
    refine WW.run (pc' := 2154) (lv' := [(7, .int v0), (6, .int (nI p)), (5, .int (nI i)), (4, .ref od), (3, .ref ou), (2, .ref m), (1, .ref o), (0, .ref (G.2.2.2.1 3))]) (st' := [.ref m]) 2 rfl ?_
    refine WW.callV [] m [] rfl mX0_149 (sM_thrown hM2) (wdRecv.obj hM2.1 rfl) rfl rfl (wd_le rfl) (wd_le rfl) (by omega) (by omega) (fun o w' hq => ?_)
    obtain ⟨rfl, hw9⟩ := hq
    show WW _ _ _ 2157 _ [.int (I2 2)] _
    rw [hw9]
    clear hw9 w'
    rw [ht2]
    refine WW.run (pc' := 2159) (lv' := [(7, .int v0), (6, .int (nI p)), (5, .int (nI i)), (4, .ref od), (3, .ref ou), (2, .ref m), (1, .ref o), (0, .ref (G.2.2.2.1 3))]) (st' := [.int (nI p), .int (nI p)]) 1 rfl ?_
    refine WW.icmp_eq (tgt := 2164) rfl rfl (fun _ => ?_) (fun hno => absurd rfl hno)
    refine WW.run (pc' := 2166) (lv' := [(7, .int v0), (6, .int (nI p)), (5, .int (nI i)), (4, .ref od), (3, .ref ou), (2, .ref m), (1, .ref o), (0, .ref (G.2.2.2.1 3))]) (st' := [.int (nI p)]) 1 rfl ?_
    refine WW.if_ne (tgt := 2181) rfl rfl (fun _ => ?_) (fun hno => absurd hno (nI_ne0 hp1 (by omega)))
    refine WW.run (pc' := 2455) (lv' := [(7, .int v0), (6, .int (nI p)), (5, .int (nI i)), (4, .ref od), (3, .ref ou), (2, .ref m), (1, .ref o), (0, .ref (G.2.2.2.1 3))]) (st' := []) 1 rfl ?_
    refine WW.pick (lv' := [(5, .int (nI i)), (4, .ref od), (3, .ref ou), (2, .ref m), (1, .ref o), (0, .ref (G.2.2.2.1 3))]) [2, 3, 4, 5, 6, 7] rfl ?_
    exact WW.less (by omega) (by omega) (kk w2 ⟨hO2, hJ0, ⟨_, J, hm2, rfl, rfl, rfl⟩, ⟨_, q35⟩, ⟨_, q36⟩, hA⟩)
  | inr v =>
    obtain ⟨y, rfl⟩ := hr
    obtain ⟨rfl, hf0⟩ := hq
    have hf0 : fL1 0 = y.toInt64 := hf0
    show WW _ _ _ 2145 _ [.int (nI 0)] _
    refine WW.ok fun ok => ?_
    replace ok : wdOk G w1 := ok
    refine WW.run (pc' := 2148) (lv' := [(6, .int (nI 0)), (5, .int (nI i)), (4, .ref od), (3, .ref ou), (2, .ref m), (1, .ref o), (0, .ref (G.2.2.2.1 3))]) (st' := [.ref m]) 2 rfl ?_
    refine WW.callV [] m [] rfl mX0_299 (hy w1 t hm1) (wdRecv.obj hM1.1 rfl) rfl rfl (wd_le rfl) (wd_le rfl) (by omega) (by omega) (fun o w2 hq => ?_)
    obtain ⟨rfl, hm2, fr2⟩ := hq
    show WW _ _ _ 2151 _ [.int y] _
    have hO2 := isOf.mFr ok hO1 hM1 hA fr2
    have q35 := mFr.keep ok hM1 fr2 k35 (Or.inl rfl)
    have q36 := mFr.keep ok hM1 fr2 k36 (Or.inr rfl)
    obtain ⟨I2, F2, hM2, ht2⟩ := hm2.cell
    refine WW.run (pc' := 2154) (lv' := [(7, .int y), (6, .int (nI 0)), (5, .int (nI i)), (4, .ref od), (3, .ref ou), (2, .ref m), (1, .ref o), (0, .ref (G.2.2.2.1 3))]) (st' := [.ref m]) 2 rfl ?_
    refine WW.callV [] m [] rfl mX0_149 (sM_thrown hM2) (wdRecv.obj hM2.1 rfl) rfl rfl (wd_le rfl) (wd_le rfl) (by omega) (by omega) (fun o w' hq => ?_)
    obtain ⟨rfl, hw9⟩ := hq
    show WW _ _ _ 2157 _ [.int (I2 2)] _
    rw [hw9]
    clear hw9 w'
    rw [ht2]
    refine WW.run (pc' := 2159) (lv' := [(7, .int y), (6, .int (nI 0)), (5, .int (nI i)), (4, .ref od), (3, .ref ou), (2, .ref m), (1, .ref o), (0, .ref (G.2.2.2.1 3))]) (st' := [.int (nI 0), .int (nI 0)]) 1 rfl ?_
    refine WW.icmp_eq (tgt := 2164) rfl rfl (fun _ => ?_) (fun hno => absurd rfl hno)
    refine WW.run (pc' := 2166) (lv' := [(7, .int y), (6, .int (nI 0)), (5, .int (nI i)), (4, .ref od), (3, .ref ou), (2, .ref m), (1, .ref o), (0, .ref (G.2.2.2.1 3))]) (st' := [.int (nI 0)]) 1 rfl ?_
    refine WW.if_ne (tgt := 2181) rfl rfl (fun hno => absurd rfl hno) (fun _ => ?_)
    refine WW.run (pc' := 2171) (lv' := [(7, .int y), (6, .int (nI 0)), (5, .int (nI i)), (4, .ref od), (3, .ref ou), (2, .ref m), (1, .ref o), (0, .ref (G.2.2.2.1 3))]) (st' := [.int (nI 0), .ref ou]) 2 rfl ?_
    refine WW.lald rfl q35 one_in ?_
    show WW _ _ _ 2172 _ [.long (fL1 0)] _
    rw [hf0]
    refine WW.run (pc' := 2175) (lv' := [(7, .int y), (6, .int (nI 0)), (5, .int (nI i)), (4, .ref od), (3, .ref ou), (2, .ref m), (1, .ref o), (0, .ref (G.2.2.2.1 3))]) (st' := [.long y.toInt64, .long y.toInt64]) 2 rfl ?_
    refine WW.lcmp rfl ?_
    rw [lg_cmp_self]
    refine WW.if_eq (tgt := 2181) rfl rfl (fun _ => ?_) (fun hno => absurd rfl hno)
    refine WW.run (pc' := 2455) (lv' := [(7, .int y), (6, .int (nI 0)), (5, .int (nI i)), (4, .ref od), (3, .ref ou), (2, .ref m), (1, .ref o), (0, .ref (G.2.2.2.1 3))]) (st' := []) 1 rfl ?_
    refine WW.pick (lv' := [(5, .int (nI i)), (4, .ref od), (3, .ref ou), (2, .ref m), (1, .ref o), (0, .ref (G.2.2.2.1 3))]) [2, 3, 4, 5, 6, 7] rfl ?_
    exact WW.less (by omega) (by omega) (kk w2 ⟨hO2, hJ0, ⟨_, J, hm2, rfl, rfl, rfl⟩, ⟨_, q35⟩, ⟨_, q36⟩, hA⟩)
theorem lK44 (hL : lI G w o hl inp sb m A ou od cur hn hist sv n ic on oc J) (hi : i + 3 < G.2.2.2.2.2.2.1) (hlen : G.2.2.2.2.2.2.1 < 2 ^ 31) (hkc : 40000 ≤ kc) (hks : 200000 ≤ ks) {r : Nat ⊕ Value} {v0 : Int32} (hx : Sp l G MX1_failedCommand 7 1 6 [.ref o] w (oA G o hl inp sb J cur hn hist sv ic on oc [16] r w)) (hr : rOk 1 r) (hy : ∀ w1 t, isMm w1 m A t J cur hn hist sv n ic on oc → Sp l G MX3_failedCommand 6 0 0 [.ref m] w1 (mA m A J cur hn hist sv n ic on oc (.int v0) r w1)) (kk : lNx l G mc ms kc ks i o hl inp sb m A ou od cur hn hist sv n ic on oc J) : WW (lX l G mc ms) kc ks 2184 (lLV G i o m ou od) [] w := by
  obtain ⟨hO, hJ0, ⟨t, J1, hm, j1, j2, j3⟩, ⟨fL, h35⟩, ⟨fD, h36⟩, hA⟩ := hL
  have hm := hm.j j1.symm j2.symm j3.symm
  refine WW.ok fun ok => ?_
  replace ok : wdOk G w := ok
  refine WW.run (pc' := 2186) (lv' := [(5, .int (nI i)), (4, .ref od), (3, .ref ou), (2, .ref m), (1, .ref o), (0, .ref (G.2.2.2.1 3))]) (st' := [.ref ou, .ref o]) 2 rfl ?_
  refine WW.callSH [.ref o, .ref ou] [] rfl mX0_300 (lW_failedCommand  hO h35 hx hr) rfl rfl (wd_le rfl) (wd_le rfl) (by omega) (by omega) (fun o w1 hq => ?_)
  obtain ⟨l1, hO1, fL1, k35, hq⟩ := hq
  have k36 := l1.2 _ _ _ h36 (Or.inr (Or.inr (Or.inl rfl)))
  have hm1 := hm.lFr hA l1
  obtain ⟨I1, F1, hM1, ht1⟩ := hm1.cell
  cases r with
  | inl p =>
    obtain rfl := hq
    have hp1 : 1 ≤ p := hr.1
    have hpN : p ≤ 1 := hr.2
    show WW _ _ _ 2189 _ [.int (nI p)] _
    refine WW.ok fun ok => ?_
    replace ok : wdOk G w1 := ok
    refine WW.run (pc' := 2192) (lv' := [(6, .int (nI p)), (5, .int (nI i)), (4, .ref od), (3, .ref ou), (2, .ref m), (1, .ref o), (0, .ref (G.2.2.2.1 3))]) (st' := [.ref m]) 2 rfl ?_
    refine WW.callV [] m [] rfl mX0_302 (hy w1 t hm1) (wdRecv.obj hM1.1 rfl) rfl rfl (wd_le rfl) (wd_le rfl) (by omega) (by omega) (fun o w2 hq => ?_)
    obtain ⟨rfl, hm2, fr2⟩ := hq
    show WW _ _ _ 2195 _ [.int v0] _
    have hO2 := isOf.mFr ok hO1 hM1 hA fr2
    have q35 := mFr.keep ok hM1 fr2 k35 (Or.inl rfl)
    have q36 := mFr.keep ok hM1 fr2 k36 (Or.inr rfl)
    obtain ⟨I2, F2, hM2, ht2⟩ := hm2.cell
    refine WW.run (pc' := 2198) (lv' := [(7, .int v0), (6, .int (nI p)), (5, .int (nI i)), (4, .ref od), (3, .ref ou), (2, .ref m), (1, .ref o), (0, .ref (G.2.2.2.1 3))]) (st' := [.ref m]) 2 rfl ?_
    refine WW.callV [] m [] rfl mX0_149 (sM_thrown hM2) (wdRecv.obj hM2.1 rfl) rfl rfl (wd_le rfl) (wd_le rfl) (by omega) (by omega) (fun o w' hq => ?_)
    obtain ⟨rfl, hw9⟩ := hq
    show WW _ _ _ 2201 _ [.int (I2 2)] _
    rw [hw9]
    clear hw9 w'
    rw [ht2]
    refine WW.run (pc' := 2203) (lv' := [(7, .int v0), (6, .int (nI p)), (5, .int (nI i)), (4, .ref od), (3, .ref ou), (2, .ref m), (1, .ref o), (0, .ref (G.2.2.2.1 3))]) (st' := [.int (nI p), .int (nI p)]) 1 rfl ?_
    refine WW.icmp_eq (tgt := 2208) rfl rfl (fun _ => ?_) (fun hno => absurd rfl hno)
    refine WW.run (pc' := 2210) (lv' := [(7, .int v0), (6, .int (nI p)), (5, .int (nI i)), (4, .ref od), (3, .ref ou), (2, .ref m), (1, .ref o), (0, .ref (G.2.2.2.1 3))]) (st' := [.int (nI p)]) 1 rfl ?_
    refine WW.if_ne (tgt := 2225) rfl rfl (fun _ => ?_) (fun hno => absurd hno (nI_ne0 hp1 (by omega)))
    refine WW.run (pc' := 2455) (lv' := [(7, .int v0), (6, .int (nI p)), (5, .int (nI i)), (4, .ref od), (3, .ref ou), (2, .ref m), (1, .ref o), (0, .ref (G.2.2.2.1 3))]) (st' := []) 1 rfl ?_
    refine WW.pick (lv' := [(5, .int (nI i)), (4, .ref od), (3, .ref ou), (2, .ref m), (1, .ref o), (0, .ref (G.2.2.2.1 3))]) [2, 3, 4, 5, 6, 7] rfl ?_
    exact WW.less (by omega) (by omega) (kk w2 ⟨hO2, hJ0, ⟨_, J, hm2, rfl, rfl, rfl⟩, ⟨_, q35⟩, ⟨_, q36⟩, hA⟩)
  | inr v =>
    obtain ⟨y, rfl⟩ := hr
    obtain ⟨rfl, hf0⟩ := hq
    have hf0 : fL1 0 = y.toInt64 := hf0
    show WW _ _ _ 2189 _ [.int (nI 0)] _
    refine WW.ok fun ok => ?_
    replace ok : wdOk G w1 := ok
    refine WW.run (pc' := 2192) (lv' := [(6, .int (nI 0)), (5, .int (nI i)), (4, .ref od), (3, .ref ou), (2, .ref m), (1, .ref o), (0, .ref (G.2.2.2.1 3))]) (st' := [.ref m]) 2 rfl ?_
    refine WW.callV [] m [] rfl mX0_302 (hy w1 t hm1) (wdRecv.obj hM1.1 rfl) rfl rfl (wd_le rfl) (wd_le rfl) (by omega) (by omega) (fun o w2 hq => ?_)
    obtain ⟨rfl, hm2, fr2⟩ := hq
    show WW _ _ _ 2195 _ [.int y] _
    have hO2 := isOf.mFr ok hO1 hM1 hA fr2
    have q35 := mFr.keep ok hM1 fr2 k35 (Or.inl rfl)
    have q36 := mFr.keep ok hM1 fr2 k36 (Or.inr rfl)
    obtain ⟨I2, F2, hM2, ht2⟩ := hm2.cell
    refine WW.run (pc' := 2198) (lv' := [(7, .int y), (6, .int (nI 0)), (5, .int (nI i)), (4, .ref od), (3, .ref ou), (2, .ref m), (1, .ref o), (0, .ref (G.2.2.2.1 3))]) (st' := [.ref m]) 2 rfl ?_
    refine WW.callV [] m [] rfl mX0_149 (sM_thrown hM2) (wdRecv.obj hM2.1 rfl) rfl rfl (wd_le rfl) (wd_le rfl) (by omega) (by omega) (fun o w' hq => ?_)
    obtain ⟨rfl, hw9⟩ := hq
    show WW _ _ _ 2201 _ [.int (I2 2)] _
    rw [hw9]
    clear hw9 w'
    rw [ht2]
    refine WW.run (pc' := 2203) (lv' := [(7, .int y), (6, .int (nI 0)), (5, .int (nI i)), (4, .ref od), (3, .ref ou), (2, .ref m), (1, .ref o), (0, .ref (G.2.2.2.1 3))]) (st' := [.int (nI 0), .int (nI 0)]) 1 rfl ?_
    refine WW.icmp_eq (tgt := 2208) rfl rfl (fun _ => ?_) (fun hno => absurd rfl hno)
    refine WW.run (pc' := 2210) (lv' := [(7, .int y), (6, .int (nI 0)), (5, .int (nI i)), (4, .ref od), (3, .ref ou), (2, .ref m), (1, .ref o), (0, .ref (G.2.2.2.1 3))]) (st' := [.int (nI 0)]) 1 rfl ?_
    refine WW.if_ne (tgt := 2225) rfl rfl (fun hno => absurd rfl hno) (fun _ => ?_)
    refine WW.run (pc' := 2215) (lv' := [(7, .int y), (6, .int (nI 0)), (5, .int (nI i)), (4, .ref od), (3, .ref ou), (2, .ref m), (1, .ref o), (0, .ref (G.2.2.2.1 3))]) (st' := [.int (nI 0), .ref ou]) 2 rfl ?_
    refine WW.lald rfl q35 one_in ?_
    show WW _ _ _ 2216 _ [.long (fL1 0)] _
    rw [hf0]
    refine WW.run (pc' := 2219) (lv' := [(7, .int y), (6, .int (nI 0)), (5, .int (nI i)), (4, .ref od), (3, .ref ou), (2, .ref m), (1, .ref o), (0, .ref (G.2.2.2.1 3))]) (st' := [.long y.toInt64, .long y.toInt64]) 2 rfl ?_
    refine WW.lcmp rfl ?_
    rw [lg_cmp_self]
    refine WW.if_eq (tgt := 2225) rfl rfl (fun _ => ?_) (fun hno => absurd rfl hno)
    refine WW.run (pc' := 2455) (lv' := [(7, .int y), (6, .int (nI 0)), (5, .int (nI i)), (4, .ref od), (3, .ref ou), (2, .ref m), (1, .ref o), (0, .ref (G.2.2.2.1 3))]) (st' := []) 1 rfl ?_
    refine WW.pick (lv' := [(5, .int (nI i)), (4, .ref od), (3, .ref ou), (2, .ref m), (1, .ref o), (0, .ref (G.2.2.2.1 3))]) [2, 3, 4, 5, 6, 7] rfl ?_
    exact WW.less (by omega) (by omega) (kk w2 ⟨hO2, hJ0, ⟨_, J, hm2, rfl, rfl, rfl⟩, ⟨_, q35⟩, ⟨_, q36⟩, hA⟩)
theorem lK45 (hL : lI G w o hl inp sb m A ou od cur hn hist sv n ic on oc J) (hi : i + 3 < G.2.2.2.2.2.2.1) (hlen : G.2.2.2.2.2.2.1 < 2 ^ 31) (hkc : 40000 ≤ kc) (hks : 200000 ≤ ks) {r : Nat ⊕ Value} {v0 : Int32} (hx : Sp l G MX1_failureReason 7 1 6 [.ref o] w (oA G o hl inp sb J cur hn hist sv ic on oc [16] r w)) (hr : rOk 1 r) (hy : ∀ w1 t, isMm w1 m A t J cur hn hist sv n ic on oc → Sp l G MX3_failureReason 6 0 0 [.ref m] w1 (mA m A J cur hn hist sv n ic on oc (.int v0) r w1)) (kk : lNx l G mc ms kc ks i o hl inp sb m A ou od cur hn hist sv n ic on oc J) : WW (lX l G mc ms) kc ks 2228 (lLV G i o m ou od) [] w := by
  obtain ⟨hO, hJ0, ⟨t, J1, hm, j1, j2, j3⟩, ⟨fL, h35⟩, ⟨fD, h36⟩, hA⟩ := hL
  have hm := hm.j j1.symm j2.symm j3.symm
  refine WW.ok fun ok => ?_
  replace ok : wdOk G w := ok
  refine WW.run (pc' := 2230) (lv' := [(5, .int (nI i)), (4, .ref od), (3, .ref ou), (2, .ref m), (1, .ref o), (0, .ref (G.2.2.2.1 3))]) (st' := [.ref ou, .ref o]) 2 rfl ?_
  refine WW.callSH [.ref o, .ref ou] [] rfl mX0_303 (lW_failureReason  hO h35 hx hr) rfl rfl (wd_le rfl) (wd_le rfl) (by omega) (by omega) (fun o w1 hq => ?_)
  obtain ⟨l1, hO1, fL1, k35, hq⟩ := hq
  have k36 := l1.2 _ _ _ h36 (Or.inr (Or.inr (Or.inl rfl)))
  have hm1 := hm.lFr hA l1
  obtain ⟨I1, F1, hM1, ht1⟩ := hm1.cell
  cases r with
  | inl p =>
    obtain rfl := hq
    have hp1 : 1 ≤ p := hr.1
    have hpN : p ≤ 1 := hr.2
    show WW _ _ _ 2233 _ [.int (nI p)] _
    refine WW.ok fun ok => ?_
    replace ok : wdOk G w1 := ok
    refine WW.run (pc' := 2236) (lv' := [(6, .int (nI p)), (5, .int (nI i)), (4, .ref od), (3, .ref ou), (2, .ref m), (1, .ref o), (0, .ref (G.2.2.2.1 3))]) (st' := [.ref m]) 2 rfl ?_
    refine WW.callV [] m [] rfl mX0_305 (hy w1 t hm1) (wdRecv.obj hM1.1 rfl) rfl rfl (wd_le rfl) (wd_le rfl) (by omega) (by omega) (fun o w2 hq => ?_)
    obtain ⟨rfl, hm2, fr2⟩ := hq
    show WW _ _ _ 2239 _ [.int v0] _
    have hO2 := isOf.mFr ok hO1 hM1 hA fr2
    have q35 := mFr.keep ok hM1 fr2 k35 (Or.inl rfl)
    have q36 := mFr.keep ok hM1 fr2 k36 (Or.inr rfl)
    obtain ⟨I2, F2, hM2, ht2⟩ := hm2.cell
    refine WW.run (pc' := 2242) (lv' := [(7, .int v0), (6, .int (nI p)), (5, .int (nI i)), (4, .ref od), (3, .ref ou), (2, .ref m), (1, .ref o), (0, .ref (G.2.2.2.1 3))]) (st' := [.ref m]) 2 rfl ?_
    refine WW.callV [] m [] rfl mX0_149 (sM_thrown hM2) (wdRecv.obj hM2.1 rfl) rfl rfl (wd_le rfl) (wd_le rfl) (by omega) (by omega) (fun o w' hq => ?_)
    obtain ⟨rfl, hw9⟩ := hq
    show WW _ _ _ 2245 _ [.int (I2 2)] _
    rw [hw9]
    clear hw9 w'
    rw [ht2]
    refine WW.run (pc' := 2247) (lv' := [(7, .int v0), (6, .int (nI p)), (5, .int (nI i)), (4, .ref od), (3, .ref ou), (2, .ref m), (1, .ref o), (0, .ref (G.2.2.2.1 3))]) (st' := [.int (nI p), .int (nI p)]) 1 rfl ?_
    refine WW.icmp_eq (tgt := 2252) rfl rfl (fun _ => ?_) (fun hno => absurd rfl hno)
    refine WW.run (pc' := 2254) (lv' := [(7, .int v0), (6, .int (nI p)), (5, .int (nI i)), (4, .ref od), (3, .ref ou), (2, .ref m), (1, .ref o), (0, .ref (G.2.2.2.1 3))]) (st' := [.int (nI p)]) 1 rfl ?_
    refine WW.if_ne (tgt := 2269) rfl rfl (fun _ => ?_) (fun hno => absurd hno (nI_ne0 hp1 (by omega)))
    refine WW.run (pc' := 2455) (lv' := [(7, .int v0), (6, .int (nI p)), (5, .int (nI i)), (4, .ref od), (3, .ref ou), (2, .ref m), (1, .ref o), (0, .ref (G.2.2.2.1 3))]) (st' := []) 1 rfl ?_
    refine WW.pick (lv' := [(5, .int (nI i)), (4, .ref od), (3, .ref ou), (2, .ref m), (1, .ref o), (0, .ref (G.2.2.2.1 3))]) [2, 3, 4, 5, 6, 7] rfl ?_
    exact WW.less (by omega) (by omega) (kk w2 ⟨hO2, hJ0, ⟨_, J, hm2, rfl, rfl, rfl⟩, ⟨_, q35⟩, ⟨_, q36⟩, hA⟩)
  | inr v =>
    obtain ⟨y, rfl⟩ := hr
    obtain ⟨rfl, hf0⟩ := hq
    have hf0 : fL1 0 = y.toInt64 := hf0
    show WW _ _ _ 2233 _ [.int (nI 0)] _
    refine WW.ok fun ok => ?_
    replace ok : wdOk G w1 := ok
    refine WW.run (pc' := 2236) (lv' := [(6, .int (nI 0)), (5, .int (nI i)), (4, .ref od), (3, .ref ou), (2, .ref m), (1, .ref o), (0, .ref (G.2.2.2.1 3))]) (st' := [.ref m]) 2 rfl ?_
    refine WW.callV [] m [] rfl mX0_305 (hy w1 t hm1) (wdRecv.obj hM1.1 rfl) rfl rfl (wd_le rfl) (wd_le rfl) (by omega) (by omega) (fun o w2 hq => ?_)
    obtain ⟨rfl, hm2, fr2⟩ := hq
    show WW _ _ _ 2239 _ [.int y] _
    have hO2 := isOf.mFr ok hO1 hM1 hA fr2
    have q35 := mFr.keep ok hM1 fr2 k35 (Or.inl rfl)
    have q36 := mFr.keep ok hM1 fr2 k36 (Or.inr rfl)
    obtain ⟨I2, F2, hM2, ht2⟩ := hm2.cell
    refine WW.run (pc' := 2242) (lv' := [(7, .int y), (6, .int (nI 0)), (5, .int (nI i)), (4, .ref od), (3, .ref ou), (2, .ref m), (1, .ref o), (0, .ref (G.2.2.2.1 3))]) (st' := [.ref m]) 2 rfl ?_
    refine WW.callV [] m [] rfl mX0_149 (sM_thrown hM2) (wdRecv.obj hM2.1 rfl) rfl rfl (wd_le rfl) (wd_le rfl) (by omega) (by omega) (fun o w' hq => ?_)
    obtain ⟨rfl, hw9⟩ := hq
    show WW _ _ _ 2245 _ [.int (I2 2)] _
    rw [hw9]
    clear hw9 w'
    rw [ht2]
    refine WW.run (pc' := 2247) (lv' := [(7, .int y), (6, .int (nI 0)), (5, .int (nI i)), (4, .ref od), (3, .ref ou), (2, .ref m), (1, .ref o), (0, .ref (G.2.2.2.1 3))]) (st' := [.int (nI 0), .int (nI 0)]) 1 rfl ?_
    refine WW.icmp_eq (tgt := 2252) rfl rfl (fun _ => ?_) (fun hno => absurd rfl hno)
    refine WW.run (pc' := 2254) (lv' := [(7, .int y), (6, .int (nI 0)), (5, .int (nI i)), (4, .ref od), (3, .ref ou), (2, .ref m), (1, .ref o), (0, .ref (G.2.2.2.1 3))]) (st' := [.int (nI 0)]) 1 rfl ?_
    refine WW.if_ne (tgt := 2269) rfl rfl (fun hno => absurd rfl hno) (fun _ => ?_)
    refine WW.run (pc' := 2259) (lv' := [(7, .int y), (6, .int (nI 0)), (5, .int (nI i)), (4, .ref od), (3, .ref ou), (2, .ref m), (1, .ref o), (0, .ref (G.2.2.2.1 3))]) (st' := [.int (nI 0), .ref ou]) 2 rfl ?_
    refine WW.lald rfl q35 one_in ?_
    show WW _ _ _ 2260 _ [.long (fL1 0)] _
    rw [hf0]
    refine WW.run (pc' := 2263) (lv' := [(7, .int y), (6, .int (nI 0)), (5, .int (nI i)), (4, .ref od), (3, .ref ou), (2, .ref m), (1, .ref o), (0, .ref (G.2.2.2.1 3))]) (st' := [.long y.toInt64, .long y.toInt64]) 2 rfl ?_
    refine WW.lcmp rfl ?_
    rw [lg_cmp_self]
    refine WW.if_eq (tgt := 2269) rfl rfl (fun _ => ?_) (fun hno => absurd rfl hno)
    refine WW.run (pc' := 2455) (lv' := [(7, .int y), (6, .int (nI 0)), (5, .int (nI i)), (4, .ref od), (3, .ref ou), (2, .ref m), (1, .ref o), (0, .ref (G.2.2.2.1 3))]) (st' := []) 1 rfl ?_
    refine WW.pick (lv' := [(5, .int (nI i)), (4, .ref od), (3, .ref ou), (2, .ref m), (1, .ref o), (0, .ref (G.2.2.2.1 3))]) [2, 3, 4, 5, 6, 7] rfl ?_
    exact WW.less (by omega) (by omega) (kk w2 ⟨hO2, hJ0, ⟨_, J, hm2, rfl, rfl, rfl⟩, ⟨_, q35⟩, ⟨_, q36⟩, hA⟩)
theorem lK47 (hL : lI G w o hl inp sb m A ou od cur hn hist sv n ic on oc J) (hi : i + 3 < G.2.2.2.2.2.2.1) (hlen : G.2.2.2.2.2.2.1 < 2 ^ 31) (hkc : 40000 ≤ kc) (hks : 200000 ≤ ks) {r : Nat ⊕ Value} {v0 : Int32} (hx : Sp l G MX1_outputChar 8 2061 8346 [.ref o, .int (G.2.2.2.2.2.2.2 (i + 1))] w (oA G o hl inp sb J cur hn hist sv ic on oc [13] r w)) (hr : rOk 1 r) (hy : ∀ w1 t, isMm w1 m A t J cur hn hist sv n ic on oc → Sp l G MX3_outputChar 6 0 0 [.ref m, .int (G.2.2.2.2.2.2.2 (i + 1))] w1 (mA m A J cur hn hist sv n ic on oc (.int v0) r w1)) (kk : lNx l G mc ms kc ks i o hl inp sb m A ou od cur hn hist sv n ic on oc J) : WW (lX l G mc ms) kc ks 2285 (lLV G i o m ou od) [] w := by
  obtain ⟨hO, hJ0, ⟨t, J1, hm, j1, j2, j3⟩, ⟨fL, h35⟩, ⟨fD, h36⟩, hA⟩ := hL
  have hm := hm.j j1.symm j2.symm j3.symm
  refine WW.ok fun ok => ?_
  replace ok : wdOk G w := ok
  refine WW.run (pc' := 2291) (lv' := [(5, .int (nI i)), (4, .ref od), (3, .ref ou), (2, .ref m), (1, .ref o), (0, .ref (G.2.2.2.1 3))]) (st' := [.int ((nI i) + (nI 1)), .ref (G.2.2.2.1 3), .ref o]) 5 rfl ?_
  refine WW.scr (i + 1) rfl (wn_add rfl rfl) (by show _ < G.2.2.2.2.2.2.1; omega) hlen ?_
  refine WW.run (pc' := 2293) (lv' := [(5, .int (nI i)), (4, .ref od), (3, .ref ou), (2, .ref m), (1, .ref o), (0, .ref (G.2.2.2.1 3))]) (st' := [.ref ou, .int (G.2.2.2.2.2.2.2 (i + 1)), .ref o]) 1 rfl ?_
  refine WW.callSH [.ref o, .int (G.2.2.2.2.2.2.2 (i + 1)), .ref ou] [] rfl mX0_310 (lW_outputChar (G.2.2.2.2.2.2.2 (i + 1)) hO h35 hx hr) rfl rfl (wd_le rfl) (wd_le rfl) (by omega) (by omega) (fun o w1 hq => ?_)
  obtain ⟨l1, hO1, fL1, k35, hq⟩ := hq
  have k36 := l1.2 _ _ _ h36 (Or.inr (Or.inr (Or.inl rfl)))
  have hm1 := hm.lFr hA l1
  obtain ⟨I1, F1, hM1, ht1⟩ := hm1.cell
  cases r with
  | inl p =>
    obtain rfl := hq
    have hp1 : 1 ≤ p := hr.1
    have hpN : p ≤ 1 := hr.2
    show WW _ _ _ 2296 _ [.int (nI p)] _
    refine WW.ok fun ok => ?_
    replace ok : wdOk G w1 := ok
    refine WW.run (pc' := 2304) (lv' := [(6, .int (nI p)), (5, .int (nI i)), (4, .ref od), (3, .ref ou), (2, .ref m), (1, .ref o), (0, .ref (G.2.2.2.1 3))]) (st' := [.int ((nI i) + (nI 1)), .ref (G.2.2.2.1 3), .ref m]) 6 rfl ?_
    refine WW.scr (i + 1) rfl (wn_add rfl rfl) (by show _ < G.2.2.2.2.2.2.1; omega) hlen ?_
    refine WW.callV [.int (G.2.2.2.2.2.2.2 (i + 1))] m [] rfl mX0_312 (hy w1 t hm1) (wdRecv.obj hM1.1 rfl) rfl rfl (wd_le rfl) (wd_le rfl) (by omega) (by omega) (fun o w2 hq => ?_)
    obtain ⟨rfl, hm2, fr2⟩ := hq
    show WW _ _ _ 2308 _ [.int v0] _
    have hO2 := isOf.mFr ok hO1 hM1 hA fr2
    have q35 := mFr.keep ok hM1 fr2 k35 (Or.inl rfl)
    have q36 := mFr.keep ok hM1 fr2 k36 (Or.inr rfl)
    obtain ⟨I2, F2, hM2, ht2⟩ := hm2.cell
    refine WW.run (pc' := 2311) (lv' := [(7, .int v0), (6, .int (nI p)), (5, .int (nI i)), (4, .ref od), (3, .ref ou), (2, .ref m), (1, .ref o), (0, .ref (G.2.2.2.1 3))]) (st' := [.ref m]) 2 rfl ?_
    refine WW.callV [] m [] rfl mX0_149 (sM_thrown hM2) (wdRecv.obj hM2.1 rfl) rfl rfl (wd_le rfl) (wd_le rfl) (by omega) (by omega) (fun o w' hq => ?_)
    obtain ⟨rfl, hw9⟩ := hq
    show WW _ _ _ 2314 _ [.int (I2 2)] _
    rw [hw9]
    clear hw9 w'
    rw [ht2]
    refine WW.run (pc' := 2316) (lv' := [(7, .int v0), (6, .int (nI p)), (5, .int (nI i)), (4, .ref od), (3, .ref ou), (2, .ref m), (1, .ref o), (0, .ref (G.2.2.2.1 3))]) (st' := [.int (nI p), .int (nI p)]) 1 rfl ?_
    refine WW.icmp_eq (tgt := 2321) rfl rfl (fun _ => ?_) (fun hno => absurd rfl hno)
    refine WW.run (pc' := 2323) (lv' := [(7, .int v0), (6, .int (nI p)), (5, .int (nI i)), (4, .ref od), (3, .ref ou), (2, .ref m), (1, .ref o), (0, .ref (G.2.2.2.1 3))]) (st' := [.int (nI p)]) 1 rfl ?_
    refine WW.if_ne (tgt := 2338) rfl rfl (fun _ => ?_) (fun hno => absurd hno (nI_ne0 hp1 (by omega)))
    refine WW.run (pc' := 2455) (lv' := [(7, .int v0), (6, .int (nI p)), (5, .int (nI i)), (4, .ref od), (3, .ref ou), (2, .ref m), (1, .ref o), (0, .ref (G.2.2.2.1 3))]) (st' := []) 1 rfl ?_
    refine WW.pick (lv' := [(5, .int (nI i)), (4, .ref od), (3, .ref ou), (2, .ref m), (1, .ref o), (0, .ref (G.2.2.2.1 3))]) [2, 3, 4, 5, 6, 7] rfl ?_
    exact WW.less (by omega) (by omega) (kk w2 ⟨hO2, hJ0, ⟨_, J, hm2, rfl, rfl, rfl⟩, ⟨_, q35⟩, ⟨_, q36⟩, hA⟩)
  | inr v =>
    obtain ⟨y, rfl⟩ := hr
    obtain ⟨rfl, hf0⟩ := hq
    have hf0 : fL1 0 = y.toInt64 := hf0
    show WW _ _ _ 2296 _ [.int (nI 0)] _
    refine WW.ok fun ok => ?_
    replace ok : wdOk G w1 := ok
    refine WW.run (pc' := 2304) (lv' := [(6, .int (nI 0)), (5, .int (nI i)), (4, .ref od), (3, .ref ou), (2, .ref m), (1, .ref o), (0, .ref (G.2.2.2.1 3))]) (st' := [.int ((nI i) + (nI 1)), .ref (G.2.2.2.1 3), .ref m]) 6 rfl ?_
    refine WW.scr (i + 1) rfl (wn_add rfl rfl) (by show _ < G.2.2.2.2.2.2.1; omega) hlen ?_
    refine WW.callV [.int (G.2.2.2.2.2.2.2 (i + 1))] m [] rfl mX0_312 (hy w1 t hm1) (wdRecv.obj hM1.1 rfl) rfl rfl (wd_le rfl) (wd_le rfl) (by omega) (by omega) (fun o w2 hq => ?_)
    obtain ⟨rfl, hm2, fr2⟩ := hq
    show WW _ _ _ 2308 _ [.int y] _
    have hO2 := isOf.mFr ok hO1 hM1 hA fr2
    have q35 := mFr.keep ok hM1 fr2 k35 (Or.inl rfl)
    have q36 := mFr.keep ok hM1 fr2 k36 (Or.inr rfl)
    obtain ⟨I2, F2, hM2, ht2⟩ := hm2.cell
    refine WW.run (pc' := 2311) (lv' := [(7, .int y), (6, .int (nI 0)), (5, .int (nI i)), (4, .ref od), (3, .ref ou), (2, .ref m), (1, .ref o), (0, .ref (G.2.2.2.1 3))]) (st' := [.ref m]) 2 rfl ?_
    refine WW.callV [] m [] rfl mX0_149 (sM_thrown hM2) (wdRecv.obj hM2.1 rfl) rfl rfl (wd_le rfl) (wd_le rfl) (by omega) (by omega) (fun o w' hq => ?_)
    obtain ⟨rfl, hw9⟩ := hq
    show WW _ _ _ 2314 _ [.int (I2 2)] _
    rw [hw9]
    clear hw9 w'
    rw [ht2]
    refine WW.run (pc' := 2316) (lv' := [(7, .int y), (6, .int (nI 0)), (5, .int (nI i)), (4, .ref od), (3, .ref ou), (2, .ref m), (1, .ref o), (0, .ref (G.2.2.2.1 3))]) (st' := [.int (nI 0), .int (nI 0)]) 1 rfl ?_
    refine WW.icmp_eq (tgt := 2321) rfl rfl (fun _ => ?_) (fun hno => absurd rfl hno)
    refine WW.run (pc' := 2323) (lv' := [(7, .int y), (6, .int (nI 0)), (5, .int (nI i)), (4, .ref od), (3, .ref ou), (2, .ref m), (1, .ref o), (0, .ref (G.2.2.2.1 3))]) (st' := [.int (nI 0)]) 1 rfl ?_
    refine WW.if_ne (tgt := 2338) rfl rfl (fun hno => absurd rfl hno) (fun _ => ?_)
    refine WW.run (pc' := 2328) (lv' := [(7, .int y), (6, .int (nI 0)), (5, .int (nI i)), (4, .ref od), (3, .ref ou), (2, .ref m), (1, .ref o), (0, .ref (G.2.2.2.1 3))]) (st' := [.int (nI 0), .ref ou]) 2 rfl ?_
    refine WW.lald rfl q35 one_in ?_
    show WW _ _ _ 2329 _ [.long (fL1 0)] _
    rw [hf0]
    refine WW.run (pc' := 2332) (lv' := [(7, .int y), (6, .int (nI 0)), (5, .int (nI i)), (4, .ref od), (3, .ref ou), (2, .ref m), (1, .ref o), (0, .ref (G.2.2.2.1 3))]) (st' := [.long y.toInt64, .long y.toInt64]) 2 rfl ?_
    refine WW.lcmp rfl ?_
    rw [lg_cmp_self]
    refine WW.if_eq (tgt := 2338) rfl rfl (fun _ => ?_) (fun hno => absurd rfl hno)
    refine WW.run (pc' := 2455) (lv' := [(7, .int y), (6, .int (nI 0)), (5, .int (nI i)), (4, .ref od), (3, .ref ou), (2, .ref m), (1, .ref o), (0, .ref (G.2.2.2.1 3))]) (st' := []) 1 rfl ?_
    refine WW.pick (lv' := [(5, .int (nI i)), (4, .ref od), (3, .ref ou), (2, .ref m), (1, .ref o), (0, .ref (G.2.2.2.1 3))]) [2, 3, 4, 5, 6, 7] rfl ?_
    exact WW.less (by omega) (by omega) (kk w2 ⟨hO2, hJ0, ⟨_, J, hm2, rfl, rfl, rfl⟩, ⟨_, q35⟩, ⟨_, q36⟩, hA⟩)
theorem lK48 (hL : lI G w o hl inp sb m A ou od cur hn hist sv n ic on oc J) (hi : i + 3 < G.2.2.2.2.2.2.1) (hlen : G.2.2.2.2.2.2.1 < 2 ^ 31) (hkc : 40000 ≤ kc) (hks : 200000 ≤ ks) {y v0 : Int32} (hx : Sp l G MX1_undoCount 1 0 0 [.ref o] w (oA G o hl inp sb J cur hn hist sv ic on oc [] (.inr (.int y)) w)) (hy : ∀ w1 t, isMm w1 m A t J cur hn hist sv n ic on oc → Sp l G MX3_undoCount 6 0 0 [.ref m] w1 (mA m A J cur hn hist sv n ic on oc (.int v0) (.inr (.int y)) w1)) (kk : lNx l G mc ms kc ks i o hl inp sb m A ou od cur hn hist sv n ic on oc J) : WW (lX l G mc ms) kc ks 2341 (lLV G i o m ou od) [] w := by
  obtain ⟨hO, hJ0, ⟨t, J1, hm, j1, j2, j3⟩, ⟨fL, h35⟩, ⟨fD, h36⟩, hA⟩ := hL
  have hm := hm.j j1.symm j2.symm j3.symm
  refine WW.ok fun ok => ?_
  replace ok : wdOk G w := ok
  obtain ⟨fs, hc⟩ := hO.cell
  refine WW.run (pc' := 2342) (lv' := [(5, .int (nI i)), (4, .ref od), (3, .ref ou), (2, .ref m), (1, .ref o), (0, .ref (G.2.2.2.1 3))]) (st' := [.ref o]) 1 rfl ?_
  refine WW.callV [] o [] rfl mX0_313 hx (wdRecv.obj hc rfl) rfl rfl (wd_le rfl) (wd_le rfl) (by omega) (by omega) (fun o w1 hq => ?_)
  obtain ⟨f1, hO1, rfl⟩ := hq
  have l1 : lFr inp 35 w w1 := lFr.of (Or.inl rfl) f1
  have k35 := f1.2 _ _ _ h35 (Or.inr (Or.inr (Or.inl rfl)))
  have k36 := f1.2 _ _ _ h36 (Or.inr (Or.inr (Or.inr (Or.inl rfl))))
  have hm1 := hm.lFr hA l1
  obtain ⟨I1, F1, hM1, ht1⟩ := hm1.cell
  show WW _ _ _ 2345 _ [.int y] _
  refine WW.ok fun ok => ?_
  replace ok : wdOk G w1 := ok
  refine WW.run (pc' := 2346) (lv' := [(5, .int (nI i)), (4, .ref od), (3, .ref ou), (2, .ref m), (1, .ref o), (0, .ref (G.2.2.2.1 3))]) (st' := [.ref m, .int y]) 1 rfl ?_
  refine WW.callV [] m [.int y] rfl mX0_316 (hy w1 t hm1) (wdRecv.obj hM1.1 rfl) rfl rfl (wd_le rfl) (wd_le rfl) (by omega) (by omega) (fun o w2 hq => ?_)
  obtain ⟨rfl, hm2, fr2⟩ := hq
  show WW _ _ _ 2349 _ [.int y, .int y] _
  have hO2 := isOf.mFr ok hO1 hM1 hA fr2
  have q35 := mFr.keep ok hM1 fr2 k35 (Or.inl rfl)
  have q36 := mFr.keep ok hM1 fr2 k36 (Or.inr rfl)
  refine WW.icmp_eq (tgt := 2455) rfl rfl (fun _ => ?_) (fun hno => absurd rfl hno)
  exact WW.less (by omega) (by omega) (kk w2 ⟨hO2, hJ0, ⟨_, J, hm2, rfl, rfl, rfl⟩, ⟨_, q35⟩, ⟨_, q36⟩, hA⟩)
end
