set_option maxRecDepth 100000
section
variable {l : Launch} {G : wdG} {w : wdW} {o hl inp sb m : Nat} {A : Nat → Nat} {ou od : Nat} {cur : aS} {hn : Nat} {hist : Nat → aS} {sv : Option aS} {n : Nat} {ic : Nat → Int32} {on : Nat} {oc : Nat → Int32} {J : Nat → Int32} {mc ms kc ks i : Nat}
/-- the answer, or the number of what was thrown -/
def rAns (r : Nat ⊕ Int32) : Int32 := match r with
  | .inl _ => nI 0
  | .inr v => v
theorem lK41 (hL : lI G w o hl inp sb m A ou od cur hn hist sv n ic on oc J) (hi : i + 3 < G.2.2.2.2.2.2.1) (hlen : G.2.2.2.2.2.2.1 < 2 ^ 31) (hkc : 40000 ≤ kc) (hks : 200000 ≤ ks) {rs : Nat ⊕ Int32} (hrs : ∀ p, rs = .inl p → 1 ≤ p ∧ p ≤ 4) {cur' : aS} {hn' : Nat} {hist' : Nat → aS} {sv' : Option aS} {n' : Nat} {ic' : Nat → Int32} {J' : Nat → Int32} {Q : wdO → wdW → Prop} (hx : Sp l G MX1_feed 7 1 6 [.ref o, .int (((G.2.2.2.2.2.2.2 (i + 1)).toUInt32 % 65536).toInt32)] w Q) (hQ : ∀ q w1, Q q w1 → oFr inp w w1 ∧ isOf G w1 o hl inp sb J' cur' hn' hist' sv' ic' on oc ∧ ((∃ x, q = .inr (eN 15, x)) ∧ rs = .inl 1 ∨ ∃ v, q = .inl (some (.int v)) ∧ rs = .inr v)) (hJ' : J' 0 = nI n') {Q2 : wdW → wdO → wdW → Prop} (hy : ∀ w1 t, isMm w1 m A t J cur hn hist sv n ic on oc → Sp l G MX3_feed 6 0 0 [.ref m, .int (((G.2.2.2.2.2.2.2 (i + 1)).toUInt32 % 65536).toInt32)] w1 (Q2 w1)) (hQ2 : ∀ w1 q w2, Q2 w1 q w2 → mFr m A w1 w2 ∧ q = .inl (some (.int (rAns rs))) ∧ ∃ J2, isMm w2 m A (rT rs) J2 cur' hn' hist' sv' n' ic' on oc ∧ J2 1 = J' 1 ∧ J2 2 = J' 2 ∧ J2 3 = J' 3) (kk : lNx l G mc ms kc ks i o hl inp sb m A ou od cur' hn' hist' sv' n' ic' on oc J') : WW (lX l G mc ms) kc ks 2038 (lLV G i o m ou od) [] w := by
  obtain ⟨hO, hJ0, ⟨t, J1, hm, j1, j2, j3⟩, ⟨fL, h35⟩, ⟨fD, h36⟩, hA⟩ := hL
  have hm := hm.j j1.symm j2.symm j3.symm
  refine WW.ok fun ok => ?_
  replace ok : wdOk G w := ok
  refine WW.run (pc' := 2044) (lv' := [(5, .int (nI i)), (4, .ref od), (3, .ref ou), (2, .ref m), (1, .ref o), (0, .ref (G.2.2.2.1 3))]) (st' := [.int ((nI i) + (nI 1)), .ref (G.2.2.2.1 3), .ref o]) 5 rfl ?_
  refine WW.scr (i + 1) rfl (wn_add rfl rfl) (by show _ < G.2.2.2.2.2.2.1; omega) hlen ?_
  refine WW.run (pc' := 2047) (lv' := [(5, .int (nI i)), (4, .ref od), (3, .ref ou), (2, .ref m), (1, .ref o), (0, .ref (G.2.2.2.1 3))]) (st' := [.ref ou, .int (((G.2.2.2.2.2.2.2 (i + 1)).toUInt32 % 65536).toInt32), .ref o]) 2 rfl ?_
  have hQ' : ∀ q w1, Q q w1 → oFr inp w w1 ∧ ((∃ x, q = .inr (eN 15, x)) ∧ ((.inl 1 : Nat ⊕ Int32) = rs ∧ isOf G w1 o hl inp sb J' cur' hn' hist' sv' ic' on oc) ∨ ∃ v, q = .inl (some (.int v)) ∧ ((.inr v : Nat ⊕ Int32) = rs ∧ isOf G w1 o hl inp sb J' cur' hn' hist' sv' ic' on oc)) := fun q w1 h => by
    obtain ⟨a1, b1, hc⟩ := hQ q w1 h
    refine ⟨a1, ?_⟩
    rcases hc with ⟨e, rfl⟩ | ⟨v, rfl, rfl⟩
    · exact Or.inl ⟨e, rfl, b1⟩
    · exact Or.inr ⟨v, rfl, rfl, b1⟩
  refine WW.callSH [.ref o, .int (((G.2.2.2.2.2.2.2 (i + 1)).toUInt32 % 65536).toInt32), .ref ou] [] rfl mX0_290 (lW_feed (((G.2.2.2.2.2.2.2 (i + 1)).toUInt32 % 65536).toInt32) hO h35 (fun r w' => r = rs ∧ isOf G w' o hl inp sb J' cur' hn' hist' sv' ic' on oc) (fun r w' b p h => ⟨h.1, h.2.putL (Or.inl rfl)⟩) hQ' hx) rfl rfl (wd_le rfl) (wd_le rfl) (by omega) (by omega) (fun o w1 hq => ?_)
  obtain ⟨l1, fL1, k35, r, ⟨er, hO1⟩, hq⟩ := hq
  have k36 := l1.2 _ _ _ h36 (Or.inr (Or.inr (Or.inl rfl)))
  have hm1 := hm.lFr hA l1
  obtain ⟨I1, F1, hM1, ht1⟩ := hm1.cell
  subst er
  cases r with
  | inl p =>
    obtain rfl := hq
    show WW _ _ _ 2050 _ [.int (nI p)] _
    refine WW.ok fun ok => ?_
    replace ok : wdOk G w1 := ok
    refine WW.run (pc' := 2058) (lv' := [(6, .int (nI p)), (5, .int (nI i)), (4, .ref od), (3, .ref ou), (2, .ref m), (1, .ref o), (0, .ref (G.2.2.2.1 3))]) (st' := [.int ((nI i) + (nI 1)), .ref (G.2.2.2.1 3), .ref m]) 6 rfl ?_
    refine WW.scr (i + 1) rfl (wn_add rfl rfl) (by show _ < G.2.2.2.2.2.2.1; omega) hlen ?_
    refine WW.run (pc' := 2060) (lv' := [(6, .int (nI p)), (5, .int (nI i)), (4, .ref od), (3, .ref ou), (2, .ref m), (1, .ref o), (0, .ref (G.2.2.2.1 3))]) (st' := [.int (((G.2.2.2.2.2.2.2 (i + 1)).toUInt32 % 65536).toInt32), .ref m]) 1 rfl ?_
    refine WW.callV [.int (((G.2.2.2.2.2.2.2 (i + 1)).toUInt32 % 65536).toInt32)] m [] rfl mX0_293 (hy w1 t hm1) (wdRecv.obj hM1.1 rfl) rfl rfl (wd_le rfl) (wd_le rfl) (by omega) (by omega) (fun o w2 hq => ?_)
    obtain ⟨fr2, rfl, J2, hm2, e1, e2, e3⟩ := hQ2 _ _ _ hq
    show WW _ _ _ 2063 _ [.int (nI 0)] _
    have hO2 := isOf.mFr ok hO1 hM1 hA fr2
    have q35 := mFr.keep ok hM1 fr2 k35 (Or.inl rfl)
    have q36 := mFr.keep ok hM1 fr2 k36 (Or.inr rfl)
    obtain ⟨I2, F2, hM2, ht2⟩ := hm2.cell
    refine WW.run (pc' := 2066) (lv' := [(7, .int (nI 0)), (6, .int (nI p)), (5, .int (nI i)), (4, .ref od), (3, .ref ou), (2, .ref m), (1, .ref o), (0, .ref (G.2.2.2.1 3))]) (st' := [.ref m]) 2 rfl ?_
    refine WW.callV [] m [] rfl mX0_149 (sM_thrown hM2) (wdRecv.obj hM2.1 rfl) rfl rfl (wd_le rfl) (wd_le rfl) (by omega) (by omega) (fun o w' hq => ?_)
    obtain ⟨rfl, hw9⟩ := hq
    show WW _ _ _ 2069 _ [.int (I2 2)] _
    rw [hw9]
    clear hw9 w'
    rw [ht2]
    have hp1 : 1 ≤ p ∧ p ≤ 4 := hrs p rfl
    obtain ⟨hp1, hpN⟩ := hp1
    refine WW.run (pc' := 2071) (lv' := [(7, .int (nI 0)), (6, .int (nI p)), (5, .int (nI i)), (4, .ref od), (3, .ref ou), (2, .ref m), (1, .ref o), (0, .ref (G.2.2.2.1 3))]) (st' := [.int (nI p), .int (nI p)]) 1 rfl ?_
    refine WW.icmp_eq (tgt := 2076) rfl rfl (fun _ => ?_) (fun hno => absurd rfl hno)
    refine WW.run (pc' := 2078) (lv' := [(7, .int (nI 0)), (6, .int (nI p)), (5, .int (nI i)), (4, .ref od), (3, .ref ou), (2, .ref m), (1, .ref o), (0, .ref (G.2.2.2.1 3))]) (st' := [.int (nI p)]) 1 rfl ?_
    refine WW.if_ne (tgt := 2093) rfl rfl (fun _ => ?_) (fun hno => absurd hno (nI_ne0 hp1 (by omega)))
    refine WW.run (pc' := 2455) (lv' := [(7, .int (nI 0)), (6, .int (nI p)), (5, .int (nI i)), (4, .ref od), (3, .ref ou), (2, .ref m), (1, .ref o), (0, .ref (G.2.2.2.1 3))]) (st' := []) 1 rfl ?_
    refine WW.pick (lv' := [(5, .int (nI i)), (4, .ref od), (3, .ref ou), (2, .ref m), (1, .ref o), (0, .ref (G.2.2.2.1 3))]) [2, 3, 4, 5, 6, 7] rfl ?_
    exact WW.less (by omega) (by omega) (kk w2 ⟨hO2, hJ', ⟨_, J2, hm2, e1, e2, e3⟩, ⟨_, q35⟩, ⟨_, q36⟩, hA⟩)
  | inr v =>
    obtain ⟨rfl, hf0⟩ := hq
    show WW _ _ _ 2050 _ [.int (nI 0)] _
    refine WW.ok fun ok => ?_
    replace ok : wdOk G w1 := ok
    refine WW.run (pc' := 2058) (lv' := [(6, .int (nI 0)), (5, .int (nI i)), (4, .ref od), (3, .ref ou), (2, .ref m), (1, .ref o), (0, .ref (G.2.2.2.1 3))]) (st' := [.int ((nI i) + (nI 1)), .ref (G.2.2.2.1 3), .ref m]) 6 rfl ?_
    refine WW.scr (i + 1) rfl (wn_add rfl rfl) (by show _ < G.2.2.2.2.2.2.1; omega) hlen ?_
    refine WW.run (pc' := 2060) (lv' := [(6, .int (nI 0)), (5, .int (nI i)), (4, .ref od), (3, .ref ou), (2, .ref m), (1, .ref o), (0, .ref (G.2.2.2.1 3))]) (st' := [.int (((G.2.2.2.2.2.2.2 (i + 1)).toUInt32 % 65536).toInt32), .ref m]) 1 rfl ?_
    refine WW.callV [.int (((G.2.2.2.2.2.2.2 (i + 1)).toUInt32 % 65536).toInt32)] m [] rfl mX0_293 (hy w1 t hm1) (wdRecv.obj hM1.1 rfl) rfl rfl (wd_le rfl) (wd_le rfl) (by omega) (by omega) (fun o w2 hq => ?_)
    obtain ⟨fr2, rfl, J2, hm2, e1, e2, e3⟩ := hQ2 _ _ _ hq
    show WW _ _ _ 2063 _ [.int v] _
    have hO2 := isOf.mFr ok hO1 hM1 hA fr2
    have q35 := mFr.keep ok hM1 fr2 k35 (Or.inl rfl)
    have q36 := mFr.keep ok hM1 fr2 k36 (Or.inr rfl)
    obtain ⟨I2, F2, hM2, ht2⟩ := hm2.cell
    refine WW.run (pc' := 2066) (lv' := [(7, .int v), (6, .int (nI 0)), (5, .int (nI i)), (4, .ref od), (3, .ref ou), (2, .ref m), (1, .ref o), (0, .ref (G.2.2.2.1 3))]) (st' := [.ref m]) 2 rfl ?_
    refine WW.callV [] m [] rfl mX0_149 (sM_thrown hM2) (wdRecv.obj hM2.1 rfl) rfl rfl (wd_le rfl) (wd_le rfl) (by omega) (by omega) (fun o w' hq => ?_)
    obtain ⟨rfl, hw9⟩ := hq
    show WW _ _ _ 2069 _ [.int (I2 2)] _
    rw [hw9]
    clear hw9 w'
    rw [ht2]
    refine WW.run (pc' := 2071) (lv' := [(7, .int v), (6, .int (nI 0)), (5, .int (nI i)), (4, .ref od), (3, .ref ou), (2, .ref m), (1, .ref o), (0, .ref (G.2.2.2.1 3))]) (st' := [.int (nI 0), .int (nI 0)]) 1 rfl ?_
    refine WW.icmp_eq (tgt := 2076) rfl rfl (fun _ => ?_) (fun hno => absurd rfl hno)
    refine WW.run (pc' := 2078) (lv' := [(7, .int v), (6, .int (nI 0)), (5, .int (nI i)), (4, .ref od), (3, .ref ou), (2, .ref m), (1, .ref o), (0, .ref (G.2.2.2.1 3))]) (st' := [.int (nI 0)]) 1 rfl ?_
    refine WW.if_ne (tgt := 2093) rfl rfl (fun hno => absurd rfl hno) (fun _ => ?_)
    refine WW.run (pc' := 2083) (lv' := [(7, .int v), (6, .int (nI 0)), (5, .int (nI i)), (4, .ref od), (3, .ref ou), (2, .ref m), (1, .ref o), (0, .ref (G.2.2.2.1 3))]) (st' := [.int (nI 0), .ref ou]) 2 rfl ?_
    refine WW.lald rfl q35 one_in ?_
    show WW _ _ _ 2084 _ [.long (fL1 0)] _
    rw [hf0]
    refine WW.run (pc' := 2087) (lv' := [(7, .int v), (6, .int (nI 0)), (5, .int (nI i)), (4, .ref od), (3, .ref ou), (2, .ref m), (1, .ref o), (0, .ref (G.2.2.2.1 3))]) (st' := [.long v.toInt64, .long v.toInt64]) 2 rfl ?_
    refine WW.lcmp rfl ?_
    rw [lg_cmp_self]
    refine WW.if_eq (tgt := 2093) rfl rfl (fun _ => ?_) (fun hno => absurd rfl hno)
    refine WW.run (pc' := 2455) (lv' := [(7, .int v), (6, .int (nI 0)), (5, .int (nI i)), (4, .ref od), (3, .ref ou), (2, .ref m), (1, .ref o), (0, .ref (G.2.2.2.1 3))]) (st' := []) 1 rfl ?_
    refine WW.pick (lv' := [(5, .int (nI i)), (4, .ref od), (3, .ref ou), (2, .ref m), (1, .ref o), (0, .ref (G.2.2.2.1 3))]) [2, 3, 4, 5, 6, 7] rfl ?_
    exact WW.less (by omega) (by omega) (kk w2 ⟨hO2, hJ', ⟨_, J2, hm2, e1, e2, e3⟩, ⟨_, q35⟩, ⟨_, q36⟩, hA⟩)
theorem lK42 (hL : lI G w o hl inp sb m A ou od cur hn hist sv n ic on oc J) (hi : i + 3 < G.2.2.2.2.2.2.1) (hlen : G.2.2.2.2.2.2.1 < 2 ^ 31) (hkc : 40000 ≤ kc) (hks : 200000 ≤ ks) {rs : Nat ⊕ Int32} (hrs : ∀ p, rs = .inl p → 1 ≤ p ∧ p ≤ 4) {cur' : aS} {hn' : Nat} {hist' : Nat → aS} {sv' : Option aS} {n' : Nat} {ic' : Nat → Int32} {J' : Nat → Int32} {Q : wdO → wdW → Prop} (hx : Sp l G MX1_runCommands 14 19110 94020 [.ref o] w Q) (hQ : ∀ q w1, Q q w1 → oFr inp w w1 ∧ isOf G w1 o hl inp sb J' cur' hn' hist' sv' ic' on oc ∧ ((∃ x, q = .inr (eN 14, x)) ∧ rs = .inl 1 ∨ (∃ x, q = .inr (eN 17, x)) ∧ rs = .inl 2 ∨ ∃ v, q = .inl (some (.int v)) ∧ rs = .inr v)) (hJ' : J' 0 = nI n') {Q2 : wdW → wdO → wdW → Prop} (hy : ∀ w1 t, isMm w1 m A t J cur hn hist sv n ic on oc → Sp l G MX3_runCommands 8 0 0 [.ref m] w1 (Q2 w1)) (hQ2 : ∀ w1 q w2, Q2 w1 q w2 → mFr m A w1 w2 ∧ q = .inl (some (.int (rAns rs))) ∧ ∃ J2, isMm w2 m A (rT rs) J2 cur' hn' hist' sv' n' ic' on oc ∧ J2 1 = J' 1 ∧ J2 2 = J' 2 ∧ J2 3 = J' 3) (kk : lNx l G mc ms kc ks i o hl inp sb m A ou od cur' hn' hist' sv' n' ic' on oc J') : WW (lX l G mc ms) kc ks 2096 (lLV G i o m ou od) [] w := by
  obtain ⟨hO, hJ0, ⟨t, J1, hm, j1, j2, j3⟩, ⟨fL, h35⟩, ⟨fD, h36⟩, hA⟩ := hL
  have hm := hm.j j1.symm j2.symm j3.symm
  refine WW.ok fun ok => ?_
  replace ok : wdOk G w := ok
  refine WW.run (pc' := 2098) (lv' := [(5, .int (nI i)), (4, .ref od), (3, .ref ou), (2, .ref m), (1, .ref o), (0, .ref (G.2.2.2.1 3))]) (st' := [.ref ou, .ref o]) 2 rfl ?_
  have hQ' : ∀ q w1, Q q w1 → oFr inp w w1 ∧ ((∃ x, q = .inr (eN 14, x)) ∧ ((.inl 1 : Nat ⊕ Int32) = rs ∧ isOf G w1 o hl inp sb J' cur' hn' hist' sv' ic' on oc) ∨ (∃ x, q = .inr (eN 17, x)) ∧ ((.inl 2 : Nat ⊕ Int32) = rs ∧ isOf G w1 o hl inp sb J' cur' hn' hist' sv' ic' on oc) ∨ ∃ v, q = .inl (some (.int v)) ∧ ((.inr v : Nat ⊕ Int32) = rs ∧ isOf G w1 o hl inp sb J' cur' hn' hist' sv' ic' on oc)) := fun q w1 h => by
    obtain ⟨a1, b1, hc⟩ := hQ q w1 h
    refine ⟨a1, ?_⟩
    rcases hc with ⟨e, rfl⟩ | ⟨e, rfl⟩ | ⟨v, rfl, rfl⟩
    · exact Or.inl ⟨e, rfl, b1⟩
    · exact Or.inr (Or.inl ⟨e, rfl, b1⟩)
    · exact Or.inr (Or.inr ⟨v, rfl, rfl, b1⟩)
  refine WW.callSH [.ref o, .ref ou] [] rfl mX0_294 (lW_runCommands  hO h35 (fun r w' => r = rs ∧ isOf G w' o hl inp sb J' cur' hn' hist' sv' ic' on oc) (fun r w' b p h => ⟨h.1, h.2.putL (Or.inl rfl)⟩) hQ' hx) rfl rfl (wd_le rfl) (wd_le rfl) (by omega) (by omega) (fun o w1 hq => ?_)
  obtain ⟨l1, fL1, k35, r, ⟨er, hO1⟩, hq⟩ := hq
  have k36 := l1.2 _ _ _ h36 (Or.inr (Or.inr (Or.inl rfl)))
  have hm1 := hm.lFr hA l1
  obtain ⟨I1, F1, hM1, ht1⟩ := hm1.cell
  subst er
  cases r with
  | inl p =>
    obtain rfl := hq
    show WW _ _ _ 2101 _ [.int (nI p)] _
    refine WW.ok fun ok => ?_
    replace ok : wdOk G w1 := ok
    refine WW.run (pc' := 2104) (lv' := [(6, .int (nI p)), (5, .int (nI i)), (4, .ref od), (3, .ref ou), (2, .ref m), (1, .ref o), (0, .ref (G.2.2.2.1 3))]) (st' := [.ref m]) 2 rfl ?_
    refine WW.callV [] m [] rfl mX0_296 (hy w1 t hm1) (wdRecv.obj hM1.1 rfl) rfl rfl (wd_le rfl) (wd_le rfl) (by omega) (by omega) (fun o w2 hq => ?_)
    obtain ⟨fr2, rfl, J2, hm2, e1, e2, e3⟩ := hQ2 _ _ _ hq
    show WW _ _ _ 2107 _ [.int (nI 0)] _
    have hO2 := isOf.mFr ok hO1 hM1 hA fr2
    have q35 := mFr.keep ok hM1 fr2 k35 (Or.inl rfl)
    have q36 := mFr.keep ok hM1 fr2 k36 (Or.inr rfl)
    obtain ⟨I2, F2, hM2, ht2⟩ := hm2.cell
    refine WW.run (pc' := 2110) (lv' := [(7, .int (nI 0)), (6, .int (nI p)), (5, .int (nI i)), (4, .ref od), (3, .ref ou), (2, .ref m), (1, .ref o), (0, .ref (G.2.2.2.1 3))]) (st' := [.ref m]) 2 rfl ?_
    refine WW.callV [] m [] rfl mX0_149 (sM_thrown hM2) (wdRecv.obj hM2.1 rfl) rfl rfl (wd_le rfl) (wd_le rfl) (by omega) (by omega) (fun o w' hq => ?_)
    obtain ⟨rfl, hw9⟩ := hq
    show WW _ _ _ 2113 _ [.int (I2 2)] _
    rw [hw9]
    clear hw9 w'
    rw [ht2]
    have hp1 : 1 ≤ p ∧ p ≤ 4 := hrs p rfl
    obtain ⟨hp1, hpN⟩ := hp1
    refine WW.run (pc' := 2115) (lv' := [(7, .int (nI 0)), (6, .int (nI p)), (5, .int (nI i)), (4, .ref od), (3, .ref ou), (2, .ref m), (1, .ref o), (0, .ref (G.2.2.2.1 3))]) (st' := [.int (nI p), .int (nI p)]) 1 rfl ?_
    refine WW.icmp_eq (tgt := 2120) rfl rfl (fun _ => ?_) (fun hno => absurd rfl hno)
    refine WW.run (pc' := 2122) (lv' := [(7, .int (nI 0)), (6, .int (nI p)), (5, .int (nI i)), (4, .ref od), (3, .ref ou), (2, .ref m), (1, .ref o), (0, .ref (G.2.2.2.1 3))]) (st' := [.int (nI p)]) 1 rfl ?_
    refine WW.if_ne (tgt := 2137) rfl rfl (fun _ => ?_) (fun hno => absurd hno (nI_ne0 hp1 (by omega)))
    refine WW.run (pc' := 2455) (lv' := [(7, .int (nI 0)), (6, .int (nI p)), (5, .int (nI i)), (4, .ref od), (3, .ref ou), (2, .ref m), (1, .ref o), (0, .ref (G.2.2.2.1 3))]) (st' := []) 1 rfl ?_
    refine WW.pick (lv' := [(5, .int (nI i)), (4, .ref od), (3, .ref ou), (2, .ref m), (1, .ref o), (0, .ref (G.2.2.2.1 3))]) [2, 3, 4, 5, 6, 7] rfl ?_
    exact WW.less (by omega) (by omega) (kk w2 ⟨hO2, hJ', ⟨_, J2, hm2, e1, e2, e3⟩, ⟨_, q35⟩, ⟨_, q36⟩, hA⟩)
  | inr v =>
    obtain ⟨rfl, hf0⟩ := hq
    show WW _ _ _ 2101 _ [.int (nI 0)] _
    refine WW.ok fun ok => ?_
    replace ok : wdOk G w1 := ok
    refine WW.run (pc' := 2104) (lv' := [(6, .int (nI 0)), (5, .int (nI i)), (4, .ref od), (3, .ref ou), (2, .ref m), (1, .ref o), (0, .ref (G.2.2.2.1 3))]) (st' := [.ref m]) 2 rfl ?_
    refine WW.callV [] m [] rfl mX0_296 (hy w1 t hm1) (wdRecv.obj hM1.1 rfl) rfl rfl (wd_le rfl) (wd_le rfl) (by omega) (by omega) (fun o w2 hq => ?_)
    obtain ⟨fr2, rfl, J2, hm2, e1, e2, e3⟩ := hQ2 _ _ _ hq
    show WW _ _ _ 2107 _ [.int v] _
    have hO2 := isOf.mFr ok hO1 hM1 hA fr2
    have q35 := mFr.keep ok hM1 fr2 k35 (Or.inl rfl)
    have q36 := mFr.keep ok hM1 fr2 k36 (Or.inr rfl)
    obtain ⟨I2, F2, hM2, ht2⟩ := hm2.cell
    refine WW.run (pc' := 2110) (lv' := [(7, .int v), (6, .int (nI 0)), (5, .int (nI i)), (4, .ref od), (3, .ref ou), (2, .ref m), (1, .ref o), (0, .ref (G.2.2.2.1 3))]) (st' := [.ref m]) 2 rfl ?_
    refine WW.callV [] m [] rfl mX0_149 (sM_thrown hM2) (wdRecv.obj hM2.1 rfl) rfl rfl (wd_le rfl) (wd_le rfl) (by omega) (by omega) (fun o w' hq => ?_)
    obtain ⟨rfl, hw9⟩ := hq
    show WW _ _ _ 2113 _ [.int (I2 2)] _
    rw [hw9]
    clear hw9 w'
    rw [ht2]
    refine WW.run (pc' := 2115) (lv' := [(7, .int v), (6, .int (nI 0)), (5, .int (nI i)), (4, .ref od), (3, .ref ou), (2, .ref m), (1, .ref o), (0, .ref (G.2.2.2.1 3))]) (st' := [.int (nI 0), .int (nI 0)]) 1 rfl ?_
    refine WW.icmp_eq (tgt := 2120) rfl rfl (fun _ => ?_) (fun hno => absurd rfl hno)
    refine WW.run (pc' := 2122) (lv' := [(7, .int v), (6, .int (nI 0)), (5, .int (nI i)), (4, .ref od), (3, .ref ou), (2, .ref m), (1, .ref o), (0, .ref (G.2.2.2.1 3))]) (st' := [.int (nI 0)]) 1 rfl ?_
    refine WW.if_ne (tgt := 2137) rfl rfl (fun hno => absurd rfl hno) (fun _ => ?_)
    refine WW.run (pc' := 2127) (lv' := [(7, .int v), (6, .int (nI 0)), (5, .int (nI i)), (4, .ref od), (3, .ref ou), (2, .ref m), (1, .ref o), (0, .ref (G.2.2.2.1 3))]) (st' := [.int (nI 0), .ref ou]) 2 rfl ?_
    refine WW.lald rfl q35 one_in ?_
    show WW _ _ _ 2128 _ [.long (fL1 0)] _
    rw [hf0]
    refine WW.run (pc' := 2131) (lv' := [(7, .int v), (6, .int (nI 0)), (5, .int (nI i)), (4, .ref od), (3, .ref ou), (2, .ref m), (1, .ref o), (0, .ref (G.2.2.2.1 3))]) (st' := [.long v.toInt64, .long v.toInt64]) 2 rfl ?_
    refine WW.lcmp rfl ?_
    rw [lg_cmp_self]
    refine WW.if_eq (tgt := 2137) rfl rfl (fun _ => ?_) (fun hno => absurd rfl hno)
    refine WW.run (pc' := 2455) (lv' := [(7, .int v), (6, .int (nI 0)), (5, .int (nI i)), (4, .ref od), (3, .ref ou), (2, .ref m), (1, .ref o), (0, .ref (G.2.2.2.1 3))]) (st' := []) 1 rfl ?_
    refine WW.pick (lv' := [(5, .int (nI i)), (4, .ref od), (3, .ref ou), (2, .ref m), (1, .ref o), (0, .ref (G.2.2.2.1 3))]) [2, 3, 4, 5, 6, 7] rfl ?_
    exact WW.less (by omega) (by omega) (kk w2 ⟨hO2, hJ', ⟨_, J2, hm2, e1, e2, e3⟩, ⟨_, q35⟩, ⟨_, q36⟩, hA⟩)
theorem lK49 (hL : lI G w o hl inp sb m A ou od cur hn hist sv n ic on oc J) (hi : i + 3 < G.2.2.2.2.2.2.1) (hlen : G.2.2.2.2.2.2.1 < 2 ^ 31) (hkc : 40000 ≤ kc) (hks : 200000 ≤ ks) {rs : Nat ⊕ Int32} (hrs : ∀ p, rs = .inl p → 1 ≤ p ∧ p ≤ 4) {cur' : aS} {hn' : Nat} {hist' : Nat → aS} {sv' : Option aS} {n' : Nat} {ic' : Nat → Int32} {J' : Nat → Int32} {Q : wdO → wdW → Prop} (hx : Sp l G MX1_undo 7 1 6 [.ref o] w Q) (hQ : ∀ q w1, Q q w1 → oFr inp w w1 ∧ isOf G w1 o hl inp sb J' cur' hn' hist' sv' ic' on oc ∧ ((∃ x, q = .inr (eN 15, x)) ∧ rs = .inl 1 ∨ ∃ v, q = .inl (some (.int v)) ∧ rs = .inr v)) (hJ' : J' 0 = nI n') {Q2 : wdW → wdO → wdW → Prop} (hy : ∀ w1 t, isMm w1 m A t J cur hn hist sv n ic on oc → Sp l G MX3_undo 6 0 0 [.ref m] w1 (Q2 w1)) (hQ2 : ∀ w1 q w2, Q2 w1 q w2 → mFr m A w1 w2 ∧ q = .inl (some (.int (rAns rs))) ∧ ∃ J2, isMm w2 m A (rT rs) J2 cur' hn' hist' sv' n' ic' on oc ∧ J2 1 = J' 1 ∧ J2 2 = J' 2 ∧ J2 3 = J' 3) (kk : lNx l G mc ms kc ks i o hl inp sb m A ou od cur' hn' hist' sv' n' ic' on oc J') : WW (lX l G mc ms) kc ks 2354 (lLV G i o m ou od) [] w := by
  obtain ⟨hO, hJ0, ⟨t, J1, hm, j1, j2, j3⟩, ⟨fL, h35⟩, ⟨fD, h36⟩, hA⟩ := hL
  have hm := hm.j j1.symm j2.symm j3.symm
  refine WW.ok fun ok => ?_
  replace ok : wdOk G w := ok
  refine WW.run (pc' := 2356) (lv' := [(5, .int (nI i)), (4, .ref od), (3, .ref ou), (2, .ref m), (1, .ref o), (0, .ref (G.2.2.2.1 3))]) (st' := [.ref ou, .ref o]) 2 rfl ?_
  have hQ' : ∀ q w1, Q q w1 → oFr inp w w1 ∧ ((∃ x, q = .inr (eN 15, x)) ∧ ((.inl 1 : Nat ⊕ Int32) = rs ∧ isOf G w1 o hl inp sb J' cur' hn' hist' sv' ic' on oc) ∨ ∃ v, q = .inl (some (.int v)) ∧ ((.inr v : Nat ⊕ Int32) = rs ∧ isOf G w1 o hl inp sb J' cur' hn' hist' sv' ic' on oc)) := fun q w1 h => by
    obtain ⟨a1, b1, hc⟩ := hQ q w1 h
    refine ⟨a1, ?_⟩
    rcases hc with ⟨e, rfl⟩ | ⟨v, rfl, rfl⟩
    · exact Or.inl ⟨e, rfl, b1⟩
    · exact Or.inr ⟨v, rfl, rfl, b1⟩
  refine WW.callSH [.ref o, .ref ou] [] rfl mX0_317 (lW_undo  hO h35 (fun r w' => r = rs ∧ isOf G w' o hl inp sb J' cur' hn' hist' sv' ic' on oc) (fun r w' b p h => ⟨h.1, h.2.putL (Or.inl rfl)⟩) hQ' hx) rfl rfl (wd_le rfl) (wd_le rfl) (by omega) (by omega) (fun o w1 hq => ?_)
  obtain ⟨l1, fL1, k35, r, ⟨er, hO1⟩, hq⟩ := hq
  have k36 := l1.2 _ _ _ h36 (Or.inr (Or.inr (Or.inl rfl)))
  have hm1 := hm.lFr hA l1
  obtain ⟨I1, F1, hM1, ht1⟩ := hm1.cell
  subst er
  cases r with
  | inl p =>
    obtain rfl := hq
    show WW _ _ _ 2359 _ [.int (nI p)] _
    refine WW.ok fun ok => ?_
    replace ok : wdOk G w1 := ok
    refine WW.run (pc' := 2362) (lv' := [(6, .int (nI p)), (5, .int (nI i)), (4, .ref od), (3, .ref ou), (2, .ref m), (1, .ref o), (0, .ref (G.2.2.2.1 3))]) (st' := [.ref m]) 2 rfl ?_
    refine WW.callV [] m [] rfl mX0_319 (hy w1 t hm1) (wdRecv.obj hM1.1 rfl) rfl rfl (wd_le rfl) (wd_le rfl) (by omega) (by omega) (fun o w2 hq => ?_)
    obtain ⟨fr2, rfl, J2, hm2, e1, e2, e3⟩ := hQ2 _ _ _ hq
    show WW _ _ _ 2365 _ [.int (nI 0)] _
    have hO2 := isOf.mFr ok hO1 hM1 hA fr2
    have q35 := mFr.keep ok hM1 fr2 k35 (Or.inl rfl)
    have q36 := mFr.keep ok hM1 fr2 k36 (Or.inr rfl)
    obtain ⟨I2, F2, hM2, ht2⟩ := hm2.cell
    refine WW.run (pc' := 2368) (lv' := [(7, .int (nI 0)), (6, .int (nI p)), (5, .int (nI i)), (4, .ref od), (3, .ref ou), (2, .ref m), (1, .ref o), (0, .ref (G.2.2.2.1 3))]) (st' := [.ref m]) 2 rfl ?_
    refine WW.callV [] m [] rfl mX0_149 (sM_thrown hM2) (wdRecv.obj hM2.1 rfl) rfl rfl (wd_le rfl) (wd_le rfl) (by omega) (by omega) (fun o w' hq => ?_)
    obtain ⟨rfl, hw9⟩ := hq
    show WW _ _ _ 2371 _ [.int (I2 2)] _
    rw [hw9]
    clear hw9 w'
    rw [ht2]
    have hp1 : 1 ≤ p ∧ p ≤ 4 := hrs p rfl
    obtain ⟨hp1, hpN⟩ := hp1
    refine WW.run (pc' := 2373) (lv' := [(7, .int (nI 0)), (6, .int (nI p)), (5, .int (nI i)), (4, .ref od), (3, .ref ou), (2, .ref m), (1, .ref o), (0, .ref (G.2.2.2.1 3))]) (st' := [.int (nI p), .int (nI p)]) 1 rfl ?_
    refine WW.icmp_eq (tgt := 2378) rfl rfl (fun _ => ?_) (fun hno => absurd rfl hno)
    refine WW.run (pc' := 2380) (lv' := [(7, .int (nI 0)), (6, .int (nI p)), (5, .int (nI i)), (4, .ref od), (3, .ref ou), (2, .ref m), (1, .ref o), (0, .ref (G.2.2.2.1 3))]) (st' := [.int (nI p)]) 1 rfl ?_
    refine WW.if_ne (tgt := 2395) rfl rfl (fun _ => ?_) (fun hno => absurd hno (nI_ne0 hp1 (by omega)))
    refine WW.run (pc' := 2455) (lv' := [(7, .int (nI 0)), (6, .int (nI p)), (5, .int (nI i)), (4, .ref od), (3, .ref ou), (2, .ref m), (1, .ref o), (0, .ref (G.2.2.2.1 3))]) (st' := []) 1 rfl ?_
    refine WW.pick (lv' := [(5, .int (nI i)), (4, .ref od), (3, .ref ou), (2, .ref m), (1, .ref o), (0, .ref (G.2.2.2.1 3))]) [2, 3, 4, 5, 6, 7] rfl ?_
    exact WW.less (by omega) (by omega) (kk w2 ⟨hO2, hJ', ⟨_, J2, hm2, e1, e2, e3⟩, ⟨_, q35⟩, ⟨_, q36⟩, hA⟩)
  | inr v =>
    obtain ⟨rfl, hf0⟩ := hq
    show WW _ _ _ 2359 _ [.int (nI 0)] _
    refine WW.ok fun ok => ?_
    replace ok : wdOk G w1 := ok
    refine WW.run (pc' := 2362) (lv' := [(6, .int (nI 0)), (5, .int (nI i)), (4, .ref od), (3, .ref ou), (2, .ref m), (1, .ref o), (0, .ref (G.2.2.2.1 3))]) (st' := [.ref m]) 2 rfl ?_
    refine WW.callV [] m [] rfl mX0_319 (hy w1 t hm1) (wdRecv.obj hM1.1 rfl) rfl rfl (wd_le rfl) (wd_le rfl) (by omega) (by omega) (fun o w2 hq => ?_)
    obtain ⟨fr2, rfl, J2, hm2, e1, e2, e3⟩ := hQ2 _ _ _ hq
    show WW _ _ _ 2365 _ [.int v] _
    have hO2 := isOf.mFr ok hO1 hM1 hA fr2
    have q35 := mFr.keep ok hM1 fr2 k35 (Or.inl rfl)
    have q36 := mFr.keep ok hM1 fr2 k36 (Or.inr rfl)
    obtain ⟨I2, F2, hM2, ht2⟩ := hm2.cell
    refine WW.run (pc' := 2368) (lv' := [(7, .int v), (6, .int (nI 0)), (5, .int (nI i)), (4, .ref od), (3, .ref ou), (2, .ref m), (1, .ref o), (0, .ref (G.2.2.2.1 3))]) (st' := [.ref m]) 2 rfl ?_
    refine WW.callV [] m [] rfl mX0_149 (sM_thrown hM2) (wdRecv.obj hM2.1 rfl) rfl rfl (wd_le rfl) (wd_le rfl) (by omega) (by omega) (fun o w' hq => ?_)
    obtain ⟨rfl, hw9⟩ := hq
    show WW _ _ _ 2371 _ [.int (I2 2)] _
    rw [hw9]
    clear hw9 w'
    rw [ht2]
    refine WW.run (pc' := 2373) (lv' := [(7, .int v), (6, .int (nI 0)), (5, .int (nI i)), (4, .ref od), (3, .ref ou), (2, .ref m), (1, .ref o), (0, .ref (G.2.2.2.1 3))]) (st' := [.int (nI 0), .int (nI 0)]) 1 rfl ?_
    refine WW.icmp_eq (tgt := 2378) rfl rfl (fun _ => ?_) (fun hno => absurd rfl hno)
    refine WW.run (pc' := 2380) (lv' := [(7, .int v), (6, .int (nI 0)), (5, .int (nI i)), (4, .ref od), (3, .ref ou), (2, .ref m), (1, .ref o), (0, .ref (G.2.2.2.1 3))]) (st' := [.int (nI 0)]) 1 rfl ?_
    refine WW.if_ne (tgt := 2395) rfl rfl (fun hno => absurd rfl hno) (fun _ => ?_)
    refine WW.run (pc' := 2385) (lv' := [(7, .int v), (6, .int (nI 0)), (5, .int (nI i)), (4, .ref od), (3, .ref ou), (2, .ref m), (1, .ref o), (0, .ref (G.2.2.2.1 3))]) (st' := [.int (nI 0), .ref ou]) 2 rfl ?_
    refine WW.lald rfl q35 one_in ?_
    show WW _ _ _ 2386 _ [.long (fL1 0)] _
    rw [hf0]
    refine WW.run (pc' := 2389) (lv' := [(7, .int v), (6, .int (nI 0)), (5, .int (nI i)), (4, .ref od), (3, .ref ou), (2, .ref m), (1, .ref o), (0, .ref (G.2.2.2.1 3))]) (st' := [.long v.toInt64, .long v.toInt64]) 2 rfl ?_
    refine WW.lcmp rfl ?_
    rw [lg_cmp_self]
    refine WW.if_eq (tgt := 2395) rfl rfl (fun _ => ?_) (fun hno => absurd rfl hno)
    refine WW.run (pc' := 2455) (lv' := [(7, .int v), (6, .int (nI 0)), (5, .int (nI i)), (4, .ref od), (3, .ref ou), (2, .ref m), (1, .ref o), (0, .ref (G.2.2.2.1 3))]) (st' := []) 1 rfl ?_
    refine WW.pick (lv' := [(5, .int (nI i)), (4, .ref od), (3, .ref ou), (2, .ref m), (1, .ref o), (0, .ref (G.2.2.2.1 3))]) [2, 3, 4, 5, 6, 7] rfl ?_
    exact WW.less (by omega) (by omega) (kk w2 ⟨hO2, hJ', ⟨_, J2, hm2, e1, e2, e3⟩, ⟨_, q35⟩, ⟨_, q36⟩, hA⟩)
theorem lK51 (hL : lI G w o hl inp sb m A ou od cur hn hist sv n ic on oc J) (hi : i + 3 < G.2.2.2.2.2.2.1) (hlen : G.2.2.2.2.2.2.1 < 2 ^ 31) (hkc : 40000 ≤ kc) (hks : 200000 ≤ ks) {rs : Nat ⊕ Int32} (hrs : ∀ p, rs = .inl p → 1 ≤ p ∧ p ≤ 4) {cur' : aS} {hn' : Nat} {hist' : Nat → aS} {sv' : Option aS} {n' : Nat} {ic' : Nat → Int32} {J' : Nat → Int32} {Q : wdO → wdW → Prop} (hx : Sp l G MX1_restore 7 61 346 [.ref o] w Q) (hQ : ∀ q w1, Q q w1 → oFr inp w w1 ∧ isOf G w1 o hl inp sb J' cur' hn' hist' sv' ic' on oc ∧ ((∃ x, q = .inr (eN 15, x)) ∧ rs = .inl 1 ∨ ∃ v, q = .inl (some (.int v)) ∧ rs = .inr v)) (hJ' : J' 0 = nI n') {Q2 : wdW → wdO → wdW → Prop} (hy : ∀ w1 t, isMm w1 m A t J cur hn hist sv n ic on oc → Sp l G MX3_restore 6 0 0 [.ref m] w1 (Q2 w1)) (hQ2 : ∀ w1 q w2, Q2 w1 q w2 → mFr m A w1 w2 ∧ q = .inl (some (.int (rAns rs))) ∧ ∃ J2, isMm w2 m A (rT rs) J2 cur' hn' hist' sv' n' ic' on oc ∧ J2 1 = J' 1 ∧ J2 2 = J' 2 ∧ J2 3 = J' 3) (kk : lNx l G mc ms kc ks i o hl inp sb m A ou od cur' hn' hist' sv' n' ic' on oc J') : WW (lX l G mc ms) kc ks 2411 (lLV G i o m ou od) [] w := by
  obtain ⟨hO, hJ0, ⟨t, J1, hm, j1, j2, j3⟩, ⟨fL, h35⟩, ⟨fD, h36⟩, hA⟩ := hL
  have hm := hm.j j1.symm j2.symm j3.symm
  refine WW.ok fun ok => ?_
  replace ok : wdOk G w := ok
  refine WW.run (pc' := 2413) (lv' := [(5, .int (nI i)), (4, .ref od), (3, .ref ou), (2, .ref m), (1, .ref o), (0, .ref (G.2.2.2.1 3))]) (st' := [.ref ou, .ref o]) 2 rfl ?_
  have hQ' : ∀ q w1, Q q w1 → oFr inp w w1 ∧ ((∃ x, q = .inr (eN 15, x)) ∧ ((.inl 1 : Nat ⊕ Int32) = rs ∧ isOf G w1 o hl inp sb J' cur' hn' hist' sv' ic' on oc) ∨ ∃ v, q = .inl (some (.int v)) ∧ ((.inr v : Nat ⊕ Int32) = rs ∧ isOf G w1 o hl inp sb J' cur' hn' hist' sv' ic' on oc)) := fun q w1 h => by
    obtain ⟨a1, b1, hc⟩ := hQ q w1 h
    refine ⟨a1, ?_⟩
    rcases hc with ⟨e, rfl⟩ | ⟨v, rfl, rfl⟩
    · exact Or.inl ⟨e, rfl, b1⟩
    · exact Or.inr ⟨v, rfl, rfl, b1⟩
  refine WW.callSH [.ref o, .ref ou] [] rfl mX0_324 (lW_restore  hO h35 (fun r w' => r = rs ∧ isOf G w' o hl inp sb J' cur' hn' hist' sv' ic' on oc) (fun r w' b p h => ⟨h.1, h.2.putL (Or.inl rfl)⟩) hQ' hx) rfl rfl (wd_le rfl) (wd_le rfl) (by omega) (by omega) (fun o w1 hq => ?_)
  obtain ⟨l1, fL1, k35, r, ⟨er, hO1⟩, hq⟩ := hq
  have k36 := l1.2 _ _ _ h36 (Or.inr (Or.inr (Or.inl rfl)))
  have hm1 := hm.lFr hA l1
  obtain ⟨I1, F1, hM1, ht1⟩ := hm1.cell
  subst er
  cases r with
  | inl p =>
    obtain rfl := hq
    show WW _ _ _ 2416 _ [.int (nI p)] _
    refine WW.ok fun ok => ?_
    replace ok : wdOk G w1 := ok
    refine WW.run (pc' := 2419) (lv' := [(6, .int (nI p)), (5, .int (nI i)), (4, .ref od), (3, .ref ou), (2, .ref m), (1, .ref o), (0, .ref (G.2.2.2.1 3))]) (st' := [.ref m]) 2 rfl ?_
    refine WW.callV [] m [] rfl mX0_326 (hy w1 t hm1) (wdRecv.obj hM1.1 rfl) rfl rfl (wd_le rfl) (wd_le rfl) (by omega) (by omega) (fun o w2 hq => ?_)
    obtain ⟨fr2, rfl, J2, hm2, e1, e2, e3⟩ := hQ2 _ _ _ hq
    show WW _ _ _ 2422 _ [.int (nI 0)] _
    have hO2 := isOf.mFr ok hO1 hM1 hA fr2
    have q35 := mFr.keep ok hM1 fr2 k35 (Or.inl rfl)
    have q36 := mFr.keep ok hM1 fr2 k36 (Or.inr rfl)
    obtain ⟨I2, F2, hM2, ht2⟩ := hm2.cell
    refine WW.run (pc' := 2425) (lv' := [(7, .int (nI 0)), (6, .int (nI p)), (5, .int (nI i)), (4, .ref od), (3, .ref ou), (2, .ref m), (1, .ref o), (0, .ref (G.2.2.2.1 3))]) (st' := [.ref m]) 2 rfl ?_
    refine WW.callV [] m [] rfl mX0_149 (sM_thrown hM2) (wdRecv.obj hM2.1 rfl) rfl rfl (wd_le rfl) (wd_le rfl) (by omega) (by omega) (fun o w' hq => ?_)
    obtain ⟨rfl, hw9⟩ := hq
    show WW _ _ _ 2428 _ [.int (I2 2)] _
    rw [hw9]
    clear hw9 w'
    rw [ht2]
    have hp1 : 1 ≤ p ∧ p ≤ 4 := hrs p rfl
    obtain ⟨hp1, hpN⟩ := hp1
    refine WW.run (pc' := 2430) (lv' := [(7, .int (nI 0)), (6, .int (nI p)), (5, .int (nI i)), (4, .ref od), (3, .ref ou), (2, .ref m), (1, .ref o), (0, .ref (G.2.2.2.1 3))]) (st' := [.int (nI p), .int (nI p)]) 1 rfl ?_
    refine WW.icmp_eq (tgt := 2435) rfl rfl (fun _ => ?_) (fun hno => absurd rfl hno)
    refine WW.run (pc' := 2437) (lv' := [(7, .int (nI 0)), (6, .int (nI p)), (5, .int (nI i)), (4, .ref od), (3, .ref ou), (2, .ref m), (1, .ref o), (0, .ref (G.2.2.2.1 3))]) (st' := [.int (nI p)]) 1 rfl ?_
    refine WW.if_ne (tgt := 2452) rfl rfl (fun _ => ?_) (fun hno => absurd hno (nI_ne0 hp1 (by omega)))
    refine WW.run (pc' := 2455) (lv' := [(7, .int (nI 0)), (6, .int (nI p)), (5, .int (nI i)), (4, .ref od), (3, .ref ou), (2, .ref m), (1, .ref o), (0, .ref (G.2.2.2.1 3))]) (st' := []) 1 rfl ?_
    refine WW.pick (lv' := [(5, .int (nI i)), (4, .ref od), (3, .ref ou), (2, .ref m), (1, .ref o), (0, .ref (G.2.2.2.1 3))]) [2, 3, 4, 5, 6, 7] rfl ?_
    exact WW.less (by omega) (by omega) (kk w2 ⟨hO2, hJ', ⟨_, J2, hm2, e1, e2, e3⟩, ⟨_, q35⟩, ⟨_, q36⟩, hA⟩)
  | inr v =>
    obtain ⟨rfl, hf0⟩ := hq
    show WW _ _ _ 2416 _ [.int (nI 0)] _
    refine WW.ok fun ok => ?_
    replace ok : wdOk G w1 := ok
    refine WW.run (pc' := 2419) (lv' := [(6, .int (nI 0)), (5, .int (nI i)), (4, .ref od), (3, .ref ou), (2, .ref m), (1, .ref o), (0, .ref (G.2.2.2.1 3))]) (st' := [.ref m]) 2 rfl ?_
    refine WW.callV [] m [] rfl mX0_326 (hy w1 t hm1) (wdRecv.obj hM1.1 rfl) rfl rfl (wd_le rfl) (wd_le rfl) (by omega) (by omega) (fun o w2 hq => ?_)
    obtain ⟨fr2, rfl, J2, hm2, e1, e2, e3⟩ := hQ2 _ _ _ hq
    show WW _ _ _ 2422 _ [.int v] _
    have hO2 := isOf.mFr ok hO1 hM1 hA fr2
    have q35 := mFr.keep ok hM1 fr2 k35 (Or.inl rfl)
    have q36 := mFr.keep ok hM1 fr2 k36 (Or.inr rfl)
    obtain ⟨I2, F2, hM2, ht2⟩ := hm2.cell
    refine WW.run (pc' := 2425) (lv' := [(7, .int v), (6, .int (nI 0)), (5, .int (nI i)), (4, .ref od), (3, .ref ou), (2, .ref m), (1, .ref o), (0, .ref (G.2.2.2.1 3))]) (st' := [.ref m]) 2 rfl ?_
    refine WW.callV [] m [] rfl mX0_149 (sM_thrown hM2) (wdRecv.obj hM2.1 rfl) rfl rfl (wd_le rfl) (wd_le rfl) (by omega) (by omega) (fun o w' hq => ?_)
    obtain ⟨rfl, hw9⟩ := hq
    show WW _ _ _ 2428 _ [.int (I2 2)] _
    rw [hw9]
    clear hw9 w'
    rw [ht2]
    refine WW.run (pc' := 2430) (lv' := [(7, .int v), (6, .int (nI 0)), (5, .int (nI i)), (4, .ref od), (3, .ref ou), (2, .ref m), (1, .ref o), (0, .ref (G.2.2.2.1 3))]) (st' := [.int (nI 0), .int (nI 0)]) 1 rfl ?_
    refine WW.icmp_eq (tgt := 2435) rfl rfl (fun _ => ?_) (fun hno => absurd rfl hno)
    refine WW.run (pc' := 2437) (lv' := [(7, .int v), (6, .int (nI 0)), (5, .int (nI i)), (4, .ref od), (3, .ref ou), (2, .ref m), (1, .ref o), (0, .ref (G.2.2.2.1 3))]) (st' := [.int (nI 0)]) 1 rfl ?_
    refine WW.if_ne (tgt := 2452) rfl rfl (fun hno => absurd rfl hno) (fun _ => ?_)
    refine WW.run (pc' := 2442) (lv' := [(7, .int v), (6, .int (nI 0)), (5, .int (nI i)), (4, .ref od), (3, .ref ou), (2, .ref m), (1, .ref o), (0, .ref (G.2.2.2.1 3))]) (st' := [.int (nI 0), .ref ou]) 2 rfl ?_
    refine WW.lald rfl q35 one_in ?_
    show WW _ _ _ 2443 _ [.long (fL1 0)] _
    rw [hf0]
    refine WW.run (pc' := 2446) (lv' := [(7, .int v), (6, .int (nI 0)), (5, .int (nI i)), (4, .ref od), (3, .ref ou), (2, .ref m), (1, .ref o), (0, .ref (G.2.2.2.1 3))]) (st' := [.long v.toInt64, .long v.toInt64]) 2 rfl ?_
    refine WW.lcmp rfl ?_
    rw [lg_cmp_self]
    refine WW.if_eq (tgt := 2452) rfl rfl (fun _ => ?_) (fun hno => absurd rfl hno)
    refine WW.run (pc' := 2455) (lv' := [(7, .int v), (6, .int (nI 0)), (5, .int (nI i)), (4, .ref od), (3, .ref ou), (2, .ref m), (1, .ref o), (0, .ref (G.2.2.2.1 3))]) (st' := []) 1 rfl ?_
    refine WW.pick (lv' := [(5, .int (nI i)), (4, .ref od), (3, .ref ou), (2, .ref m), (1, .ref o), (0, .ref (G.2.2.2.1 3))]) [2, 3, 4, 5, 6, 7] rfl ?_
    exact WW.less (by omega) (by omega) (kk w2 ⟨hO2, hJ', ⟨_, J2, hm2, e1, e2, e3⟩, ⟨_, q35⟩, ⟨_, q36⟩, hA⟩)
end
