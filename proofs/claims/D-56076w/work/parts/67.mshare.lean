set_option maxRecDepth 100000
/-! THE MODEL's SHARES AND MEANS -/
def aQrB (S : aS) : Prop := ∀ k, k < S.ns → ∃ r : Nat, r < 2 ^ 29 ∧ S.qR k = nI r
theorem lf_sum (S : aS) : ∀ n, S.lf n = S.oil - aSum S.qQ n
  | 0 => by
    show S.oil = S.oil - nI 0
    rw [nI_0, Int32.sub_zero]
  | n + 1 => by
    show S.lf n - S.qQ n = S.oil - (aSum S.qQ n + S.qQ n)
    rw [lf_sum S n, Int32.sub_eq_add_neg, Int32.sub_eq_add_neg, Int32.sub_eq_add_neg, Int32.neg_add, Int32.sub_eq_add_neg, Int32.add_assoc]
section
variable {l : Launch} {G : wdG} {w : wdW} {m : Nat} {A : Nat → Nat} {I : Nat → Int32} {F : Nat → Nat → Int32} {J : Nat → Int32} {cur S : aS} {hn : Nat} {hist : Nat → aS} {sv : Option aS} {n : Nat} {ic : Nat → Int32} {on : Nat} {oc : Nat → Int32} {t : Int32}
theorem sM_partOf (hM : isM w m A I F) (hS : fS (F 0) S) (hW : aWf S) (hB : aQrB S) {j : Nat} (hj : j < S.ns) : SpR l G MX3_partOf 4 [.ref m, .int (nI j)] w (.int (S.byRank j)) := by
  have hns := hW.1
  have hlf := lf_sum S S.ns
  unfold aS.byRank
  obtain ⟨rj, h1, e1⟩ := hB j hj
  refine Sp.of rfl (by decide +kernel) kX3_partOf (wd_le rfl) ?_
  refine WW.run (pc' := 1) (lv' := [(0, .ref m), (1, .int (nI j))]) (st' := [.ref m]) 1 rfl ?_
  refine WW.callV [] m [] rfl mX3_154 (sM_needed hM hS hW) (wdRecv.obj hM.1 rfl) rfl rfl (wd_le rfl) (wd_le rfl) (wd_le rfl) (wd_le rfl) (fun o w' hq => ?_)
  obtain ⟨rfl, hw9⟩ := hq
  show WW _ _ _ 4 _ [.int S.needs] _
  rw [hw9]
  clear hw9 w'
  refine WW.run (pc' := 6) (lv' := [(2, .int S.needs), (0, .ref m), (1, .int (nI j))]) (st' := [.int S.needs]) 2 rfl ?_
  by_cases e0 : S.needs = 0
  · skip
    rw [decide_eq_true e0]
    refine WW.if_ne (tgt := 11) rfl rfl (fun hno => absurd e0 hno) (fun _ => ?_)
    refine WW.run (pc' := 10) (lv' := [(2, .int S.needs), (0, .ref m), (1, .int (nI j))]) (st' := [.int (nI 0)]) 1 rfl ?_
    exact WW.iret rfl rfl rfl ⟨rfl, rfl⟩
  · skip
    rw [decide_eq_false e0]
    refine WW.if_ne (tgt := 11) rfl rfl (fun _ => ?_) (fun hno => absurd hno e0)
    refine WW.run (pc' := 17) (lv' := [(4, .int (nI 0)), (3, .int (nI 0)), (2, .int S.needs), (0, .ref m), (1, .int (nI j))]) (st' := [.ref m]) 5 rfl ?_
    refine WW.get rfl fX3_9 hM.1 (show _ = some (.ref (A 0)) from rfl) ?_
    refine WW.run (pc' := 21) (lv' := [(4, .int (nI 0)), (3, .int (nI 0)), (2, .int S.needs), (0, .ref m), (1, .int (nI j))]) (st' := [.int (nI 2), .ref (A 0)]) 1 rfl ?_
    refine WW.mald 0 2 rfl hM (by decide) rfl rfl (by decide) (by decide) (show (F 0) 2 = S.oil from hS.1.2.2.1) ?_
    refine WW.run (pc' := 24) (lv' := [(4, .int (nI 0)), (3, .int (nI 0)), (2, .int S.needs), (0, .ref m), (1, .int (nI j))]) (st' := [.int (nI j), .ref m, .int S.oil]) 2 rfl ?_
    refine WW.callV [.int (nI j)] m [.int S.oil] rfl mX3_148 (sM_wants hM hS hW (j := j) (by omega)) (wdRecv.obj hM.1 rfl) rfl rfl (wd_le rfl) (wd_le rfl) (wd_le rfl) (wd_le rfl) (fun o w' hq => ?_)
    obtain ⟨rfl, hw9⟩ := hq
    show WW _ _ _ 27 _ [.int (S.demand j), .int S.oil] _
    rw [hw9]
    clear hw9 w'
    refine WW.run (pc' := 29) (lv' := [(4, .int (nI 0)), (3, .int (nI 0)), (2, .int S.needs), (0, .ref m), (1, .int (nI j))]) (st' := [.int S.needs, .int (S.oil * (S.demand j))]) 2 rfl ?_
    refine WW.irem rfl e0 rfl ?_
    refine WW.run (pc' := 35) (lv' := [(6, .int (nI 0)), (5, .int (S.qR j)), (4, .int (nI 0)), (3, .int (nI 0)), (2, .int S.needs), (0, .ref m), (1, .int (nI j))]) (st' := []) 3 rfl ?_
    refine WW.up S.ns (fun k => [(6, .int (nI k)), (5, .int (S.qR j)), (4, .int (S.rk j k)), (3, .int (aSum S.qQ k)), (2, .int S.needs), (0, .ref m), (1, .int (nI j))]) (fun k hk ih => ?_) ?_
    · skip
      obtain ⟨rk, h2, e2⟩ := hB k hk
      replace ih : WW (l, G, MX3_partOf, 4, 0, 0, fun o w' => o = .inl (some (.int (S.qQ j + bI (decide (S.rk j S.ns < S.lf S.ns))))) ∧ w' = w) 0 0 35 [(6, .int (nI (k + 1))), (5, .int (S.qR j)), (4, .int (S.rk j k + bI (S.rkB j k))), (3, .int (aSum S.qQ k + S.qQ k)), (2, .int S.needs), (0, .ref m), (1, .int (nI j))] [] w := ih
      generalize S.rk j k = ra at ih
      generalize aSum S.qQ k = qa at ih
      refine WW.run (pc' := 38) (lv' := [(6, .int (nI k)), (5, .int (S.qR j)), (4, .int ra), (3, .int qa), (2, .int S.needs), (0, .ref m), (1, .int (nI j))]) (st' := [.ref m, .int (nI k)]) 2 rfl ?_
      refine WW.get rfl fX3_9 hM.1 (show _ = some (.ref (A 0)) from rfl) ?_
      refine WW.run (pc' := 42) (lv' := [(6, .int (nI k)), (5, .int (S.qR j)), (4, .int ra), (3, .int qa), (2, .int S.needs), (0, .ref m), (1, .int (nI j))]) (st' := [.int (nI 0), .ref (A 0), .int (nI k)]) 1 rfl ?_
      refine WW.mald 0 0 rfl hM (by decide) rfl rfl (by decide) (by decide) (show (F 0) 0 = nI S.ns from hS.1.1) ?_
      refine WW.icmp_ge (tgt := 116) rfl rfl (fun hno => absurd hno (nI_ge hk (by omega))) (fun _ => ?_)
      refine WW.run (pc' := 47) (lv' := [(6, .int (nI k)), (5, .int (S.qR j)), (4, .int ra), (3, .int qa), (2, .int S.needs), (0, .ref m), (1, .int (nI j))]) (st' := [.ref m]) 1 rfl ?_
      refine WW.get rfl fX3_9 hM.1 (show _ = some (.ref (A 0)) from rfl) ?_
      refine WW.run (pc' := 51) (lv' := [(6, .int (nI k)), (5, .int (S.qR j)), (4, .int ra), (3, .int qa), (2, .int S.needs), (0, .ref m), (1, .int (nI j))]) (st' := [.int (nI 2), .ref (A 0)]) 1 rfl ?_
      refine WW.mald 0 2 rfl hM (by decide) rfl rfl (by decide) (by decide) (show (F 0) 2 = S.oil from hS.1.2.2.1) ?_
      refine WW.run (pc' := 55) (lv' := [(6, .int (nI k)), (5, .int (S.qR j)), (4, .int ra), (3, .int qa), (2, .int S.needs), (0, .ref m), (1, .int (nI j))]) (st' := [.int (nI k), .ref m, .int S.oil]) 2 rfl ?_
      refine WW.callV [.int (nI k)] m [.int S.oil] rfl mX3_148 (sM_wants hM hS hW (j := k) (by omega)) (wdRecv.obj hM.1 rfl) rfl rfl (wd_le rfl) (wd_le rfl) (wd_le rfl) (wd_le rfl) (fun o w' hq => ?_)
      obtain ⟨rfl, hw9⟩ := hq
      show WW _ _ _ 58 _ [.int (S.demand k), .int S.oil] _
      rw [hw9]
      clear hw9 w'
      refine WW.run (pc' := 60) (lv' := [(6, .int (nI k)), (5, .int (S.qR j)), (4, .int ra), (3, .int qa), (2, .int S.needs), (0, .ref m), (1, .int (nI j))]) (st' := [.int S.needs, .int (S.oil * (S.demand k))]) 2 rfl ?_
      refine WW.irem rfl e0 rfl ?_
      refine WW.run (pc' := 68) (lv' := [(7, .int ((S.qR k) - (S.qR j))), (6, .int (nI k)), (5, .int (S.qR j)), (4, .int ra), (3, .int qa), (2, .int S.needs), (0, .ref m), (1, .int (nI j))]) (st' := [.ref m, .int qa]) 5 rfl ?_
      refine WW.get rfl fX3_9 hM.1 (show _ = some (.ref (A 0)) from rfl) ?_
      refine WW.run (pc' := 72) (lv' := [(7, .int ((S.qR k) - (S.qR j))), (6, .int (nI k)), (5, .int (S.qR j)), (4, .int ra), (3, .int qa), (2, .int S.needs), (0, .ref m), (1, .int (nI j))]) (st' := [.int (nI 2), .ref (A 0), .int qa]) 1 rfl ?_
      refine WW.mald 0 2 rfl hM (by decide) rfl rfl (by decide) (by decide) (show (F 0) 2 = S.oil from hS.1.2.2.1) ?_
      refine WW.run (pc' := 76) (lv' := [(7, .int ((S.qR k) - (S.qR j))), (6, .int (nI k)), (5, .int (S.qR j)), (4, .int ra), (3, .int qa), (2, .int S.needs), (0, .ref m), (1, .int (nI j))]) (st' := [.int (nI k), .ref m, .int S.oil, .int qa]) 2 rfl ?_
      refine WW.callV [.int (nI k)] m [.int S.oil, .int qa] rfl mX3_148 (sM_wants hM hS hW (j := k) (by omega)) (wdRecv.obj hM.1 rfl) rfl rfl (wd_le rfl) (wd_le rfl) (wd_le rfl) (wd_le rfl) (fun o w' hq => ?_)
      obtain ⟨rfl, hw9⟩ := hq
      show WW _ _ _ 79 _ [.int (S.demand k), .int S.oil, .int qa] _
      rw [hw9]
      clear hw9 w'
      refine WW.run (pc' := 81) (lv' := [(7, .int ((S.qR k) - (S.qR j))), (6, .int (nI k)), (5, .int (S.qR j)), (4, .int ra), (3, .int qa), (2, .int S.needs), (0, .ref m), (1, .int (nI j))]) (st' := [.int S.needs, .int (S.oil * (S.demand k)), .int qa]) 2 rfl ?_
      refine WW.idiv rfl e0 ?_
      refine WW.run (pc' := 84) (lv' := [(3, .int (qa + ((S.oil * (S.demand k)) / S.needs))), (7, .int ((S.qR k) - (S.qR j))), (6, .int (nI k)), (5, .int (S.qR j)), (4, .int ra), (2, .int S.needs), (0, .ref m), (1, .int (nI j))]) (st' := []) 2 rfl ?_
      rw [e1, e2]
      refine WW.join (pc' := 107) (lv' := [(3, .int (qa + S.qQ k)), (7, .int (nI rk - nI rj)), (6, .int (nI k)), (5, .int (nI rj)), (4, .int ra), (2, .int S.needs), (0, .ref m), (1, .int (nI j))]) (st' := [.int (bI (S.rkB j k)), .int ra]) ?_ (fun H => ?_)
      rotate_left
      · skip
        unfold aS.rkB at H
        rw [e1, e2] at H
        refine WW.run (pc' := 88) (lv' := [(3, .int (qa + ((S.oil * (S.demand k)) / S.needs))), (7, .int ((nI rk) - (nI rj))), (6, .int (nI k)), (5, .int (nI rj)), (4, .int ra), (2, .int S.needs), (0, .ref m), (1, .int (nI j))]) (st' := [.int ((nI rk) - (nI rj)), .int ra]) 2 rfl ?_
        by_cases g1 : rj < rk
        · skip
          refine WW.if_gt (tgt := 102) rfl rfl (fun _ => ?_) (fun hno => absurd ((sub_gt h2 h1).mpr g1) hno)
          rw [decide_eq_true (nI_lt g1 (by omega))] at H
          refine WW.run (pc' := 107) (lv' := [(3, .int (qa + ((S.oil * (S.demand k)) / S.needs))), (7, .int ((nI rk) - (nI rj))), (6, .int (nI k)), (5, .int (nI rj)), (4, .int ra), (2, .int S.needs), (0, .ref m), (1, .int (nI j))]) (st' := [.int (nI 1), .int ra]) 2 rfl ?_
          exact H
        · skip
          refine WW.if_gt (tgt := 102) rfl rfl (fun hno => absurd hno (fun q => g1 ((sub_gt h2 h1).mp q))) (fun _ => ?_)
          rw [decide_eq_false (nI_nlt (Nat.le_of_not_lt g1) (by omega))] at H
          refine WW.run (pc' := 93) (lv' := [(3, .int (qa + ((S.oil * (S.demand k)) / S.needs))), (7, .int ((nI rk) - (nI rj))), (6, .int (nI k)), (5, .int (nI rj)), (4, .int ra), (2, .int S.needs), (0, .ref m), (1, .int (nI j))]) (st' := [.int ((nI rk) - (nI rj)), .int ra]) 1 rfl ?_
          by_cases g2 : rk = rj
          · skip
            refine WW.if_ne (tgt := 106) rfl rfl (fun hno => absurd ((sub_eq0 h2 h1).mpr g2) hno) (fun _ => ?_)
            rw [decide_eq_true (congrArg nI g2)] at H
            refine WW.run (pc' := 99) (lv' := [(3, .int (qa + ((S.oil * (S.demand k)) / S.needs))), (7, .int ((nI rk) - (nI rj))), (6, .int (nI k)), (5, .int (nI rj)), (4, .int ra), (2, .int S.needs), (0, .ref m), (1, .int (nI j))]) (st' := [.int (nI j), .int (nI k), .int ra]) 2 rfl ?_
            cases g5 : Nat.blt k j with
            | true =>
              rw [g5] at H
              refine WW.icmp_ge (tgt := 106) rfl rfl (fun hno => absurd hno (nI_ge (Nat.le_of_ble_eq_true g5) (by omega))) (fun _ => ?_)
              refine WW.run (pc' := 107) (lv' := [(3, .int (qa + ((S.oil * (S.demand k)) / S.needs))), (7, .int ((nI rk) - (nI rj))), (6, .int (nI k)), (5, .int (nI rj)), (4, .int ra), (2, .int S.needs), (0, .ref m), (1, .int (nI j))]) (st' := [.int (nI 1), .int ra]) 2 rfl ?_
              exact H
            | false =>
              rw [g5] at H
              refine WW.icmp_ge (tgt := 106) rfl rfl (fun _ => ?_) (fun hno => absurd (nI_le (Nat.le_of_not_lt (fun q => by rw [show Nat.blt k j = true from Nat.ble_eq_true_of_le q] at g5; cases g5)) (by omega)) hno)
              refine WW.run (pc' := 107) (lv' := [(3, .int (qa + ((S.oil * (S.demand k)) / S.needs))), (7, .int ((nI rk) - (nI rj))), (6, .int (nI k)), (5, .int (nI rj)), (4, .int ra), (2, .int S.needs), (0, .ref m), (1, .int (nI j))]) (st' := [.int (nI 0), .int ra]) 1 rfl ?_
              exact H
          · skip
            refine WW.if_ne (tgt := 106) rfl rfl (fun _ => ?_) (fun hno => absurd hno (fun q => g2 ((sub_eq0 h2 h1).mp q)))
            rw [decide_eq_false (fun q => g2 ((nI_eq (by omega) (by omega)).mp q))] at H
            refine WW.run (pc' := 107) (lv' := [(3, .int (qa + ((S.oil * (S.demand k)) / S.needs))), (7, .int ((nI rk) - (nI rj))), (6, .int (nI k)), (5, .int (nI rj)), (4, .int ra), (2, .int S.needs), (0, .ref m), (1, .int (nI j))]) (st' := [.int (nI 0), .int ra]) 1 rfl ?_
            exact H
      rw [e1] at ih
      refine WW.run (pc' := 35) (lv' := [(6, .int ((nI k) + nI 1)), (4, .int (ra + (bI (S.rkB j k)))), (3, .int (qa + S.qQ k)), (7, .int (nI rk - nI rj)), (5, .int (nI rj)), (2, .int S.needs), (0, .ref m), (1, .int (nI j))]) (st' := []) 4 rfl ?_
      refine WW.pick (lv' := [(6, .int ((nI k) + nI 1)), (5, .int (nI rj)), (4, .int (ra + (bI (S.rkB j k)))), (3, .int (qa + S.qQ k)), (2, .int S.needs), (0, .ref m), (1, .int (nI j))]) [0, 4, 1, 2, 5, 6, 7] rfl ?_
      rw [nI_add]
      exact ih
    · skip
      refine WW.run (pc' := 38) (lv' := [(6, .int (nI S.ns)), (5, .int (S.qR j)), (4, .int (S.rk j S.ns)), (3, .int (aSum S.qQ S.ns)), (2, .int S.needs), (0, .ref m), (1, .int (nI j))]) (st' := [.ref m, .int (nI S.ns)]) 2 rfl ?_
      refine WW.get rfl fX3_9 hM.1 (show _ = some (.ref (A 0)) from rfl) ?_
      refine WW.run (pc' := 42) (lv' := [(6, .int (nI S.ns)), (5, .int (S.qR j)), (4, .int (S.rk j S.ns)), (3, .int (aSum S.qQ S.ns)), (2, .int S.needs), (0, .ref m), (1, .int (nI j))]) (st' := [.int (nI 0), .ref (A 0), .int (nI S.ns)]) 1 rfl ?_
      refine WW.mald 0 0 rfl hM (by decide) rfl rfl (by decide) (by decide) (show (F 0) 0 = nI S.ns from hS.1.1) ?_
      refine WW.icmp_ge (tgt := 116) rfl rfl (fun _ => ?_) (fun hno => absurd (nI_le (Nat.le_refl _) (by omega)) hno)
      refine WW.run (pc' := 117) (lv' := [(6, .int (nI S.ns)), (5, .int (S.qR j)), (4, .int (S.rk j S.ns)), (3, .int (aSum S.qQ S.ns)), (2, .int S.needs), (0, .ref m), (1, .int (nI j))]) (st' := [.ref m]) 1 rfl ?_
      refine WW.get rfl fX3_9 hM.1 (show _ = some (.ref (A 0)) from rfl) ?_
      refine WW.run (pc' := 121) (lv' := [(6, .int (nI S.ns)), (5, .int (S.qR j)), (4, .int (S.rk j S.ns)), (3, .int (aSum S.qQ S.ns)), (2, .int S.needs), (0, .ref m), (1, .int (nI j))]) (st' := [.int (nI 2), .ref (A 0)]) 1 rfl ?_
      refine WW.mald 0 2 rfl hM (by decide) rfl rfl (by decide) (by decide) (show (F 0) 2 = S.oil from hS.1.2.2.1) ?_
      refine WW.run (pc' := 124) (lv' := [(6, .int (nI S.ns)), (5, .int (S.qR j)), (4, .int (S.rk j S.ns)), (3, .int (aSum S.qQ S.ns)), (2, .int S.needs), (0, .ref m), (1, .int (nI j))]) (st' := [.int (nI j), .ref m, .int S.oil]) 2 rfl ?_
      refine WW.callV [.int (nI j)] m [.int S.oil] rfl mX3_148 (sM_wants hM hS hW (j := j) (by omega)) (wdRecv.obj hM.1 rfl) rfl rfl (wd_le rfl) (wd_le rfl) (wd_le rfl) (wd_le rfl) (fun o w' hq => ?_)
      obtain ⟨rfl, hw9⟩ := hq
      show WW _ _ _ 127 _ [.int (S.demand j), .int S.oil] _
      rw [hw9]
      clear hw9 w'
      refine WW.run (pc' := 129) (lv' := [(6, .int (nI S.ns)), (5, .int (S.qR j)), (4, .int (S.rk j S.ns)), (3, .int (aSum S.qQ S.ns)), (2, .int S.needs), (0, .ref m), (1, .int (nI j))]) (st' := [.int S.needs, .int (S.oil * (S.demand j))]) 2 rfl ?_
      refine WW.idiv rfl e0 ?_
      refine WW.run (pc' := 133) (lv' := [(6, .int (nI S.ns)), (5, .int (S.qR j)), (4, .int (S.rk j S.ns)), (3, .int (aSum S.qQ S.ns)), (2, .int S.needs), (0, .ref m), (1, .int (nI j))]) (st' := [.ref m, .int (S.rk j S.ns), .int ((S.oil * (S.demand j)) / S.needs)]) 2 rfl ?_
      refine WW.get rfl fX3_9 hM.1 (show _ = some (.ref (A 0)) from rfl) ?_
      refine WW.run (pc' := 137) (lv' := [(6, .int (nI S.ns)), (5, .int (S.qR j)), (4, .int (S.rk j S.ns)), (3, .int (aSum S.qQ S.ns)), (2, .int S.needs), (0, .ref m), (1, .int (nI j))]) (st' := [.int (nI 2), .ref (A 0), .int (S.rk j S.ns), .int ((S.oil * (S.demand j)) / S.needs)]) 1 rfl ?_
      refine WW.mald 0 2 rfl hM (by decide) rfl rfl (by decide) (by decide) (show (F 0) 2 = S.oil from hS.1.2.2.1) ?_
      refine WW.run (pc' := 140) (lv' := [(6, .int (nI S.ns)), (5, .int (S.qR j)), (4, .int (S.rk j S.ns)), (3, .int (aSum S.qQ S.ns)), (2, .int S.needs), (0, .ref m), (1, .int (nI j))]) (st' := [.int (S.oil - (aSum S.qQ S.ns)), .int (S.rk j S.ns), .int ((S.oil * (S.demand j)) / S.needs)]) 2 rfl ?_
      rw [← hlf]
      refine WW.join (pc' := 148) (lv' := [(6, .int (nI S.ns)), (5, .int (S.qR j)), (4, .int (S.rk j S.ns)), (3, .int (aSum S.qQ S.ns)), (2, .int S.needs), (0, .ref m), (1, .int (nI j))]) (st' := [.int (bI (decide (S.rk j S.ns < S.lf S.ns))), .int ((S.oil * (S.demand j)) / S.needs)]) ?_ ?_
      rotate_left
      · cases hb : (decide (S.rk j S.ns < S.lf S.ns)) with
        | false =>
          intro H
          refine WW.icmp_ge (tgt := 147) rfl rfl (fun _ => ?_) (fun hno => absurd (Int32.not_lt.mp (of_decide_eq_false hb)) hno)
          refine WW.run (pc' := 148) (lv' := [(6, .int (nI S.ns)), (5, .int (S.qR j)), (4, .int (S.rk j S.ns)), (3, .int (aSum S.qQ S.ns)), (2, .int S.needs), (0, .ref m), (1, .int (nI j))]) (st' := [.int (nI 0), .int ((S.oil * (S.demand j)) / S.needs)]) 1 rfl ?_
          exact H
        | true =>
          intro H
          refine WW.icmp_ge (tgt := 147) rfl rfl (fun hno => absurd hno (Int32.not_le.mpr (of_decide_eq_true hb))) (fun _ => ?_)
          refine WW.run (pc' := 148) (lv' := [(6, .int (nI S.ns)), (5, .int (S.qR j)), (4, .int (S.rk j S.ns)), (3, .int (aSum S.qQ S.ns)), (2, .int S.needs), (0, .ref m), (1, .int (nI j))]) (st' := [.int (nI 1), .int ((S.oil * (S.demand j)) / S.needs)]) 2 rfl ?_
          exact H
      refine WW.run (pc' := 149) (lv' := [(6, .int (nI S.ns)), (5, .int (S.qR j)), (4, .int (S.rk j S.ns)), (3, .int (aSum S.qQ S.ns)), (2, .int S.needs), (0, .ref m), (1, .int (nI j))]) (st' := [.int (((S.oil * (S.demand j)) / S.needs) + (bI (decide (S.rk j S.ns < S.lf S.ns))))]) 1 rfl ?_
      exact WW.iret rfl rfl rfl ⟨rfl, rfl⟩
theorem mQ_share (h : isMm w m A t J cur hn hist sv n ic on oc) (hW : aWf cur) (hB : aQrB cur) (x : Int32) : Sp l G MX3_share 6 0 0 [.ref m, .int x] w (mA m A J cur hn hist sv n ic on oc (.int (nI 0)) (bif cur.ixS x then .inr (.int (cur.byRank (tn x))) else .inl 1) w) := by
  obtain ⟨I, F, hM, ht, hR⟩ := h
  have hS := hR.1
  refine Sp.of rfl (by decide +kernel) kX3_share (wd_le rfl) ?_
  refine WW.run (pc' := 3) (lv' := [(0, .ref m), (1, .int x)]) (st' := [.int x, .ref m, .ref m]) 3 rfl ?_
  refine WW.callV [.int x] m [.ref m] rfl mX3_89 (sM_isShip hM hS x) (wdRecv.obj hM.1 rfl) rfl rfl (wd_le rfl) (wd_le rfl) (wd_le rfl) (wd_le rfl) (fun o w' hq => ?_)
  obtain ⟨rfl, hw9⟩ := hq
  show WW _ _ _ 6 _ [.int (bI (cur.ixS x)), .ref m] _
  rw [hw9]
  clear hw9 w'
  cases hx : cur.ixS x with
  | false =>
    refine WW.callV [.int (bI (false))] m [] rfl mX3_144 (sM_isThere hM false) (wdRecv.obj hM.1 rfl) rfl rfl (wd_le rfl) (wd_le rfl) (wd_le rfl) (wd_le rfl) (fun o w' hq => ?_)
    obtain ⟨_, I1, F1, rfl, ⟨rfl, hI1, hF1⟩, hM1, fr1⟩ := hq
    rw [hI1, hF1] at hM1
    clear hI1 hF1 I1 F1
    show WW _ _ _ 9 _ [.int (bI false)] _
    refine WW.if_eq (tgt := 20) rfl rfl (fun _ => ?_) (fun hno => absurd rfl hno)
    refine WW.run (pc' := 21) (lv' := [(0, .ref m), (1, .int x)]) (st' := [.int (nI 0)]) 1 rfl ?_
    exact WW.iret rfl rfl rfl ⟨rfl, ⟨_, _, hM1, rfl, hR.i2 _⟩, fr1⟩
  | true =>
    obtain ⟨j, hj, rfl, tx⟩ := hW.ixS hx
    rw [tx]
    refine WW.callV [.int (bI (true))] m [] rfl mX3_144 (sM_isThere hM true) (wdRecv.obj hM.1 rfl) rfl rfl (wd_le rfl) (wd_le rfl) (wd_le rfl) (wd_le rfl) (fun o w' hq => ?_)
    obtain ⟨_, I2, F2, rfl, ⟨rfl, hI2, hF2⟩, hM2, fr2⟩ := hq
    rw [hI2, hF2] at hM2
    clear hI2 hF2 I2 F2
    show WW _ _ _ 9 _ [.int (bI true)] _
    refine WW.if_eq (tgt := 20) rfl rfl (fun hno => absurd hno (by decide)) (fun _ => ?_)
    refine WW.run (pc' := 14) (lv' := [(0, .ref m), (1, .int (nI j))]) (st' := [.int (nI j), .ref m]) 2 rfl ?_
    refine WW.callV [.int (nI j)] m [] rfl mX3_163 (sM_partOf hM2 hS hW hB hj) (wdRecv.obj hM2.1 rfl) rfl rfl (wd_le rfl) (wd_le rfl) (wd_le rfl) (wd_le rfl) (fun o w' hq => ?_)
    obtain ⟨rfl, hw9⟩ := hq
    show WW _ _ _ 17 _ [.int (cur.byRank j)] _
    rw [hw9]
    clear hw9 w'
    refine WW.run (pc' := 21) (lv' := [(0, .ref m), (1, .int (nI j))]) (st' := [.int (cur.byRank j)]) 1 rfl ?_
    exact WW.iret rfl rfl rfl ⟨rfl, ⟨_, _, hM2, rfl, hR.i2 _⟩, fr2⟩
theorem mQ_shareByRank (h : isMm w m A t J cur hn hist sv n ic on oc) (hW : aWf cur) (hB : aQrB cur) (x : Int32) : Sp l G MX3_shareByRank 7 0 0 [.ref m, .int x] w (mA m A J cur hn hist sv n ic on oc (.int (nI 0)) (bif cur.ixS x then .inr (.int (cur.byRank (tn x))) else .inl 1) w) := by
  have h0 := h
  obtain ⟨I, F, hM, ht, hR⟩ := h
  obtain ⟨r, hr⟩ : ∃ r : Nat ⊕ Value, r = (bif cur.ixS x then .inr (.int (cur.byRank (tn x))) else .inl 1) := ⟨_, rfl⟩
  have hD := mQ_share (l := l) (G := G) h0 hW hB x
  rw [← hr] at hD ⊢
  have hv : ∃ v : Int32, qV (.int (nI 0)) r = .int v := by
    rw [hr]
    cases cur.ixS x with
    | false => exact ⟨_, rfl⟩
    | true => exact ⟨_, rfl⟩
  obtain ⟨v, hv⟩ := hv
  refine Sp.of rfl (by decide +kernel) kX3_shareByRank (wd_le rfl) ?_
  refine WW.run (pc' := 2) (lv' := [(0, .ref m), (1, .int x)]) (st' := [.int x, .ref m]) 2 rfl ?_
  refine WW.callV [.int x] m [] rfl mX3_166 hD (wdRecv.obj hM.1 rfl) rfl rfl (wd_le rfl) (wd_le rfl) (wd_le rfl) (wd_le rfl) (fun o w' hq => ?_)
  obtain ⟨rfl, h1, h2⟩ := hq
  rw [hv]
  show WW _ _ _ 5 _ [.int v] _
  exact WW.iret rfl rfl rfl ⟨by rw [hv], h1, h2⟩
theorem mQ_meanCoins (h : isMm w m A t J cur hn hist sv n ic on oc) (hW : aWf cur) (hN : 0 < cur.ns → vf_n64 (FP.ddiv (FP.i2d cur.coins) (FP.i2d (nI cur.ns)))) : Sp l G MX3_meanCoins 6 0 0 [.ref m] w (mA m A J cur hn hist sv n ic on oc (.double 0) (bif Nat.blt 0 cur.ns then .inr (.double (FP.ddiv (FP.i2d cur.coins) (FP.i2d (nI cur.ns)))) else .inl 1) w) := by
  obtain ⟨I, F, hM, ht, hR⟩ := h
  have hS := hR.1
  have hns := hW.1
  refine Sp.of rfl (by decide +kernel) kX3_meanCoins (wd_le rfl) ?_
  refine WW.run (pc' := 1) (lv' := [(0, .ref m)]) (st' := [.ref m]) 1 rfl ?_
  refine WW.get rfl fX3_9 hM.1 (show _ = some (.ref (A 0)) from rfl) ?_
  refine WW.run (pc' := 5) (lv' := [(0, .ref m)]) (st' := [.int (nI 0), .ref (A 0)]) 1 rfl ?_
  refine WW.mald 0 0 rfl hM (by decide) rfl rfl (by decide) (by decide) (show (F 0) 0 = nI cur.ns from hS.1.1) ?_
  refine WW.run (pc' := 11) (lv' := [(3, .int (nI 0)), (2, .int (nI 0)), (1, .int (nI cur.ns)), (0, .ref m)]) (st' := []) 5 rfl ?_
  refine WW.up cur.ns (fun i => [(3, .int (nI i)), (2, .int (aSum (fun z => (cur.sh z).1) i)), (1, .int (nI cur.ns)), (0, .ref m)]) (fun i hi ih => ?_) ?_
  · skip
    refine WW.run (pc' := 13) (lv' := [(3, .int (nI i)), (2, .int (aSum (fun z => (cur.sh z).1) i)), (1, .int (nI cur.ns)), (0, .ref m)]) (st' := [.int (nI cur.ns), .int (nI i)]) 2 rfl ?_
    refine WW.icmp_ge (tgt := 31) rfl rfl (fun hno => absurd hno (nI_ge hi (by omega))) (fun _ => ?_)
    refine WW.run (pc' := 20) (lv' := [(3, .int (nI i)), (2, .int (aSum (fun z => (cur.sh z).1) i)), (1, .int (nI cur.ns)), (0, .ref m)]) (st' := [.int (nI 0), .int (nI i), .ref m, .int (aSum (fun z => (cur.sh z).1) i)]) 4 rfl ?_
    refine WW.callV [.int (nI i), .int (nI 0)] m [.int (aSum (fun z => (cur.sh z).1) i)] rfl mX3_99 (sM_co hM hS hW hi) (wdRecv.obj hM.1 rfl) rfl rfl (wd_le rfl) (wd_le rfl) (wd_le rfl) (wd_le rfl) (fun o w' hq => ?_)
    obtain ⟨rfl, hw9⟩ := hq
    show WW _ _ _ 23 _ [.int ((cur.sh i).1), .int (aSum (fun z => (cur.sh z).1) i)] _
    rw [hw9]
    clear hw9 w'
    refine WW.run (pc' := 11) (lv' := [(3, .int ((nI i) + nI 1)), (2, .int ((aSum (fun z => (cur.sh z).1) i) + ((cur.sh i).1))), (1, .int (nI cur.ns)), (0, .ref m)]) (st' := []) 4 rfl ?_
    rw [nI_add]
    exact ih
  · skip
    refine WW.run (pc' := 13) (lv' := [(3, .int (nI cur.ns)), (2, .int cur.coins), (1, .int (nI cur.ns)), (0, .ref m)]) (st' := [.int (nI cur.ns), .int (nI cur.ns)]) 2 rfl ?_
    refine WW.icmp_ge (tgt := 31) rfl rfl (fun _ => ?_) (fun hno => absurd (nI_le (Nat.le_refl _) (by omega)) hno)
    refine WW.run (pc' := 33) (lv' := [(3, .int (nI cur.ns)), (2, .int cur.coins), (1, .int (nI cur.ns)), (0, .ref m)]) (st' := [.int (nI cur.ns), .ref m]) 2 rfl ?_
    refine WW.join (pc' := 41) (lv' := [(3, .int (nI cur.ns)), (2, .int cur.coins), (1, .int (nI cur.ns)), (0, .ref m)]) (st' := [.int (bI (Nat.blt 0 cur.ns)), .ref m]) ?_ ?_
    rotate_left
    · cases hb : (Nat.blt 0 cur.ns) with
      | false =>
        intro H
        refine WW.if_le (tgt := 40) rfl rfl (fun _ => ?_) (fun hno => absurd (by rw [sM_le1 (show cur.ns < 2 ^ 31 by omega)]; exact hb) hno)
        refine WW.run (pc' := 41) (lv' := [(3, .int (nI cur.ns)), (2, .int cur.coins), (1, .int (nI cur.ns)), (0, .ref m)]) (st' := [.int (nI 0), .ref m]) 1 rfl ?_
        exact H
      | true =>
        intro H
        refine WW.if_le (tgt := 40) rfl rfl (fun hno => absurd hno (by rw [sM_le1 (show cur.ns < 2 ^ 31 by omega), hb]; exact fun h => nomatch h)) (fun _ => ?_)
        refine WW.run (pc' := 41) (lv' := [(3, .int (nI cur.ns)), (2, .int cur.coins), (1, .int (nI cur.ns)), (0, .ref m)]) (st' := [.int (nI 1), .ref m]) 2 rfl ?_
        exact H
    cases hb : Nat.blt 0 cur.ns with
    | false =>
      refine WW.callV [.int (bI (false))] m [] rfl mX3_144 (sM_isThere hM false) (wdRecv.obj hM.1 rfl) rfl rfl (wd_le rfl) (wd_le rfl) (wd_le rfl) (wd_le rfl) (fun o w' hq => ?_)
      obtain ⟨_, I3, F3, rfl, ⟨rfl, hI3, hF3⟩, hM3, fr3⟩ := hq
      rw [hI3, hF3] at hM3
      clear hI3 hF3 I3 F3
      show WW _ _ _ 44 _ [.int (bI false)] _
      refine WW.if_eq (tgt := 55) rfl rfl (fun _ => ?_) (fun hno => absurd rfl hno)
      refine WW.dconst0 rfl ?_
      exact WW.dret rfl rfl ⟨rfl, ⟨_, _, hM3, rfl, hR.i2 _⟩, fr3⟩
    | true =>
      have h0 : 0 < cur.ns := Nat.le_of_ble_eq_true hb
      refine WW.callV [.int (bI (true))] m [] rfl mX3_144 (sM_isThere hM true) (wdRecv.obj hM.1 rfl) rfl rfl (wd_le rfl) (wd_le rfl) (wd_le rfl) (wd_le rfl) (fun o w' hq => ?_)
      obtain ⟨_, I4, F4, rfl, ⟨rfl, hI4, hF4⟩, hM4, fr4⟩ := hq
      rw [hI4, hF4] at hM4
      clear hI4 hF4 I4 F4
      show WW _ _ _ 44 _ [.int (bI true)] _
      refine WW.if_eq (tgt := 55) rfl rfl (fun hno => absurd hno (by decide)) (fun _ => ?_)
      refine WW.run (pc' := 48) (lv' := [(3, .int (nI cur.ns)), (2, .int cur.coins), (1, .int (nI cur.ns)), (0, .ref m)]) (st' := [.int cur.coins]) 1 rfl ?_
      refine WW.i2d rfl ?_
      refine WW.run (pc' := 50) (lv' := [(3, .int (nI cur.ns)), (2, .int cur.coins), (1, .int (nI cur.ns)), (0, .ref m)]) (st' := [.int (nI cur.ns), .double (FP.i2d cur.coins)]) 1 rfl ?_
      refine WW.i2d rfl ?_
      refine WW.ddiv rfl (hN h0) ?_
      refine WW.run (pc' := 56) (lv' := [(3, .int (nI cur.ns)), (2, .int cur.coins), (1, .int (nI cur.ns)), (0, .ref m)]) (st' := [.double (FP.ddiv (FP.i2d cur.coins) (FP.i2d (nI cur.ns)))]) 1 rfl ?_
      exact WW.dret rfl rfl ⟨rfl, ⟨_, _, hM4, rfl, hR.i2 _⟩, fr4⟩
theorem mQ_leasedShare (h : isMm w m A t J cur hn hist sv n ic on oc) (hW : aWf cur) (hN : 0 < cur.nl → vf_n32 (FP.fdiv (FP.i2f cur.leased) (FP.i2f (nI cur.nl)))) : Sp l G MX3_leasedShare 6 0 0 [.ref m] w (mA m A J cur hn hist sv n ic on oc (.float 0) (bif Nat.blt 0 cur.nl then .inr (.float (FP.fdiv (FP.i2f cur.leased) (FP.i2f (nI cur.nl)))) else .inl 1) w) := by
  obtain ⟨I, F, hM, ht, hR⟩ := h
  have hS := hR.1
  have hnl := hW.2.1
  refine Sp.of rfl (by decide +kernel) kX3_leasedShare (wd_le rfl) ?_
  refine WW.run (pc' := 1) (lv' := [(0, .ref m)]) (st' := [.ref m]) 1 rfl ?_
  refine WW.get rfl fX3_9 hM.1 (show _ = some (.ref (A 0)) from rfl) ?_
  refine WW.run (pc' := 5) (lv' := [(0, .ref m)]) (st' := [.int (nI 1), .ref (A 0)]) 1 rfl ?_
  refine WW.mald 0 1 rfl hM (by decide) rfl rfl (by decide) (by decide) (show (F 0) 1 = nI cur.nl from hS.1.2.1) ?_
  refine WW.run (pc' := 9) (lv' := [(1, .int (nI cur.nl)), (0, .ref m)]) (st' := [.int (nI cur.nl), .ref m]) 3 rfl ?_
  refine WW.join (pc' := 17) (lv' := [(1, .int (nI cur.nl)), (0, .ref m)]) (st' := [.int (bI (Nat.blt 0 cur.nl)), .ref m]) ?_ ?_
  rotate_left
  · cases hb : (Nat.blt 0 cur.nl) with
    | false =>
      intro H
      refine WW.if_le (tgt := 16) rfl rfl (fun _ => ?_) (fun hno => absurd (by rw [sM_le1 (show cur.nl < 2 ^ 31 by omega)]; exact hb) hno)
      refine WW.run (pc' := 17) (lv' := [(1, .int (nI cur.nl)), (0, .ref m)]) (st' := [.int (nI 0), .ref m]) 1 rfl ?_
      exact H
    | true =>
      intro H
      refine WW.if_le (tgt := 16) rfl rfl (fun hno => absurd hno (by rw [sM_le1 (show cur.nl < 2 ^ 31 by omega), hb]; exact fun h => nomatch h)) (fun _ => ?_)
      refine WW.run (pc' := 17) (lv' := [(1, .int (nI cur.nl)), (0, .ref m)]) (st' := [.int (nI 1), .ref m]) 2 rfl ?_
      exact H
  cases hb : Nat.blt 0 cur.nl with
  | false =>
    refine WW.callV [.int (bI (false))] m [] rfl mX3_144 (sM_isThere hM false) (wdRecv.obj hM.1 rfl) rfl rfl (wd_le rfl) (wd_le rfl) (wd_le rfl) (wd_le rfl) (fun o w' hq => ?_)
    obtain ⟨_, I5, F5, rfl, ⟨rfl, hI5, hF5⟩, hM5, fr5⟩ := hq
    rw [hI5, hF5] at hM5
    clear hI5 hF5 I5 F5
    show WW _ _ _ 20 _ [.int (bI false)] _
    refine WW.if_eq (tgt := 34) rfl rfl (fun _ => ?_) (fun hno => absurd rfl hno)
    refine WW.fconst0 rfl ?_
    exact WW.fret rfl rfl ⟨rfl, ⟨_, _, hM5, rfl, hR.i2 _⟩, fr5⟩
  | true =>
    have h0 : 0 < cur.nl := Nat.le_of_ble_eq_true hb
    refine WW.callV [.int (bI (true))] m [] rfl mX3_144 (sM_isThere hM true) (wdRecv.obj hM.1 rfl) rfl rfl (wd_le rfl) (wd_le rfl) (wd_le rfl) (wd_le rfl) (fun o w' hq => ?_)
    obtain ⟨_, I6, F6, rfl, ⟨rfl, hI6, hF6⟩, hM6, fr6⟩ := hq
    rw [hI6, hF6] at hM6
    clear hI6 hF6 I6 F6
    show WW _ _ _ 20 _ [.int (bI true)] _
    refine WW.if_eq (tgt := 34) rfl rfl (fun hno => absurd hno (by decide)) (fun _ => ?_)
    refine WW.run (pc' := 24) (lv' := [(1, .int (nI cur.nl)), (0, .ref m)]) (st' := [.ref m]) 1 rfl ?_
    refine WW.callV [] m [] rfl mX3_151 (sM_leased hM6 hS hW) (wdRecv.obj hM6.1 rfl) rfl rfl (wd_le rfl) (wd_le rfl) (wd_le rfl) (wd_le rfl) (fun o w' hq => ?_)
    obtain ⟨rfl, hw9⟩ := hq
    show WW _ _ _ 27 _ [.int cur.leased] _
    rw [hw9]
    clear hw9 w'
    refine WW.i2f rfl ?_
    refine WW.run (pc' := 29) (lv' := [(1, .int (nI cur.nl)), (0, .ref m)]) (st' := [.int (nI cur.nl), .float (FP.i2f cur.leased)]) 1 rfl ?_
    refine WW.i2f rfl ?_
    refine WW.fdiv rfl (hN h0) ?_
    refine WW.run (pc' := 35) (lv' := [(1, .int (nI cur.nl)), (0, .ref m)]) (st' := [.float (FP.fdiv (FP.i2f cur.leased) (FP.i2f (nI cur.nl)))]) 1 rfl ?_
    exact WW.fret rfl rfl ⟨rfl, ⟨_, _, hM6, rfl, hR.i2 _⟩, fr6⟩
end
