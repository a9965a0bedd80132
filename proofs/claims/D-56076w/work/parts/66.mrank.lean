set_option maxRecDepth 100000
/-! THE MODEL's RANKS -/
theorem i_sub {a b : Nat} (ha : a < 2 ^ 29) (hb : b < 2 ^ 29) : (nI a - nI b).toInt = (a : Int) - (b : Int) := by
  rw [Int32.toInt_sub, nI_toInt (by omega), nI_toInt (by omega), Int.bmod_def]
  omega
theorem sub_gt {a b : Nat} (ha : a < 2 ^ 29) (hb : b < 2 ^ 29) : (0 < nI a - nI b) ↔ b < a := by
  rw [Int32.lt_iff_toInt_lt, i_sub ha hb, show (0 : Int32).toInt = 0 from rfl]
  omega
theorem sub_eq0 {a b : Nat} (ha : a < 2 ^ 29) (hb : b < 2 ^ 29) : (nI a - nI b = 0) ↔ a = b := by
  rw [← Int32.toInt_inj, i_sub ha hb, show (0 : Int32).toInt = 0 from rfl]
  omega
/-- what a ship's numbers are -/
def aShB (S : aS) : Prop := ∀ k, k < S.ns → ∃ a b : Nat, a < 2 ^ 29 ∧ b < 2 ^ 29 ∧ (S.sh k).1 = nI a ∧ (S.sh k).2.1 = nI b
def triB (p q p' q' : Nat) (b : Bool) : Bool := decide (p < q) || (decide (q = p) && (decide (p' < q') || (decide (q' = p') && b)))
theorem fB_val {S : aS} {i j ci fi cj fj : Nat} (h1 : ci < 2 ^ 29) (h2 : fi < 2 ^ 29) (h3 : cj < 2 ^ 29) (h4 : fj < 2 ^ 29) (e1 : (S.sh i).1 = nI ci) (e2 : (S.sh i).2.1 = nI fi) (e3 : (S.sh j).1 = nI cj) (e4 : (S.sh j).2.1 = nI fj) : S.fB i j = triB fi fj cj ci (Nat.blt j i) := by
  unfold aS.fB aAhead triB
  rw [e1, e2, e3, e4]
  by_cases e : j = i
  · subst e
    have g1 : fj = fi := (nI_eq (by omega) (by omega)).mp (e4.symm.trans e2)
    have g2 : cj = ci := (nI_eq (by omega) (by omega)).mp (e3.symm.trans e1)
    subst g1; subst g2
    have : Nat.blt j j = false := Bool.eq_false_iff.mpr (fun q => absurd (Nat.le_of_ble_eq_true q) (Nat.not_succ_le_self j))
    simp [this]
  · rw [show (j == i) = false from beq_eq_false_iff_ne.mpr e]
    have q1 : (nI fj = nI fi) = (fj = fi) := propext (nI_eq (by omega) (by omega))
    have q2 : (nI cj = nI ci) = (cj = ci) := propext (nI_eq (by omega) (by omega))
    have q3 : (nI cj < nI ci) = (cj < ci) := propext (nI_ltI (by omega) (by omega))
    have q4 : (nI fi < nI fj) = (fi < fj) := propext (nI_ltI (by omega) (by omega))
    simp only [q1, q2, q3, q4, Bool.not_false, Bool.true_and]
    by_cases g1 : fj = fi
    · subst g1
      by_cases g2 : cj = ci
      · subst g2; simp
      · simp [g2, Ne.symm g2]
    · simp [g1]
def aLast (p : Nat → Bool) : Nat → Int32
  | 0 => nI 0
  | i + 1 => bif p i then nI i else aLast p i
section
variable {l : Launch} {G : wdG} {w : wdW} {m : Nat} {A : Nat → Nat} {I : Nat → Int32} {F : Nat → Nat → Int32} {J : Nat → Int32} {cur S : aS} {hn : Nat} {hist : Nat → aS} {sv : Option aS} {n : Nat} {ic : Nat → Int32} {on : Nat} {oc : Nat → Int32} {t : Int32}
theorem sM_fRank {Q : wdO → wdW → Prop} (hM : isM w m A I F) (hS : fS (F 0) S) (hW : aWf S) (hB : aShB S) {i : Nat} (hi : i < S.ns) (x fd c3 : Int32) (k : WW (l, G, MX3_shipByFines, 6, 0, 0, Q) 0 0 124 [(5, .int (S.fRank i S.ns)), (4, .int (nI i)), (3, .int c3), (2, .int fd), (0, .ref m), (1, .int x)] [] w) : WW (l, G, MX3_shipByFines, 6, 0, 0, Q) 0 0 36 [(6, .int (nI 0)), (5, .int (nI 0)), (4, .int (nI i)), (3, .int c3), (2, .int fd), (0, .ref m), (1, .int x)] [] w := by
  have hns := hW.1
  obtain ⟨ci, fi, h1, h2, e1, e2⟩ := hB i hi
  refine WW.up S.ns (fun j => [(6, .int (nI j)), (5, .int (S.fRank i j)), (4, .int (nI i)), (3, .int c3), (2, .int fd), (0, .ref m), (1, .int x)]) (fun j hj ih => ?_) ?_
  · skip
    obtain ⟨cj, fj, h3, h4, e3, e4⟩ := hB j hj
    have e : S.fRank i (j + 1) = S.fRank i j + bI (S.fB i j) := rfl
    rw [e] at ih
    generalize S.fRank i j = rk at ih
    refine WW.run (pc' := 39) (lv' := [(6, .int (nI j)), (5, .int rk), (4, .int (nI i)), (3, .int c3), (2, .int fd), (0, .ref m), (1, .int x)]) (st' := [.ref m, .int (nI j)]) 2 rfl ?_
    refine WW.get rfl fX3_9 hM.1 (show _ = some (.ref (A 0)) from rfl) ?_
    refine WW.run (pc' := 43) (lv' := [(6, .int (nI j)), (5, .int rk), (4, .int (nI i)), (3, .int c3), (2, .int fd), (0, .ref m), (1, .int x)]) (st' := [.int (nI 0), .ref (A 0), .int (nI j)]) 1 rfl ?_
    refine WW.mald 0 0 rfl hM (by decide) rfl rfl (by decide) (by decide) (show (F 0) 0 = nI S.ns from hS.1.1) ?_
    refine WW.icmp_ge (tgt := 124) rfl rfl (fun hno => absurd hno (nI_ge hj (by omega))) (fun _ => ?_)
    refine WW.run (pc' := 51) (lv' := [(6, .int (nI j)), (5, .int rk), (4, .int (nI i)), (3, .int c3), (2, .int fd), (0, .ref m), (1, .int x)]) (st' := [.int (nI 1), .int (nI j), .ref m]) 3 rfl ?_
    refine WW.callV [.int (nI j), .int (nI 1)] m [] rfl mX3_99 (sM_fi hM hS hW hj) (wdRecv.obj hM.1 rfl) rfl rfl (wd_le rfl) (wd_le rfl) (wd_le rfl) (wd_le rfl) (fun o w' hq => ?_)
    obtain ⟨rfl, hw9⟩ := hq
    show WW _ _ _ 54 _ [.int ((S.sh j).2.1)] _
    rw [hw9]
    clear hw9 w'
    refine WW.run (pc' := 58) (lv' := [(6, .int (nI j)), (5, .int rk), (4, .int (nI i)), (3, .int c3), (2, .int fd), (0, .ref m), (1, .int x)]) (st' := [.int (nI 1), .int (nI i), .ref m, .int ((S.sh j).2.1)]) 3 rfl ?_
    refine WW.callV [.int (nI i), .int (nI 1)] m [.int ((S.sh j).2.1)] rfl mX3_99 (sM_fi hM hS hW hi) (wdRecv.obj hM.1 rfl) rfl rfl (wd_le rfl) (wd_le rfl) (wd_le rfl) (wd_le rfl) (fun o w' hq => ?_)
    obtain ⟨rfl, hw9⟩ := hq
    show WW _ _ _ 61 _ [.int ((S.sh i).2.1), .int ((S.sh j).2.1)] _
    rw [hw9]
    clear hw9 w'
    refine WW.run (pc' := 68) (lv' := [(7, .int (((S.sh j).2.1) - ((S.sh i).2.1))), (6, .int (nI j)), (5, .int rk), (4, .int (nI i)), (3, .int c3), (2, .int fd), (0, .ref m), (1, .int x)]) (st' := [.int (nI 0), .int (nI i), .ref m]) 5 rfl ?_
    refine WW.callV [.int (nI i), .int (nI 0)] m [] rfl mX3_99 (sM_co hM hS hW hi) (wdRecv.obj hM.1 rfl) rfl rfl (wd_le rfl) (wd_le rfl) (wd_le rfl) (wd_le rfl) (fun o w' hq => ?_)
    obtain ⟨rfl, hw9⟩ := hq
    show WW _ _ _ 71 _ [.int ((S.sh i).1)] _
    rw [hw9]
    clear hw9 w'
    refine WW.run (pc' := 75) (lv' := [(7, .int (((S.sh j).2.1) - ((S.sh i).2.1))), (6, .int (nI j)), (5, .int rk), (4, .int (nI i)), (3, .int c3), (2, .int fd), (0, .ref m), (1, .int x)]) (st' := [.int (nI 0), .int (nI j), .ref m, .int ((S.sh i).1)]) 3 rfl ?_
    refine WW.callV [.int (nI j), .int (nI 0)] m [.int ((S.sh i).1)] rfl mX3_99 (sM_co hM hS hW hj) (wdRecv.obj hM.1 rfl) rfl rfl (wd_le rfl) (wd_le rfl) (wd_le rfl) (wd_le rfl) (fun o w' hq => ?_)
    obtain ⟨rfl, hw9⟩ := hq
    show WW _ _ _ 78 _ [.int ((S.sh j).1), .int ((S.sh i).1)] _
    rw [hw9]
    clear hw9 w'
    refine WW.run (pc' := 81) (lv' := [(8, .int (((S.sh i).1) - ((S.sh j).1))), (7, .int (((S.sh j).2.1) - ((S.sh i).2.1))), (6, .int (nI j)), (5, .int rk), (4, .int (nI i)), (3, .int c3), (2, .int fd), (0, .ref m), (1, .int x)]) (st' := []) 2 rfl ?_
    rw [e1, e2, e3, e4]
    refine WW.join (pc' := 115) (lv' := [(8, .int (nI ci - nI cj)), (7, .int (nI fj - nI fi)), (6, .int (nI j)), (5, .int rk), (4, .int (nI i)), (3, .int c3), (2, .int fd), (0, .ref m), (1, .int x)]) (st' := [.int (bI (S.fB i j)), .int rk]) ?_ (fun H => ?_)
    rotate_left
    · skip
      rw [fB_val h1 h2 h3 h4 e1 e2 e3 e4] at H
      unfold triB at H
      refine WW.run (pc' := 85) (lv' := [(8, .int (nI ci - nI cj)), (7, .int (nI fj - nI fi)), (6, .int (nI j)), (5, .int rk), (4, .int (nI i)), (3, .int c3), (2, .int fd), (0, .ref m), (1, .int x)]) (st' := [.int (nI fj - nI fi), .int rk]) 2 rfl ?_
      by_cases g1 : fi < fj
      · skip
        refine WW.if_gt (tgt := 110) rfl rfl (fun _ => ?_) (fun hno => absurd ((sub_gt h4 h2).mpr g1) hno)
        rw [decide_eq_true g1] at H
        refine WW.run (pc' := 115) (lv' := [(8, .int (nI ci - nI cj)), (7, .int (nI fj - nI fi)), (6, .int (nI j)), (5, .int rk), (4, .int (nI i)), (3, .int c3), (2, .int fd), (0, .ref m), (1, .int x)]) (st' := [.int (nI 1), .int rk]) 2 rfl ?_
        exact H
      · skip
        refine WW.if_gt (tgt := 110) rfl rfl (fun hno => absurd hno (fun q => g1 ((sub_gt h4 h2).mp q))) (fun _ => ?_)
        rw [decide_eq_false g1] at H
        refine WW.run (pc' := 90) (lv' := [(8, .int (nI ci - nI cj)), (7, .int (nI fj - nI fi)), (6, .int (nI j)), (5, .int rk), (4, .int (nI i)), (3, .int c3), (2, .int fd), (0, .ref m), (1, .int x)]) (st' := [.int (nI fj - nI fi), .int rk]) 1 rfl ?_
        by_cases g2 : fj = fi
        · skip
          refine WW.if_ne (tgt := 114) rfl rfl (fun hno => absurd ((sub_eq0 h4 h2).mpr g2) hno) (fun _ => ?_)
          rw [decide_eq_true g2] at H
          refine WW.run (pc' := 95) (lv' := [(8, .int (nI ci - nI cj)), (7, .int (nI fj - nI fi)), (6, .int (nI j)), (5, .int rk), (4, .int (nI i)), (3, .int c3), (2, .int fd), (0, .ref m), (1, .int x)]) (st' := [.int (nI ci - nI cj), .int rk]) 1 rfl ?_
          by_cases g3 : cj < ci
          · skip
            refine WW.if_gt (tgt := 110) rfl rfl (fun _ => ?_) (fun hno => absurd ((sub_gt h1 h3).mpr g3) hno)
            rw [decide_eq_true g3] at H
            refine WW.run (pc' := 115) (lv' := [(8, .int (nI ci - nI cj)), (7, .int (nI fj - nI fi)), (6, .int (nI j)), (5, .int rk), (4, .int (nI i)), (3, .int c3), (2, .int fd), (0, .ref m), (1, .int x)]) (st' := [.int (nI 1), .int rk]) 2 rfl ?_
            exact H
          · skip
            refine WW.if_gt (tgt := 110) rfl rfl (fun hno => absurd hno (fun q => g3 ((sub_gt h1 h3).mp q))) (fun _ => ?_)
            rw [decide_eq_false g3] at H
            refine WW.run (pc' := 100) (lv' := [(8, .int (nI ci - nI cj)), (7, .int (nI fj - nI fi)), (6, .int (nI j)), (5, .int rk), (4, .int (nI i)), (3, .int c3), (2, .int fd), (0, .ref m), (1, .int x)]) (st' := [.int (nI ci - nI cj), .int rk]) 1 rfl ?_
            by_cases g4 : ci = cj
            · skip
              refine WW.if_ne (tgt := 114) rfl rfl (fun hno => absurd ((sub_eq0 h1 h3).mpr g4) hno) (fun _ => ?_)
              rw [decide_eq_true g4] at H
              refine WW.run (pc' := 107) (lv' := [(8, .int (nI ci - nI cj)), (7, .int (nI fj - nI fi)), (6, .int (nI j)), (5, .int rk), (4, .int (nI i)), (3, .int c3), (2, .int fd), (0, .ref m), (1, .int x)]) (st' := [.int (nI i), .int (nI j), .int rk]) 2 rfl ?_
              cases g5 : Nat.blt j i with
              | true =>
                rw [g5] at H
                refine WW.icmp_ge (tgt := 114) rfl rfl (fun hno => absurd hno (nI_ge (Nat.le_of_ble_eq_true g5) (by omega))) (fun _ => ?_)
                refine WW.run (pc' := 115) (lv' := [(8, .int (nI ci - nI cj)), (7, .int (nI fj - nI fi)), (6, .int (nI j)), (5, .int rk), (4, .int (nI i)), (3, .int c3), (2, .int fd), (0, .ref m), (1, .int x)]) (st' := [.int (nI 1), .int rk]) 2 rfl ?_
                exact H
              | false =>
                rw [g5] at H
                refine WW.icmp_ge (tgt := 114) rfl rfl (fun _ => ?_) (fun hno => absurd (nI_le (Nat.le_of_not_lt (fun q => by rw [show Nat.blt j i = true from Nat.ble_eq_true_of_le q] at g5; cases g5)) (by omega)) hno)
                refine WW.run (pc' := 115) (lv' := [(8, .int (nI ci - nI cj)), (7, .int (nI fj - nI fi)), (6, .int (nI j)), (5, .int rk), (4, .int (nI i)), (3, .int c3), (2, .int fd), (0, .ref m), (1, .int x)]) (st' := [.int (nI 0), .int rk]) 1 rfl ?_
                exact H
            · skip
              refine WW.if_ne (tgt := 114) rfl rfl (fun _ => ?_) (fun hno => absurd hno (fun q => g4 ((sub_eq0 h1 h3).mp q)))
              rw [decide_eq_false g4] at H
              refine WW.run (pc' := 115) (lv' := [(8, .int (nI ci - nI cj)), (7, .int (nI fj - nI fi)), (6, .int (nI j)), (5, .int rk), (4, .int (nI i)), (3, .int c3), (2, .int fd), (0, .ref m), (1, .int x)]) (st' := [.int (nI 0), .int rk]) 1 rfl ?_
              exact H
        · skip
          refine WW.if_ne (tgt := 114) rfl rfl (fun _ => ?_) (fun hno => absurd hno (fun q => g2 ((sub_eq0 h4 h2).mp q)))
          rw [decide_eq_false g2] at H
          refine WW.run (pc' := 115) (lv' := [(8, .int (nI ci - nI cj)), (7, .int (nI fj - nI fi)), (6, .int (nI j)), (5, .int rk), (4, .int (nI i)), (3, .int c3), (2, .int fd), (0, .ref m), (1, .int x)]) (st' := [.int (nI 0), .int rk]) 1 rfl ?_
          exact H
    generalize S.fB i j = bb at ih
    refine WW.run (pc' := 36) (lv' := [(6, .int ((nI j) + nI 1)), (5, .int (rk + (bI bb))), (8, .int (nI ci - nI cj)), (7, .int (nI fj - nI fi)), (4, .int (nI i)), (3, .int c3), (2, .int fd), (0, .ref m), (1, .int x)]) (st' := []) 4 rfl ?_
    refine WW.pick (lv' := [(6, .int ((nI j) + nI 1)), (5, .int (rk + (bI bb))), (4, .int (nI i)), (3, .int c3), (2, .int fd), (0, .ref m), (1, .int x)]) [0, 1, 4, 5, 6, 7, 8] rfl ?_
    rw [nI_add]
    exact ih
  · skip
    refine WW.run (pc' := 39) (lv' := [(6, .int (nI S.ns)), (5, .int (S.fRank i S.ns)), (4, .int (nI i)), (3, .int c3), (2, .int fd), (0, .ref m), (1, .int x)]) (st' := [.ref m, .int (nI S.ns)]) 2 rfl ?_
    refine WW.get rfl fX3_9 hM.1 (show _ = some (.ref (A 0)) from rfl) ?_
    refine WW.run (pc' := 43) (lv' := [(6, .int (nI S.ns)), (5, .int (S.fRank i S.ns)), (4, .int (nI i)), (3, .int c3), (2, .int fd), (0, .ref m), (1, .int x)]) (st' := [.int (nI 0), .ref (A 0), .int (nI S.ns)]) 1 rfl ?_
    refine WW.mald 0 0 rfl hM (by decide) rfl rfl (by decide) (by decide) (show (F 0) 0 = nI S.ns from hS.1.1) ?_
    refine WW.icmp_ge (tgt := 124) rfl rfl (fun _ => ?_) (fun hno => absurd (nI_le (Nat.le_refl _) (by omega)) hno)
    refine WW.pick (lv' := [(5, .int (S.fRank i S.ns)), (4, .int (nI i)), (3, .int c3), (2, .int fd), (0, .ref m), (1, .int x)]) [1, 2, 3, 4, 5, 6] rfl ?_
    exact k
def aS.lastF (S : aS) (x : Int32) : Int32 := aLast (fun i => decide (S.fRank i S.ns = x)) S.ns
theorem mQ_shipByFines (h : isMm w m A t J cur hn hist sv n ic on oc) (hW : aWf cur) (hB : aShB cur) (x : Int32) : Sp l G MX3_shipByFines 6 0 0 [.ref m, .int x] w (mA m A J cur hn hist sv n ic on oc (.int (nI 0)) (bif cur.ixS x then .inr (.int (cur.lastF x)) else .inl 1) w) := by
  obtain ⟨I, F, hM, ht, hR⟩ := h
  have hS := hR.1
  have hns := hW.1
  refine Sp.of rfl (by decide +kernel) kX3_shipByFines (wd_le rfl) ?_
  refine WW.run (pc' := 5) (lv' := [(2, .int (nI 0)), (0, .ref m), (1, .int x)]) (st' := [.int x, .ref m, .ref m]) 5 rfl ?_
  refine WW.callV [.int x] m [.ref m] rfl mX3_89 (sM_isShip hM hS x) (wdRecv.obj hM.1 rfl) rfl rfl (wd_le rfl) (wd_le rfl) (wd_le rfl) (wd_le rfl) (fun o w' hq => ?_)
  obtain ⟨rfl, hw9⟩ := hq
  show WW _ _ _ 8 _ [.int (bI (cur.ixS x)), .ref m] _
  rw [hw9]
  clear hw9 w'
  generalize cur.ixS x = b
  cases b with
  | false =>
    refine WW.callV [.int (bI (false))] m [] rfl mX3_144 (sM_isThere hM false) (wdRecv.obj hM.1 rfl) rfl rfl (wd_le rfl) (wd_le rfl) (wd_le rfl) (wd_le rfl) (fun o w' hq => ?_)
    obtain ⟨_, I1, F1, rfl, ⟨rfl, hI1, hF1⟩, hM1, fr1⟩ := hq
    rw [hI1, hF1] at hM1
    clear hI1 hF1 I1 F1
    show WW _ _ _ 11 _ [.int (bI false)] _
    refine WW.run (pc' := 18) (lv' := [(4, .int (nI 0)), (3, .int (bI false)), (2, .int (nI 0)), (0, .ref m), (1, .int x)]) (st' := [.ref m, .int (nI 0)]) 5 rfl ?_
    refine WW.get rfl fX3_9 hM1.1 (show _ = some (.ref (A 0)) from rfl) ?_
    refine WW.run (pc' := 22) (lv' := [(4, .int (nI 0)), (3, .int (bI false)), (2, .int (nI 0)), (0, .ref m), (1, .int x)]) (st' := [.int (nI 0), .ref (A 0), .int (nI 0)]) 1 rfl ?_
    refine WW.mald 0 0 rfl hM1 (by decide) rfl rfl (by decide) (by decide) (show (F 0) 0 = nI cur.ns from hS.1.1) ?_
    by_cases e : cur.ns = 0
    · skip
      refine WW.icmp_ge (tgt := 143) rfl rfl (fun _ => ?_) (fun hno => absurd (by rw [e]; exact nI_le0) hno)
      refine WW.run (pc' := 144) (lv' := [(4, .int (nI 0)), (3, .int (bI false)), (2, .int (nI 0)), (0, .ref m), (1, .int x)]) (st' := [.int (nI 0)]) 1 rfl ?_
      exact WW.iret rfl rfl rfl ⟨rfl, ⟨_, _, hM1, rfl, hR.i2 _⟩, fr1⟩
    · skip
      refine WW.icmp_ge (tgt := 143) rfl rfl (fun hno => absurd hno (nI_ge (Nat.pos_of_ne_zero e) (by omega))) (fun _ => ?_)
      refine WW.run (pc' := 27) (lv' := [(4, .int (nI 0)), (3, .int (bI false)), (2, .int (nI 0)), (0, .ref m), (1, .int x)]) (st' := [.int (bI false)]) 1 rfl ?_
      refine WW.if_eq (tgt := 143) rfl rfl (fun _ => ?_) (fun hno => absurd rfl hno)
      refine WW.run (pc' := 144) (lv' := [(4, .int (nI 0)), (3, .int (bI false)), (2, .int (nI 0)), (0, .ref m), (1, .int x)]) (st' := [.int (nI 0)]) 1 rfl ?_
      exact WW.iret rfl rfl rfl ⟨rfl, ⟨_, _, hM1, rfl, hR.i2 _⟩, fr1⟩
  | true =>
    refine WW.callV [.int (bI (true))] m [] rfl mX3_144 (sM_isThere hM true) (wdRecv.obj hM.1 rfl) rfl rfl (wd_le rfl) (wd_le rfl) (wd_le rfl) (wd_le rfl) (fun o w' hq => ?_)
    obtain ⟨_, I2, F2, rfl, ⟨rfl, hI2, hF2⟩, hM2, fr2⟩ := hq
    rw [hI2, hF2] at hM2
    clear hI2 hF2 I2 F2
    show WW _ _ _ 11 _ [.int (bI true)] _
    refine WW.run (pc' := 15) (lv' := [(4, .int (nI 0)), (3, .int (bI true)), (2, .int (nI 0)), (0, .ref m), (1, .int x)]) (st' := []) 3 rfl ?_
    refine WW.up cur.ns (fun i => [(4, .int (nI i)), (3, .int (bI true)), (2, .int (aLast (fun i => decide (cur.fRank i cur.ns = x)) i)), (0, .ref m), (1, .int x)]) (fun i hi ih => ?_) ?_
    · skip
      replace ih : WW (l, G, MX3_shipByFines, 6, 0, 0, mA m A J cur hn hist sv n ic on oc (.int (nI 0)) (.inr (.int (cur.lastF x))) w) 0 0 15 [(4, .int (nI (i + 1))), (3, .int (bI true)), (2, .int (bif decide (cur.fRank i cur.ns = x) then nI i else aLast (fun i => decide (cur.fRank i cur.ns = x)) i)), (0, .ref m), (1, .int x)] [] w' := ih
      generalize aLast (fun i => decide (cur.fRank i cur.ns = x)) i = fd at ih
      refine WW.run (pc' := 18) (lv' := [(4, .int (nI i)), (3, .int (bI true)), (2, .int fd), (0, .ref m), (1, .int x)]) (st' := [.ref m, .int (nI i)]) 2 rfl ?_
      refine WW.get rfl fX3_9 hM2.1 (show _ = some (.ref (A 0)) from rfl) ?_
      refine WW.run (pc' := 22) (lv' := [(4, .int (nI i)), (3, .int (bI true)), (2, .int fd), (0, .ref m), (1, .int x)]) (st' := [.int (nI 0), .ref (A 0), .int (nI i)]) 1 rfl ?_
      refine WW.mald 0 0 rfl hM2 (by decide) rfl rfl (by decide) (by decide) (show (F 0) 0 = nI cur.ns from hS.1.1) ?_
      refine WW.icmp_ge (tgt := 143) rfl rfl (fun hno => absurd hno (nI_ge hi (by omega))) (fun _ => ?_)
      refine WW.run (pc' := 27) (lv' := [(4, .int (nI i)), (3, .int (bI true)), (2, .int fd), (0, .ref m), (1, .int x)]) (st' := [.int (bI true)]) 1 rfl ?_
      refine WW.if_eq (tgt := 143) rfl rfl (fun hno => absurd hno (by decide)) (fun _ => ?_)
      refine WW.run (pc' := 36) (lv' := [(6, .int (nI 0)), (5, .int (nI 0)), (4, .int (nI i)), (3, .int (bI true)), (2, .int fd), (0, .ref m), (1, .int x)]) (st' := []) 4 rfl ?_
      refine sM_fRank hM2 hS hW hB hi x fd (bI true) ?_
      generalize cur.fRank i cur.ns = rk at ih
      refine WW.run (pc' := 127) (lv' := [(5, .int rk), (4, .int (nI i)), (3, .int (bI true)), (2, .int fd), (0, .ref m), (1, .int x)]) (st' := [.int x, .int rk]) 2 rfl ?_
      refine WW.join (pc' := 136) (lv' := [(5, .int rk), (4, .int (nI i)), (3, .int (bI true)), (2, .int fd), (0, .ref m), (1, .int x)]) (st' := [.int (bif decide (rk = x) then nI i else fd)]) ?_ ?_
      rotate_left
      · cases hb : (decide (rk = x)) with
        | false =>
          intro H
          refine WW.icmp_ne (tgt := 135) rfl rfl (fun _ => ?_) (fun hno => absurd hno (of_decide_eq_false hb))
          refine WW.run (pc' := 136) (lv' := [(5, .int rk), (4, .int (nI i)), (3, .int (bI true)), (2, .int fd), (0, .ref m), (1, .int x)]) (st' := [.int fd]) 1 rfl ?_
          exact H
        | true =>
          intro H
          refine WW.icmp_ne (tgt := 135) rfl rfl (fun hno => absurd (of_decide_eq_true hb) hno) (fun _ => ?_)
          refine WW.run (pc' := 136) (lv' := [(5, .int rk), (4, .int (nI i)), (3, .int (bI true)), (2, .int fd), (0, .ref m), (1, .int x)]) (st' := [.int (nI i)]) 2 rfl ?_
          exact H
      refine WW.run (pc' := 15) (lv' := [(4, .int ((nI i) + nI 1)), (2, .int (bif decide (rk = x) then nI i else fd)), (5, .int rk), (3, .int (bI true)), (0, .ref m), (1, .int x)]) (st' := []) 3 rfl ?_
      refine WW.pick (lv' := [(4, .int ((nI i) + nI 1)), (3, .int (bI true)), (2, .int (bif decide (rk = x) then nI i else fd)), (0, .ref m), (1, .int x)]) [0, 3, 1, 4, 5] rfl ?_
      rw [nI_add]
      exact ih
    · skip
      refine WW.run (pc' := 18) (lv' := [(4, .int (nI cur.ns)), (3, .int (bI true)), (2, .int (cur.lastF x)), (0, .ref m), (1, .int x)]) (st' := [.ref m, .int (nI cur.ns)]) 2 rfl ?_
      refine WW.get rfl fX3_9 hM2.1 (show _ = some (.ref (A 0)) from rfl) ?_
      refine WW.run (pc' := 22) (lv' := [(4, .int (nI cur.ns)), (3, .int (bI true)), (2, .int (cur.lastF x)), (0, .ref m), (1, .int x)]) (st' := [.int (nI 0), .ref (A 0), .int (nI cur.ns)]) 1 rfl ?_
      refine WW.mald 0 0 rfl hM2 (by decide) rfl rfl (by decide) (by decide) (show (F 0) 0 = nI cur.ns from hS.1.1) ?_
      refine WW.icmp_ge (tgt := 143) rfl rfl (fun _ => ?_) (fun hno => absurd (nI_le (Nat.le_refl _) (by omega)) hno)
      refine WW.run (pc' := 144) (lv' := [(4, .int (nI cur.ns)), (3, .int (bI true)), (2, .int (cur.lastF x)), (0, .ref m), (1, .int x)]) (st' := [.int (cur.lastF x)]) 1 rfl ?_
      exact WW.iret rfl rfl rfl ⟨rfl, ⟨_, _, hM2, rfl, hR.i2 _⟩, fr2⟩
/-! lamps -/
def aS.eE (S : aS) (i : Nat) : Int32 := if (S.la i).le = 0 then nI 0 else (S.la i).en
def aLaB (S : aS) : Prop := ∀ k, k < S.nl → ∃ a b : Nat, a < 2 ^ 29 ∧ b < 2 ^ 29 ∧ S.eE k = nI a ∧ (S.la k).lv = nI b
/-- k comes ahead of i -/
def aS.mB (S : aS) (i k : Nat) : Bool := decide (S.eE k < S.eE i) || (decide (S.eE i = S.eE k) && (decide ((S.la i).lv < (S.la k).lv) || (decide ((S.la k).lv = (S.la i).lv) && Nat.blt k i)))
def aS.mRank (S : aS) (i : Nat) (n : Nat) : Int32 := aSum (fun k => bI (Nat.blt 0 (S.la k).le && S.mB i k)) n
theorem mB_val {S : aS} {i j ei li ej lj : Nat} (h1 : ei < 2 ^ 29) (h2 : li < 2 ^ 29) (h3 : ej < 2 ^ 29) (h4 : lj < 2 ^ 29) (e1 : S.eE i = nI ei) (e2 : (S.la i).lv = nI li) (e3 : S.eE j = nI ej) (e4 : (S.la j).lv = nI lj) : S.mB i j = triB ej ei li lj (Nat.blt j i) := by
  unfold aS.mB triB
  rw [e1, e2, e3, e4]
  have q1 : (nI ei = nI ej) = (ei = ej) := propext (nI_eq (by omega) (by omega))
  have q2 : (nI lj = nI li) = (lj = li) := propext (nI_eq (by omega) (by omega))
  have q3 : (nI li < nI lj) = (li < lj) := propext (nI_ltI (by omega) (by omega))
  have q4 : (nI ej < nI ei) = (ej < ei) := propext (nI_ltI (by omega) (by omega))
  simp only [q1, q2, q3, q4]
theorem sM_mRank {Q : wdO → wdW → Prop} (hM : isM w m A I F) (hS : fS (F 0) S) (hW : aWf S) (hB : aLaB S) {i : Nat} (hi : i < S.nl) (x fd c3 : Int32) (k : WW (l, G, MX3_lampByEnd, 6, 0, 0, Q) 0 0 151 [(5, .int (S.mRank i S.nl)), (4, .int (nI i)), (3, .int c3), (2, .int fd), (0, .ref m), (1, .int x)] [] w) : WW (l, G, MX3_lampByEnd, 6, 0, 0, Q) 0 0 42 [(6, .int (nI 0)), (5, .int (nI 0)), (4, .int (nI i)), (3, .int c3), (2, .int fd), (0, .ref m), (1, .int x)] [] w := by
  have hnl := hW.2.1
  obtain ⟨ei, li, h1, h2, e1, e2⟩ := hB i hi
  refine WW.up S.nl (fun j => [(6, .int (nI j)), (5, .int (S.mRank i j)), (4, .int (nI i)), (3, .int c3), (2, .int fd), (0, .ref m), (1, .int x)]) (fun j hj ih => ?_) ?_
  · skip
    obtain ⟨ej, lj, h3, h4, e3, e4⟩ := hB j hj
    have e : S.mRank i (j + 1) = S.mRank i j + bI (Nat.blt 0 (S.la j).le && S.mB i j) := rfl
    rw [e] at ih
    generalize S.mRank i j = rk at ih
    have hni := sM_en (l := l) (G := G) hM hS hW hi
    rw [show (if (S.la i).le = 0 then nI 0 else (S.la i).en) = nI ei from e1] at hni
    have hnj := sM_en (l := l) (G := G) hM hS hW hj
    rw [show (if (S.la j).le = 0 then nI 0 else (S.la j).en) = nI ej from e3] at hnj
    have hli := sM_lv (l := l) (G := G) hM hS hW hi
    rw [e2] at hli
    have hlj := sM_lv (l := l) (G := G) hM hS hW hj
    rw [e4] at hlj
    refine WW.run (pc' := 45) (lv' := [(6, .int (nI j)), (5, .int rk), (4, .int (nI i)), (3, .int c3), (2, .int fd), (0, .ref m), (1, .int x)]) (st' := [.ref m, .int (nI j)]) 2 rfl ?_
    refine WW.get rfl fX3_9 hM.1 (show _ = some (.ref (A 0)) from rfl) ?_
    refine WW.run (pc' := 49) (lv' := [(6, .int (nI j)), (5, .int rk), (4, .int (nI i)), (3, .int c3), (2, .int fd), (0, .ref m), (1, .int x)]) (st' := [.int (nI 1), .ref (A 0), .int (nI j)]) 1 rfl ?_
    refine WW.mald 0 1 rfl hM (by decide) rfl rfl (by decide) (by decide) (show (F 0) 1 = nI S.nl from hS.1.2.1) ?_
    refine WW.icmp_ge (tgt := 151) rfl rfl (fun hno => absurd hno (nI_ge hj (by omega))) (fun _ => ?_)
    refine WW.run (pc' := 57) (lv' := [(6, .int (nI j)), (5, .int rk), (4, .int (nI i)), (3, .int c3), (2, .int fd), (0, .ref m), (1, .int x)]) (st' := [.int (nI 2), .int (nI i), .ref m]) 3 rfl ?_
    refine WW.callV [.int (nI i), .int (nI 2)] m [] rfl mX3_58 hni (wdRecv.obj hM.1 rfl) rfl rfl (wd_le rfl) (wd_le rfl) (wd_le rfl) (wd_le rfl) (fun o w' hq => ?_)
    obtain ⟨rfl, hw9⟩ := hq
    show WW _ _ _ 60 _ [.int (nI ei)] _
    rw [hw9]
    clear hw9 w'
    refine WW.run (pc' := 64) (lv' := [(6, .int (nI j)), (5, .int rk), (4, .int (nI i)), (3, .int c3), (2, .int fd), (0, .ref m), (1, .int x)]) (st' := [.int (nI 2), .int (nI j), .ref m, .int (nI ei)]) 3 rfl ?_
    refine WW.callV [.int (nI j), .int (nI 2)] m [.int (nI ei)] rfl mX3_58 hnj (wdRecv.obj hM.1 rfl) rfl rfl (wd_le rfl) (wd_le rfl) (wd_le rfl) (wd_le rfl) (fun o w' hq => ?_)
    obtain ⟨rfl, hw9⟩ := hq
    show WW _ _ _ 67 _ [.int (nI ej), .int (nI ei)] _
    rw [hw9]
    clear hw9 w'
    refine WW.run (pc' := 74) (lv' := [(7, .int ((nI ei) - (nI ej))), (6, .int (nI j)), (5, .int rk), (4, .int (nI i)), (3, .int c3), (2, .int fd), (0, .ref m), (1, .int x)]) (st' := [.int (nI 0), .int (nI j), .ref m]) 5 rfl ?_
    refine WW.callV [.int (nI j), .int (nI 0)] m [] rfl mX3_58 hlj (wdRecv.obj hM.1 rfl) rfl rfl (wd_le rfl) (wd_le rfl) (wd_le rfl) (wd_le rfl) (fun o w' hq => ?_)
    obtain ⟨rfl, hw9⟩ := hq
    show WW _ _ _ 77 _ [.int (nI lj)] _
    rw [hw9]
    clear hw9 w'
    refine WW.run (pc' := 81) (lv' := [(7, .int ((nI ei) - (nI ej))), (6, .int (nI j)), (5, .int rk), (4, .int (nI i)), (3, .int c3), (2, .int fd), (0, .ref m), (1, .int x)]) (st' := [.int (nI 0), .int (nI i), .ref m, .int (nI lj)]) 3 rfl ?_
    refine WW.callV [.int (nI i), .int (nI 0)] m [.int (nI lj)] rfl mX3_58 hli (wdRecv.obj hM.1 rfl) rfl rfl (wd_le rfl) (wd_le rfl) (wd_le rfl) (wd_le rfl) (fun o w' hq => ?_)
    obtain ⟨rfl, hw9⟩ := hq
    show WW _ _ _ 84 _ [.int (nI li), .int (nI lj)] _
    rw [hw9]
    clear hw9 w'
    refine WW.run (pc' := 87) (lv' := [(8, .int ((nI lj) - (nI li))), (7, .int ((nI ei) - (nI ej))), (6, .int (nI j)), (5, .int rk), (4, .int (nI i)), (3, .int c3), (2, .int fd), (0, .ref m), (1, .int x)]) (st' := []) 2 rfl ?_
    refine WW.join (pc' := 119) (lv' := [(8, .int (nI lj - nI li)), (7, .int (nI ei - nI ej)), (6, .int (nI j)), (5, .int rk), (4, .int (nI i)), (3, .int c3), (2, .int fd), (0, .ref m), (1, .int x)]) (st' := [.int (bI (S.mB i j))]) ?_ (fun H => ?_)
    rotate_left
    · skip
      rw [mB_val h1 h2 h3 h4 e1 e2 e3 e4] at H
      unfold triB at H
      refine WW.run (pc' := 89) (lv' := [(8, .int (nI lj - nI li)), (7, .int (nI ei - nI ej)), (6, .int (nI j)), (5, .int rk), (4, .int (nI i)), (3, .int c3), (2, .int fd), (0, .ref m), (1, .int x)]) (st' := [.int (nI ei - nI ej)]) 1 rfl ?_
      by_cases g1 : ej < ei
      · skip
        refine WW.if_gt (tgt := 114) rfl rfl (fun _ => ?_) (fun hno => absurd ((sub_gt h1 h3).mpr g1) hno)
        rw [decide_eq_true g1] at H
        refine WW.run (pc' := 119) (lv' := [(8, .int (nI lj - nI li)), (7, .int (nI ei - nI ej)), (6, .int (nI j)), (5, .int rk), (4, .int (nI i)), (3, .int c3), (2, .int fd), (0, .ref m), (1, .int x)]) (st' := [.int (nI 1)]) 2 rfl ?_
        exact H
      · skip
        refine WW.if_gt (tgt := 114) rfl rfl (fun hno => absurd hno (fun q => g1 ((sub_gt h1 h3).mp q))) (fun _ => ?_)
        rw [decide_eq_false g1] at H
        refine WW.run (pc' := 94) (lv' := [(8, .int (nI lj - nI li)), (7, .int (nI ei - nI ej)), (6, .int (nI j)), (5, .int rk), (4, .int (nI i)), (3, .int c3), (2, .int fd), (0, .ref m), (1, .int x)]) (st' := [.int (nI ei - nI ej)]) 1 rfl ?_
        by_cases g2 : ei = ej
        · skip
          refine WW.if_ne (tgt := 118) rfl rfl (fun hno => absurd ((sub_eq0 h1 h3).mpr g2) hno) (fun _ => ?_)
          rw [decide_eq_true g2] at H
          refine WW.run (pc' := 99) (lv' := [(8, .int (nI lj - nI li)), (7, .int (nI ei - nI ej)), (6, .int (nI j)), (5, .int rk), (4, .int (nI i)), (3, .int c3), (2, .int fd), (0, .ref m), (1, .int x)]) (st' := [.int (nI lj - nI li)]) 1 rfl ?_
          by_cases g3 : li < lj
          · skip
            refine WW.if_gt (tgt := 114) rfl rfl (fun _ => ?_) (fun hno => absurd ((sub_gt h4 h2).mpr g3) hno)
            rw [decide_eq_true g3] at H
            refine WW.run (pc' := 119) (lv' := [(8, .int (nI lj - nI li)), (7, .int (nI ei - nI ej)), (6, .int (nI j)), (5, .int rk), (4, .int (nI i)), (3, .int c3), (2, .int fd), (0, .ref m), (1, .int x)]) (st' := [.int (nI 1)]) 2 rfl ?_
            exact H
          · skip
            refine WW.if_gt (tgt := 114) rfl rfl (fun hno => absurd hno (fun q => g3 ((sub_gt h4 h2).mp q))) (fun _ => ?_)
            rw [decide_eq_false g3] at H
            refine WW.run (pc' := 104) (lv' := [(8, .int (nI lj - nI li)), (7, .int (nI ei - nI ej)), (6, .int (nI j)), (5, .int rk), (4, .int (nI i)), (3, .int c3), (2, .int fd), (0, .ref m), (1, .int x)]) (st' := [.int (nI lj - nI li)]) 1 rfl ?_
            by_cases g4 : lj = li
            · skip
              refine WW.if_ne (tgt := 118) rfl rfl (fun hno => absurd ((sub_eq0 h4 h2).mpr g4) hno) (fun _ => ?_)
              rw [decide_eq_true g4] at H
              refine WW.run (pc' := 111) (lv' := [(8, .int (nI lj - nI li)), (7, .int (nI ei - nI ej)), (6, .int (nI j)), (5, .int rk), (4, .int (nI i)), (3, .int c3), (2, .int fd), (0, .ref m), (1, .int x)]) (st' := [.int (nI i), .int (nI j)]) 2 rfl ?_
              cases g5 : Nat.blt j i with
              | true =>
                rw [g5] at H
                refine WW.icmp_ge (tgt := 118) rfl rfl (fun hno => absurd hno (nI_ge (Nat.le_of_ble_eq_true g5) (by omega))) (fun _ => ?_)
                refine WW.run (pc' := 119) (lv' := [(8, .int (nI lj - nI li)), (7, .int (nI ei - nI ej)), (6, .int (nI j)), (5, .int rk), (4, .int (nI i)), (3, .int c3), (2, .int fd), (0, .ref m), (1, .int x)]) (st' := [.int (nI 1)]) 2 rfl ?_
                exact H
              | false =>
                rw [g5] at H
                refine WW.icmp_ge (tgt := 118) rfl rfl (fun _ => ?_) (fun hno => absurd (nI_le (Nat.le_of_not_lt (fun q => by rw [show Nat.blt j i = true from Nat.ble_eq_true_of_le q] at g5; cases g5)) (by omega)) hno)
                refine WW.run (pc' := 119) (lv' := [(8, .int (nI lj - nI li)), (7, .int (nI ei - nI ej)), (6, .int (nI j)), (5, .int rk), (4, .int (nI i)), (3, .int c3), (2, .int fd), (0, .ref m), (1, .int x)]) (st' := [.int (nI 0)]) 1 rfl ?_
                exact H
            · skip
              refine WW.if_ne (tgt := 118) rfl rfl (fun _ => ?_) (fun hno => absurd hno (fun q => g4 ((sub_eq0 h4 h2).mp q)))
              rw [decide_eq_false g4] at H
              refine WW.run (pc' := 119) (lv' := [(8, .int (nI lj - nI li)), (7, .int (nI ei - nI ej)), (6, .int (nI j)), (5, .int rk), (4, .int (nI i)), (3, .int c3), (2, .int fd), (0, .ref m), (1, .int x)]) (st' := [.int (nI 0)]) 1 rfl ?_
              exact H
        · skip
          refine WW.if_ne (tgt := 118) rfl rfl (fun _ => ?_) (fun hno => absurd hno (fun q => g2 ((sub_eq0 h1 h3).mp q)))
          rw [decide_eq_false g2] at H
          refine WW.run (pc' := 119) (lv' := [(8, .int (nI lj - nI li)), (7, .int (nI ei - nI ej)), (6, .int (nI j)), (5, .int rk), (4, .int (nI i)), (3, .int c3), (2, .int fd), (0, .ref m), (1, .int x)]) (st' := [.int (nI 0)]) 1 rfl ?_
          exact H
    generalize S.mB i j = bb at ih
    refine WW.run (pc' := 126) (lv' := [(9, .int (bI bb)), (8, .int (nI lj - nI li)), (7, .int (nI ei - nI ej)), (6, .int (nI j)), (5, .int rk), (4, .int (nI i)), (3, .int c3), (2, .int fd), (0, .ref m), (1, .int x)]) (st' := [.int (nI j), .ref m, .int rk]) 4 rfl ?_
    refine WW.callV [.int (nI j)] m [.int rk] rfl mX3_96 (sM_isOut hM hS hW hj) (wdRecv.obj hM.1 rfl) rfl rfl (wd_le rfl) (wd_le rfl) (wd_le rfl) (wd_le rfl) (fun o w' hq => ?_)
    obtain ⟨rfl, hw9⟩ := hq
    show WW _ _ _ 129 _ [.int (bI (Nat.blt 0 (S.la j).le)), .int rk] _
    rw [hw9]
    clear hw9 w'
    generalize Nat.blt 0 (S.la j).le = ob at ih
    refine WW.join (pc' := 142) (lv' := [(9, .int (bI bb)), (8, .int (nI lj - nI li)), (7, .int (nI ei - nI ej)), (6, .int (nI j)), (5, .int rk), (4, .int (nI i)), (3, .int c3), (2, .int fd), (0, .ref m), (1, .int x)]) (st' := [.int (bI (ob && bb)), .int rk]) ?_ (fun H => ?_)
    rotate_left
    · skip
      cases ob with
      | false =>
        refine WW.if_eq (tgt := 141) rfl rfl (fun _ => ?_) (fun hno => absurd rfl hno)
        refine WW.run (pc' := 142) (lv' := [(9, .int (bI bb)), (8, .int (nI lj - nI li)), (7, .int (nI ei - nI ej)), (6, .int (nI j)), (5, .int rk), (4, .int (nI i)), (3, .int c3), (2, .int fd), (0, .ref m), (1, .int x)]) (st' := [.int (nI 0), .int rk]) 1 rfl ?_
        exact H
      | true =>
        refine WW.if_eq (tgt := 141) rfl rfl (fun hno => absurd hno (by decide)) (fun _ => ?_)
        refine WW.run (pc' := 134) (lv' := [(9, .int (bI bb)), (8, .int (nI lj - nI li)), (7, .int (nI ei - nI ej)), (6, .int (nI j)), (5, .int rk), (4, .int (nI i)), (3, .int c3), (2, .int fd), (0, .ref m), (1, .int x)]) (st' := [.int (bI bb), .int rk]) 1 rfl ?_
        cases bb with
        | false =>
          refine WW.if_eq (tgt := 141) rfl rfl (fun _ => ?_) (fun hno => absurd rfl hno)
          refine WW.run (pc' := 142) (lv' := [(9, .int (bI false)), (8, .int (nI lj - nI li)), (7, .int (nI ei - nI ej)), (6, .int (nI j)), (5, .int rk), (4, .int (nI i)), (3, .int c3), (2, .int fd), (0, .ref m), (1, .int x)]) (st' := [.int (nI 0), .int rk]) 1 rfl ?_
          exact H
        | true =>
          refine WW.if_eq (tgt := 141) rfl rfl (fun hno => absurd hno (by decide)) (fun _ => ?_)
          refine WW.run (pc' := 142) (lv' := [(9, .int (bI true)), (8, .int (nI lj - nI li)), (7, .int (nI ei - nI ej)), (6, .int (nI j)), (5, .int rk), (4, .int (nI i)), (3, .int c3), (2, .int fd), (0, .ref m), (1, .int x)]) (st' := [.int (nI 1), .int rk]) 2 rfl ?_
          exact H
    refine WW.run (pc' := 42) (lv' := [(6, .int ((nI j) + nI 1)), (5, .int (rk + (bI (ob && bb)))), (9, .int (bI bb)), (8, .int (nI lj - nI li)), (7, .int (nI ei - nI ej)), (4, .int (nI i)), (3, .int c3), (2, .int fd), (0, .ref m), (1, .int x)]) (st' := []) 4 rfl ?_
    refine WW.pick (lv' := [(6, .int ((nI j) + nI 1)), (5, .int (rk + (bI (ob && bb)))), (4, .int (nI i)), (3, .int c3), (2, .int fd), (0, .ref m), (1, .int x)]) [0, 1, 5, 6, 7, 8, 9] rfl ?_
    rw [nI_add]
    exact ih
  · skip
    refine WW.run (pc' := 45) (lv' := [(6, .int (nI S.nl)), (5, .int (S.mRank i S.nl)), (4, .int (nI i)), (3, .int c3), (2, .int fd), (0, .ref m), (1, .int x)]) (st' := [.ref m, .int (nI S.nl)]) 2 rfl ?_
    refine WW.get rfl fX3_9 hM.1 (show _ = some (.ref (A 0)) from rfl) ?_
    refine WW.run (pc' := 49) (lv' := [(6, .int (nI S.nl)), (5, .int (S.mRank i S.nl)), (4, .int (nI i)), (3, .int c3), (2, .int fd), (0, .ref m), (1, .int x)]) (st' := [.int (nI 1), .ref (A 0), .int (nI S.nl)]) 1 rfl ?_
    refine WW.mald 0 1 rfl hM (by decide) rfl rfl (by decide) (by decide) (show (F 0) 1 = nI S.nl from hS.1.2.1) ?_
    refine WW.icmp_ge (tgt := 151) rfl rfl (fun _ => ?_) (fun hno => absurd (nI_le (Nat.le_refl _) (by omega)) hno)
    refine WW.pick (lv' := [(5, .int (S.mRank i S.nl)), (4, .int (nI i)), (3, .int c3), (2, .int fd), (0, .ref m), (1, .int x)]) [1, 2, 3, 4, 5, 6] rfl ?_
    exact k
def aS.lastP (S : aS) (x : Int32) (i : Nat) : Bool := Nat.blt 0 (S.la i).le && decide (S.mRank i S.nl = x)
def aS.lastL (S : aS) (x : Int32) : Int32 := aLast (S.lastP x) S.nl
theorem mQ_lampByEnd (h : isMm w m A t J cur hn hist sv n ic on oc) (hW : aWf cur) (hB : aLaB cur) (x : Int32) : Sp l G MX3_lampByEnd 6 0 0 [.ref m, .int x] w (mA m A J cur hn hist sv n ic on oc (.int (nI 0)) (bif inR x (nI 0) (cur.leased - nI 1) then .inr (.int (cur.lastL x)) else .inl 1) w) := by
  obtain ⟨I, F, hM, ht, hR⟩ := h
  have hS := hR.1
  have hnl := hW.2.1
  refine Sp.of rfl (by decide +kernel) kX3_lampByEnd (wd_le rfl) ?_
  refine WW.run (pc' := 6) (lv' := [(2, .int (nI 0)), (0, .ref m), (1, .int x)]) (st' := [.ref m, .int (nI 0), .int x, .ref m]) 6 rfl ?_
  refine WW.callV [] m [.int (nI 0), .int x, .ref m] rfl mX3_151 (sM_leased hM hS hW) (wdRecv.obj hM.1 rfl) rfl rfl (wd_le rfl) (wd_le rfl) (wd_le rfl) (wd_le rfl) (fun o w' hq => ?_)
  obtain ⟨rfl, hw9⟩ := hq
  show WW _ _ _ 9 _ [.int cur.leased, .int (nI 0), .int x, .ref m] _
  rw [hw9]
  clear hw9 w'
  refine WW.run (pc' := 11) (lv' := [(2, .int (nI 0)), (0, .ref m), (1, .int x)]) (st' := [.int (cur.leased - (nI 1)), .int (nI 0), .int x, .ref m]) 2 rfl ?_
  refine WW.callS [.int x, .int (nI 0), .int (cur.leased - (nI 1))] [.ref m] rfl mX3_54 (sM_in x (nI 0) (cur.leased - nI 1)) rfl rfl (wd_le rfl) (wd_le rfl) (wd_le rfl) (wd_le rfl) (fun o w' hq => ?_)
  obtain ⟨rfl, hw9⟩ := hq
  show WW _ _ _ 14 _ [.int (bI (inR x (nI 0) (cur.leased - nI 1))), .ref m] _
  rw [hw9]
  clear hw9 w'
  generalize inR x (nI 0) (cur.leased - nI 1) = b
  cases b with
  | false =>
    refine WW.callV [.int (bI (false))] m [] rfl mX3_144 (sM_isThere hM false) (wdRecv.obj hM.1 rfl) rfl rfl (wd_le rfl) (wd_le rfl) (wd_le rfl) (wd_le rfl) (fun o w' hq => ?_)
    obtain ⟨_, I3, F3, rfl, ⟨rfl, hI3, hF3⟩, hM3, fr3⟩ := hq
    rw [hI3, hF3] at hM3
    clear hI3 hF3 I3 F3
    show WW _ _ _ 17 _ [.int (bI false)] _
    refine WW.run (pc' := 24) (lv' := [(4, .int (nI 0)), (3, .int (bI false)), (2, .int (nI 0)), (0, .ref m), (1, .int x)]) (st' := [.ref m, .int (nI 0)]) 5 rfl ?_
    refine WW.get rfl fX3_9 hM3.1 (show _ = some (.ref (A 0)) from rfl) ?_
    refine WW.run (pc' := 28) (lv' := [(4, .int (nI 0)), (3, .int (bI false)), (2, .int (nI 0)), (0, .ref m), (1, .int x)]) (st' := [.int (nI 1), .ref (A 0), .int (nI 0)]) 1 rfl ?_
    refine WW.mald 0 1 rfl hM3 (by decide) rfl rfl (by decide) (by decide) (show (F 0) 1 = nI cur.nl from hS.1.2.1) ?_
    by_cases e : cur.nl = 0
    · skip
      refine WW.icmp_ge (tgt := 179) rfl rfl (fun _ => ?_) (fun hno => absurd (by rw [e]; exact nI_le0) hno)
      refine WW.run (pc' := 180) (lv' := [(4, .int (nI 0)), (3, .int (bI false)), (2, .int (nI 0)), (0, .ref m), (1, .int x)]) (st' := [.int (nI 0)]) 1 rfl ?_
      exact WW.iret rfl rfl rfl ⟨rfl, ⟨_, _, hM3, rfl, hR.i2 _⟩, fr3⟩
    · skip
      refine WW.icmp_ge (tgt := 179) rfl rfl (fun hno => absurd hno (nI_ge (Nat.pos_of_ne_zero e) (by omega))) (fun _ => ?_)
      refine WW.run (pc' := 33) (lv' := [(4, .int (nI 0)), (3, .int (bI false)), (2, .int (nI 0)), (0, .ref m), (1, .int x)]) (st' := [.int (bI false)]) 1 rfl ?_
      refine WW.if_eq (tgt := 179) rfl rfl (fun _ => ?_) (fun hno => absurd rfl hno)
      refine WW.run (pc' := 180) (lv' := [(4, .int (nI 0)), (3, .int (bI false)), (2, .int (nI 0)), (0, .ref m), (1, .int x)]) (st' := [.int (nI 0)]) 1 rfl ?_
      exact WW.iret rfl rfl rfl ⟨rfl, ⟨_, _, hM3, rfl, hR.i2 _⟩, fr3⟩
  | true =>
    refine WW.callV [.int (bI (true))] m [] rfl mX3_144 (sM_isThere hM true) (wdRecv.obj hM.1 rfl) rfl rfl (wd_le rfl) (wd_le rfl) (wd_le rfl) (wd_le rfl) (fun o w' hq => ?_)
    obtain ⟨_, I4, F4, rfl, ⟨rfl, hI4, hF4⟩, hM4, fr4⟩ := hq
    rw [hI4, hF4] at hM4
    clear hI4 hF4 I4 F4
    show WW _ _ _ 17 _ [.int (bI true)] _
    refine WW.run (pc' := 21) (lv' := [(4, .int (nI 0)), (3, .int (bI true)), (2, .int (nI 0)), (0, .ref m), (1, .int x)]) (st' := []) 3 rfl ?_
    refine WW.up cur.nl (fun i => [(4, .int (nI i)), (3, .int (bI true)), (2, .int (aLast (cur.lastP x) i)), (0, .ref m), (1, .int x)]) (fun i hi ih => ?_) ?_
    · skip
      replace ih : WW (l, G, MX3_lampByEnd, 6, 0, 0, mA m A J cur hn hist sv n ic on oc (.int (nI 0)) (.inr (.int (cur.lastL x))) w) 0 0 21 [(4, .int (nI (i + 1))), (3, .int (bI true)), (2, .int (bif (Nat.blt 0 (cur.la i).le && decide (cur.mRank i cur.nl = x)) then nI i else aLast (cur.lastP x) i)), (0, .ref m), (1, .int x)] [] w' := ih
      generalize aLast (cur.lastP x) i = fd at ih
      refine WW.run (pc' := 24) (lv' := [(4, .int (nI i)), (3, .int (bI true)), (2, .int fd), (0, .ref m), (1, .int x)]) (st' := [.ref m, .int (nI i)]) 2 rfl ?_
      refine WW.get rfl fX3_9 hM4.1 (show _ = some (.ref (A 0)) from rfl) ?_
      refine WW.run (pc' := 28) (lv' := [(4, .int (nI i)), (3, .int (bI true)), (2, .int fd), (0, .ref m), (1, .int x)]) (st' := [.int (nI 1), .ref (A 0), .int (nI i)]) 1 rfl ?_
      refine WW.mald 0 1 rfl hM4 (by decide) rfl rfl (by decide) (by decide) (show (F 0) 1 = nI cur.nl from hS.1.2.1) ?_
      refine WW.icmp_ge (tgt := 179) rfl rfl (fun hno => absurd hno (nI_ge hi (by omega))) (fun _ => ?_)
      refine WW.run (pc' := 33) (lv' := [(4, .int (nI i)), (3, .int (bI true)), (2, .int fd), (0, .ref m), (1, .int x)]) (st' := [.int (bI true)]) 1 rfl ?_
      refine WW.if_eq (tgt := 179) rfl rfl (fun hno => absurd hno (by decide)) (fun _ => ?_)
      refine WW.run (pc' := 42) (lv' := [(6, .int (nI 0)), (5, .int (nI 0)), (4, .int (nI i)), (3, .int (bI true)), (2, .int fd), (0, .ref m), (1, .int x)]) (st' := []) 4 rfl ?_
      refine sM_mRank hM4 hS hW hB hi x fd (bI true) ?_
      generalize cur.mRank i cur.nl = rk at ih
      refine WW.run (pc' := 154) (lv' := [(5, .int rk), (4, .int (nI i)), (3, .int (bI true)), (2, .int fd), (0, .ref m), (1, .int x)]) (st' := [.int (nI i), .ref m]) 2 rfl ?_
      refine WW.callV [.int (nI i)] m [] rfl mX3_96 (sM_isOut hM4 hS hW hi) (wdRecv.obj hM4.1 rfl) rfl rfl (wd_le rfl) (wd_le rfl) (wd_le rfl) (wd_le rfl) (fun o w' hq => ?_)
      obtain ⟨rfl, hw9⟩ := hq
      show WW _ _ _ 157 _ [.int (bI (Nat.blt 0 (cur.la i).le))] _
      rw [hw9]
      clear hw9 w'
      generalize Nat.blt 0 (cur.la i).le = ob at ih
      refine WW.join (pc' := 172) (lv' := [(5, .int rk), (4, .int (nI i)), (3, .int (bI true)), (2, .int fd), (0, .ref m), (1, .int x)]) (st' := [.int (bif (ob && decide (rk = x)) then nI i else fd)]) ?_ (fun H => ?_)
      rotate_left
      · skip
        cases ob with
        | false =>
          refine WW.if_eq (tgt := 171) rfl rfl (fun _ => ?_) (fun hno => absurd rfl hno)
          refine WW.run (pc' := 172) (lv' := [(5, .int rk), (4, .int (nI i)), (3, .int (bI true)), (2, .int fd), (0, .ref m), (1, .int x)]) (st' := [.int fd]) 1 rfl ?_
          exact H
        | true =>
          refine WW.if_eq (tgt := 171) rfl rfl (fun hno => absurd hno (by decide)) (fun _ => ?_)
          refine WW.run (pc' := 163) (lv' := [(5, .int rk), (4, .int (nI i)), (3, .int (bI true)), (2, .int fd), (0, .ref m), (1, .int x)]) (st' := [.int x, .int rk]) 2 rfl ?_
          by_cases g : rk = x
          · skip
            rw [decide_eq_true g] at H
            refine WW.icmp_ne (tgt := 171) rfl rfl (fun hno => absurd g hno) (fun _ => ?_)
            refine WW.run (pc' := 172) (lv' := [(5, .int rk), (4, .int (nI i)), (3, .int (bI true)), (2, .int fd), (0, .ref m), (1, .int x)]) (st' := [.int (nI i)]) 2 rfl ?_
            exact H
          · skip
            rw [decide_eq_false g] at H
            refine WW.icmp_ne (tgt := 171) rfl rfl (fun _ => ?_) (fun hno => absurd hno g)
            refine WW.run (pc' := 172) (lv' := [(5, .int rk), (4, .int (nI i)), (3, .int (bI true)), (2, .int fd), (0, .ref m), (1, .int x)]) (st' := [.int fd]) 1 rfl ?_
            exact H
      refine WW.run (pc' := 21) (lv' := [(4, .int ((nI i) + nI 1)), (2, .int (bif (ob && decide (rk = x)) then nI i else fd)), (5, .int rk), (3, .int (bI true)), (0, .ref m), (1, .int x)]) (st' := []) 3 rfl ?_
      refine WW.pick (lv' := [(4, .int ((nI i) + nI 1)), (3, .int (bI true)), (2, .int (bif (ob && decide (rk = x)) then nI i else fd)), (0, .ref m), (1, .int x)]) [0, 3, 1, 4, 5] rfl ?_
      rw [nI_add]
      exact ih
    · skip
      refine WW.run (pc' := 24) (lv' := [(4, .int (nI cur.nl)), (3, .int (bI true)), (2, .int (cur.lastL x)), (0, .ref m), (1, .int x)]) (st' := [.ref m, .int (nI cur.nl)]) 2 rfl ?_
      refine WW.get rfl fX3_9 hM4.1 (show _ = some (.ref (A 0)) from rfl) ?_
      refine WW.run (pc' := 28) (lv' := [(4, .int (nI cur.nl)), (3, .int (bI true)), (2, .int (cur.lastL x)), (0, .ref m), (1, .int x)]) (st' := [.int (nI 1), .ref (A 0), .int (nI cur.nl)]) 1 rfl ?_
      refine WW.mald 0 1 rfl hM4 (by decide) rfl rfl (by decide) (by decide) (show (F 0) 1 = nI cur.nl from hS.1.2.1) ?_
      refine WW.icmp_ge (tgt := 179) rfl rfl (fun _ => ?_) (fun hno => absurd (nI_le (Nat.le_refl _) (by omega)) hno)
      refine WW.run (pc' := 180) (lv' := [(4, .int (nI cur.nl)), (3, .int (bI true)), (2, .int (cur.lastL x)), (0, .ref m), (1, .int x)]) (st' := [.int (cur.lastL x)]) 1 rfl ?_
      exact WW.iret rfl rfl rfl ⟨rfl, ⟨_, _, hM4, rfl, hR.i2 _⟩, fr4⟩
end
