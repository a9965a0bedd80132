set_option maxRecDepth 100000
/-! SHARES by rank -/
def aS.qQ (S : aS) (k : Nat) : Int32 := S.oil * S.demand k / S.needs
def aS.qR (S : aS) (k : Nat) : Int32 := S.oil * S.demand k - S.oil * S.demand k / S.needs * S.needs
def aS.rkB (S : aS) (j k : Nat) : Bool := decide (S.qR j < S.qR k) || (decide (S.qR k = S.qR j) && Nat.blt k j)
def aS.lf (S : aS) : Nat → Int32
  | 0 => S.oil
  | n + 1 => S.lf n - S.qQ n
def aS.rk (S : aS) (j n : Nat) : Int32 := aSum (fun k => bI (S.rkB j k)) n
def aS.byRank (S : aS) (j : Nat) : Int32 := bif decide (S.needs = 0) then nI 0 else S.qQ j + bI (decide (S.rk j S.ns < S.lf S.ns))
section
variable {l : Launch} {G : wdG} {w : wdW} {lo a : Nat} {Z gs gl gr : Nat → Nat} {S : aS}
theorem cS_byRank (hS : isS G w lo a Z gs gl gr S) (hW : aWf S) {j : Nat} (hj : j < S.ns) : Sp l G MX2_shareByRank 5 30 120 [.ref a, .int (nI j)] w (fun o w' => o = .inl (some (.int (S.byRank j))) ∧ wFr nP w w') := by
  have hns := hW.1
  unfold aS.byRank
  refine Sp.of rfl (by decide +kernel) kX2_shareByRank (wd_le rfl) ?_
  refine WW.ok fun ok => ?_
  replace ok : wdOk G w := ok
  have h1 := hS.1.1
  refine WW.run (pc' := 1) (lv' := [(0, .ref a), (1, .int (nI j))]) (st' := [.ref a]) 1 rfl ?_
  refine WW.callV [] a [] rfl mX2_210 (cS_needs hS hW) (wdRecv.obj h1 rfl) rfl rfl (wd_le rfl) (wd_le rfl) (wd_le rfl) (wd_le rfl) (fun o w1 hq => ?_)
  obtain ⟨rfl, fr1⟩ := hq
  show WW _ _ _ 4 _ [.int S.needs] _
  have okw := ok
  refine WW.ok fun ok => ?_
  replace ok : wdOk G w1 := ok
  have hS1 := hS.fr okw fr1
  have hb1 := hS1.1.1
  refine WW.run (pc' := 6) (lv' := [(2, .int S.needs), (0, .ref a), (1, .int (nI j))]) (st' := [.int S.needs]) 2 rfl ?_
  refine WW.if_ne (tgt := 11) rfl rfl (fun e0 => ?_) (fun e0 => ?_)
  · skip
    rw [decide_eq_false e0]
    refine WW.run (pc' := 12) (lv' := [(2, .int S.needs), (0, .ref a), (1, .int (nI j))]) (st' := [.ref a]) 1 rfl ?_
    refine WW.callV [] a [] rfl mX2_206 (cS_demands hS1 hW) (wdRecv.obj hb1 rfl) rfl rfl (wd_le rfl) (wd_le rfl) (wd_le rfl) (wd_le rfl) (fun o w2 hq => ?_)
    obtain ⟨q, f, hq0, rfl, hA, hf, fr2⟩ := hq
    show WW _ _ _ 15 _ [.ref q] _
    have okw1 := ok
    refine WW.ok fun ok => ?_
    replace ok : wdOk G w2 := ok
    have fr := fr1.thn0 fr2
    have hS2 := hS1.fr okw1 fr2
    have hb2 := hS2.1.1
    refine WW.run (pc' := 17) (lv' := [(3, .ref q), (2, .int S.needs), (0, .ref a), (1, .int (nI j))]) (st' := [.ref a]) 2 rfl ?_
    refine WW.get rfl fX2_56 hb2 (show _ = some (.int S.oil) from rfl) ?_
    refine WW.run (pc' := 22) (lv' := [(3, .ref q), (2, .int S.needs), (0, .ref a), (1, .int (nI j))]) (st' := [.int (nI j), .ref q, .int S.oil]) 2 rfl ?_
    refine WW.ialdN j rfl hA rfl (by omega) (by omega) (hf j hj) ?_
    refine WW.run (pc' := 25) (lv' := [(3, .ref q), (2, .int S.needs), (0, .ref a), (1, .int (nI j))]) (st' := [.int S.needs, .int (S.oil * (S.demand j))]) 2 rfl ?_
    refine WW.irem rfl e0 rfl ?_
    refine WW.run (pc' := 32) (lv' := [(5, .int (nI 0)), (4, .int (S.qR j)), (3, .ref q), (2, .int S.needs), (0, .ref a), (1, .int (nI j))]) (st' := [.ref a]) 4 rfl ?_
    refine WW.get rfl fX2_56 hb2 (show _ = some (.int S.oil) from rfl) ?_
    refine WW.run (pc' := 40) (lv' := [(7, .int (nI 0)), (6, .int S.oil), (5, .int (nI 0)), (4, .int (S.qR j)), (3, .ref q), (2, .int S.needs), (0, .ref a), (1, .int (nI j))]) (st' := []) 3 rfl ?_
    refine WW.up S.ns (fun i => [(7, .int (nI i)), (6, .int (S.lf i)), (5, .int (S.rk j i)), (4, .int (S.qR j)), (3, .ref q), (2, .int S.needs), (0, .ref a), (1, .int (nI j))]) (fun i hi ih => ?_) ?_
    · skip
      refine WW.run (pc' := 43) (lv' := [(7, .int (nI i)), (6, .int (S.lf i)), (5, .int (S.rk j i)), (4, .int (S.qR j)), (3, .ref q), (2, .int S.needs), (0, .ref a), (1, .int (nI j))]) (st' := [.ref q, .int (nI i)]) 2 rfl ?_
      refine WW.alen (v := nI S.ns) 32 0 rfl rfl hA rfl ?_
      refine WW.icmp_ge (tgt := 112) rfl rfl (fun hno => absurd hno (nI_ge hi (by omega))) (fun _ => ?_)
      refine WW.run (pc' := 48) (lv' := [(7, .int (nI i)), (6, .int (S.lf i)), (5, .int (S.rk j i)), (4, .int (S.qR j)), (3, .ref q), (2, .int S.needs), (0, .ref a), (1, .int (nI j))]) (st' := [.ref a]) 1 rfl ?_
      refine WW.get rfl fX2_56 hb2 (show _ = some (.int S.oil) from rfl) ?_
      refine WW.run (pc' := 54) (lv' := [(7, .int (nI i)), (6, .int (S.lf i)), (5, .int (S.rk j i)), (4, .int (S.qR j)), (3, .ref q), (2, .int S.needs), (0, .ref a), (1, .int (nI j))]) (st' := [.int (nI i), .ref q, .int S.oil]) 2 rfl ?_
      refine WW.ialdN i rfl hA rfl (by omega) (by omega) (hf i hi) ?_
      refine WW.run (pc' := 57) (lv' := [(7, .int (nI i)), (6, .int (S.lf i)), (5, .int (S.rk j i)), (4, .int (S.qR j)), (3, .ref q), (2, .int S.needs), (0, .ref a), (1, .int (nI j))]) (st' := [.int S.needs, .int (S.oil * (S.demand i))]) 2 rfl ?_
      refine WW.irem rfl e0 rfl ?_
      refine WW.run (pc' := 63) (lv' := [(8, .int (S.qR i)), (7, .int (nI i)), (6, .int (S.lf i)), (5, .int (S.rk j i)), (4, .int (S.qR j)), (3, .ref q), (2, .int S.needs), (0, .ref a), (1, .int (nI j))]) (st' := [.ref a, .int (S.lf i)]) 3 rfl ?_
      refine WW.get rfl fX2_56 hb2 (show _ = some (.int S.oil) from rfl) ?_
      refine WW.run (pc' := 69) (lv' := [(8, .int (S.qR i)), (7, .int (nI i)), (6, .int (S.lf i)), (5, .int (S.rk j i)), (4, .int (S.qR j)), (3, .ref q), (2, .int S.needs), (0, .ref a), (1, .int (nI j))]) (st' := [.int (nI i), .ref q, .int S.oil, .int (S.lf i)]) 2 rfl ?_
      refine WW.ialdN i rfl hA rfl (by omega) (by omega) (hf i hi) ?_
      refine WW.run (pc' := 72) (lv' := [(8, .int (S.qR i)), (7, .int (nI i)), (6, .int (S.lf i)), (5, .int (S.rk j i)), (4, .int (S.qR j)), (3, .ref q), (2, .int S.needs), (0, .ref a), (1, .int (nI j))]) (st' := [.int S.needs, .int (S.oil * (S.demand i)), .int (S.lf i)]) 2 rfl ?_
      refine WW.idiv rfl e0 ?_
      refine WW.run (pc' := 78) (lv' := [(6, .int ((S.lf i) - ((S.oil * (S.demand i)) / S.needs))), (8, .int (S.qR i)), (7, .int (nI i)), (5, .int (S.rk j i)), (4, .int (S.qR j)), (3, .ref q), (2, .int S.needs), (0, .ref a), (1, .int (nI j))]) (st' := [.int (S.rk j i)]) 3 rfl ?_
      generalize hqi : S.qR i = ri
      generalize hqj : S.qR j = rj
      refine WW.join (pc' := 103) (lv' := [(6, .int (S.lf i - S.oil * S.demand i / S.needs)), (8, .int ri), (7, .int (nI i)), (5, .int (S.rk j i)), (4, .int rj), (3, .ref q), (2, .int S.needs), (0, .ref a), (1, .int (nI j))]) (st' := [.int (bI (S.rkB j i)), .int (S.rk j i)]) ?_ (fun H => ?_)
      rotate_left
      · skip
        unfold aS.rkB at H
        rw [hqi, hqj] at H
        refine WW.run (pc' := 82) (lv' := [(6, .int ((S.lf i) - ((S.oil * (S.demand i)) / S.needs))), (8, .int ri), (7, .int (nI i)), (5, .int (S.rk j i)), (4, .int rj), (3, .ref q), (2, .int S.needs), (0, .ref a), (1, .int (nI j))]) (st' := [.int rj, .int ri, .int (S.rk j i)]) 2 rfl ?_
        by_cases g1 : rj < ri
        · skip
          rw [decide_eq_true g1] at H
          refine WW.icmp_gt (tgt := 98) rfl rfl (fun _ => ?_) (fun hno => absurd g1 hno)
          refine WW.run (pc' := 103) (lv' := [(6, .int ((S.lf i) - ((S.oil * (S.demand i)) / S.needs))), (8, .int ri), (7, .int (nI i)), (5, .int (S.rk j i)), (4, .int rj), (3, .ref q), (2, .int S.needs), (0, .ref a), (1, .int (nI j))]) (st' := [.int (nI 1), .int (S.rk j i)]) 2 rfl ?_
          exact H
        · skip
          rw [decide_eq_false g1] at H
          refine WW.icmp_gt (tgt := 98) rfl rfl (fun hno => absurd hno g1) (fun _ => ?_)
          refine WW.run (pc' := 89) (lv' := [(6, .int ((S.lf i) - ((S.oil * (S.demand i)) / S.needs))), (8, .int ri), (7, .int (nI i)), (5, .int (S.rk j i)), (4, .int rj), (3, .ref q), (2, .int S.needs), (0, .ref a), (1, .int (nI j))]) (st' := [.int rj, .int ri, .int (S.rk j i)]) 2 rfl ?_
          by_cases g2 : ri = rj
          · skip
            rw [decide_eq_true g2] at H
            refine WW.icmp_ne (tgt := 102) rfl rfl (fun hno => absurd g2 hno) (fun _ => ?_)
            refine WW.run (pc' := 95) (lv' := [(6, .int ((S.lf i) - ((S.oil * (S.demand i)) / S.needs))), (8, .int ri), (7, .int (nI i)), (5, .int (S.rk j i)), (4, .int rj), (3, .ref q), (2, .int S.needs), (0, .ref a), (1, .int (nI j))]) (st' := [.int (nI j), .int (nI i), .int (S.rk j i)]) 2 rfl ?_
            by_cases g3 : i < j
            · skip
              rw [show Nat.blt i j = true from Nat.ble_eq_true_of_le g3] at H
              refine WW.icmp_ge (tgt := 102) rfl rfl (fun hno => absurd hno (nI_ge g3 (by omega))) (fun _ => ?_)
              refine WW.run (pc' := 103) (lv' := [(6, .int ((S.lf i) - ((S.oil * (S.demand i)) / S.needs))), (8, .int ri), (7, .int (nI i)), (5, .int (S.rk j i)), (4, .int rj), (3, .ref q), (2, .int S.needs), (0, .ref a), (1, .int (nI j))]) (st' := [.int (nI 1), .int (S.rk j i)]) 2 rfl ?_
              exact H
            · skip
              rw [show Nat.blt i j = false from Bool.eq_false_iff.mpr (fun q => g3 (Nat.le_of_ble_eq_true q))] at H
              refine WW.icmp_ge (tgt := 102) rfl rfl (fun _ => ?_) (fun hno => absurd (nI_le (Nat.le_of_not_lt g3) (by omega)) hno)
              refine WW.run (pc' := 103) (lv' := [(6, .int ((S.lf i) - ((S.oil * (S.demand i)) / S.needs))), (8, .int ri), (7, .int (nI i)), (5, .int (S.rk j i)), (4, .int rj), (3, .ref q), (2, .int S.needs), (0, .ref a), (1, .int (nI j))]) (st' := [.int (nI 0), .int (S.rk j i)]) 1 rfl ?_
              exact H
          · skip
            rw [decide_eq_false g2] at H
            refine WW.icmp_ne (tgt := 102) rfl rfl (fun _ => ?_) (fun hno => absurd hno g2)
            refine WW.run (pc' := 103) (lv' := [(6, .int ((S.lf i) - ((S.oil * (S.demand i)) / S.needs))), (8, .int ri), (7, .int (nI i)), (5, .int (S.rk j i)), (4, .int rj), (3, .ref q), (2, .int S.needs), (0, .ref a), (1, .int (nI j))]) (st' := [.int (nI 0), .int (S.rk j i)]) 1 rfl ?_
            exact H
      refine WW.run (pc' := 40) (lv' := [(7, .int ((nI i) + nI 1)), (5, .int ((S.rk j i) + (bI (S.rkB j i)))), (6, .int (S.lf i - S.oil * S.demand i / S.needs)), (8, .int ri), (4, .int rj), (3, .ref q), (2, .int S.needs), (0, .ref a), (1, .int (nI j))]) (st' := []) 4 rfl ?_
      rw [((wn_add rfl rfl) : (nI i) + nI 1 = nI (i + 1))]
      refine WW.pick (lv' := [(7, .int (nI (i + 1))), (6, .int (S.lf i - S.oil * S.demand i / S.needs)), (5, .int ((S.rk j i) + (bI (S.rkB j i)))), (4, .int rj), (3, .ref q), (2, .int S.needs), (0, .ref a), (1, .int (nI j))]) [0, 2, 1, 4, 5, 6, 7, 8] rfl ?_
      rw [← hqj]
      exact ih
    · skip
      refine WW.run (pc' := 43) (lv' := [(7, .int (nI S.ns)), (6, .int (S.lf S.ns)), (5, .int (S.rk j S.ns)), (4, .int (S.qR j)), (3, .ref q), (2, .int S.needs), (0, .ref a), (1, .int (nI j))]) (st' := [.ref q, .int (nI S.ns)]) 2 rfl ?_
      refine WW.alen (v := nI S.ns) 32 0 rfl rfl hA rfl ?_
      refine WW.icmp_ge (tgt := 112) rfl rfl (fun _ => ?_) (fun hno => absurd (nI_le (Nat.le_refl _) (by omega)) hno)
      refine WW.run (pc' := 113) (lv' := [(7, .int (nI S.ns)), (6, .int (S.lf S.ns)), (5, .int (S.rk j S.ns)), (4, .int (S.qR j)), (3, .ref q), (2, .int S.needs), (0, .ref a), (1, .int (nI j))]) (st' := [.ref a]) 1 rfl ?_
      refine WW.get rfl fX2_56 hb2 (show _ = some (.int S.oil) from rfl) ?_
      refine WW.run (pc' := 118) (lv' := [(7, .int (nI S.ns)), (6, .int (S.lf S.ns)), (5, .int (S.rk j S.ns)), (4, .int (S.qR j)), (3, .ref q), (2, .int S.needs), (0, .ref a), (1, .int (nI j))]) (st' := [.int (nI j), .ref q, .int S.oil]) 2 rfl ?_
      refine WW.ialdN j rfl hA rfl (by omega) (by omega) (hf j hj) ?_
      refine WW.run (pc' := 121) (lv' := [(7, .int (nI S.ns)), (6, .int (S.lf S.ns)), (5, .int (S.rk j S.ns)), (4, .int (S.qR j)), (3, .ref q), (2, .int S.needs), (0, .ref a), (1, .int (nI j))]) (st' := [.int S.needs, .int (S.oil * (S.demand j))]) 2 rfl ?_
      refine WW.idiv rfl e0 ?_
      refine WW.run (pc' := 126) (lv' := [(7, .int (nI S.ns)), (6, .int (S.lf S.ns)), (5, .int (S.rk j S.ns)), (4, .int (S.qR j)), (3, .ref q), (2, .int S.needs), (0, .ref a), (1, .int (nI j))]) (st' := [.int (S.lf S.ns), .int (S.rk j S.ns), .int ((S.oil * (S.demand j)) / S.needs)]) 2 rfl ?_
      refine WW.join (pc' := 134) (lv' := [(7, .int (nI S.ns)), (6, .int (S.lf S.ns)), (5, .int (S.rk j S.ns)), (4, .int (S.qR j)), (3, .ref q), (2, .int S.needs), (0, .ref a), (1, .int (nI j))]) (st' := [.int (bI (decide (S.rk j S.ns < S.lf S.ns))), .int ((S.oil * (S.demand j)) / S.needs)]) ?_ ?_
      rotate_left
      · cases hb : (decide (S.rk j S.ns < S.lf S.ns)) with
        | false =>
          intro H
          refine WW.icmp_ge (tgt := 133) rfl rfl (fun _ => ?_) (fun hno => absurd (Int32.not_lt.mp (of_decide_eq_false hb)) hno)
          refine WW.run (pc' := 134) (lv' := [(7, .int (nI S.ns)), (6, .int (S.lf S.ns)), (5, .int (S.rk j S.ns)), (4, .int (S.qR j)), (3, .ref q), (2, .int S.needs), (0, .ref a), (1, .int (nI j))]) (st' := [.int (nI 0), .int ((S.oil * (S.demand j)) / S.needs)]) 1 rfl ?_
          exact H
        | true =>
          intro H
          refine WW.icmp_ge (tgt := 133) rfl rfl (fun hno => absurd hno (Int32.not_le.mpr (of_decide_eq_true hb))) (fun _ => ?_)
          refine WW.run (pc' := 134) (lv' := [(7, .int (nI S.ns)), (6, .int (S.lf S.ns)), (5, .int (S.rk j S.ns)), (4, .int (S.qR j)), (3, .ref q), (2, .int S.needs), (0, .ref a), (1, .int (nI j))]) (st' := [.int (nI 1), .int ((S.oil * (S.demand j)) / S.needs)]) 2 rfl ?_
          exact H
      refine WW.run (pc' := 135) (lv' := [(7, .int (nI S.ns)), (6, .int (S.lf S.ns)), (5, .int (S.rk j S.ns)), (4, .int (S.qR j)), (3, .ref q), (2, .int S.needs), (0, .ref a), (1, .int (nI j))]) (st' := [.int (((S.oil * (S.demand j)) / S.needs) + (bI (decide (S.rk j S.ns < S.lf S.ns))))]) 1 rfl ?_
      exact WW.iret rfl rfl rfl ⟨rfl, fr⟩
  rw [decide_eq_true e0]
  refine WW.run (pc' := 10) (lv' := [(2, .int S.needs), (0, .ref a), (1, .int (nI j))]) (st' := [.int (nI 0)]) 1 rfl ?_
  exact WW.iret rfl rfl rfl ⟨rfl, fr1⟩
end
