set_option maxRecDepth 100000
/-! THE OFFICE: ship by fines -/
def aS.fB (S : aS) (i k : Nat) : Bool := !(k == i) && aAhead (S.sh k) (S.sh i) (Nat.blt k i)
def aS.fRank (S : aS) (i : Nat) (n : Nat) : Int32 := aSum (fun k => bI (S.fB i k)) n
def aSeek (f : Nat → Int32) (x : Int32) : Nat → Nat → Option Nat
  | 0, _ => none
  | n + 1, i => bif decide (f i = x) then some i else aSeek f x n (i + 1)
section
variable {G : wdG} {l : Launch} {w : wdW} {hl : Nat} {o inp sb : Nat} {I : Nat → Int32} {S : aS} {hn : Nat} {hist : Nat → aS} {sv : Option aS} {ic : Nat → Int32} {on : Nat} {oc : Nat → Int32}
theorem cO_fRank {Q : wdO → wdW → Prop} {kc ks st lo : Nat} {Z gs gl gr : Nat → Nat} {fs : List Value} (g1 : w.1 0 o = some (.inl (.ref st :: fs))) (hS : isS G w lo st Z gs gl gr S) (hWf : aWf S) {i : Nat} (hi : i < S.ns) (x : Int32) (k : WW (l, G, MX1_shipByFines, 8, 2061, 8346, Q) kc ks 102 [(4, .int (nI S.ns)), (3, .int (S.fRank i S.ns)), (2, .int (nI i)), (0, .ref o), (1, .int x)] [] w) : WW (l, G, MX1_shipByFines, 8, 2061, 8346, Q) kc ks 21 [(4, .int (nI 0)), (3, .int (nI 0)), (2, .int (nI i)), (0, .ref o), (1, .int x)] [] w := by
  have hst := hS.1.1
  have hns := hWf.1
  have hL := hS.2.1.1
  obtain ⟨mc9, hl9⟩ := hL.1
  refine WW.up S.ns (fun j => [(4, .int (nI j)), (3, .int (S.fRank i j)), (2, .int (nI i)), (0, .ref o), (1, .int x)]) (fun j hj ih => ?_) ?_
  · skip
    have e : S.fRank i (j + 1) = S.fRank i j + bI (S.fB i j) := rfl
    rw [e] at ih
    generalize S.fRank i j = rk at ih
    refine WW.run (pc' := 24) (lv' := [(4, .int (nI j)), (3, .int rk), (2, .int (nI i)), (0, .ref o), (1, .int x)]) (st' := [.ref o, .int (nI j)]) 2 rfl ?_
    refine WW.get rfl fX1_10 g1 (show _ = some (.ref st) from rfl) ?_
    refine WW.get rfl fX1_106 hst (show _ = some (.ref (Z 0)) from rfl) ?_
    refine WW.callV [] (Z 0) [.int (nI j)] rfl mX1_59 (sL_size hL) (wdRecv.obj hl9 rfl) rfl rfl (wd_le rfl) (wd_le rfl) (by omega) (by omega) (fun o w' hq => ?_)
    obtain ⟨rfl, hw9⟩ := hq
    show WW _ _ _ 33 _ [.int (nI S.ns), .int (nI j)] _
    rw [hw9]
    clear hw9 w'
    refine WW.icmp_ge (tgt := 102) rfl rfl (fun hno => absurd hno (nI_ge hj (by omega))) (fun _ => ?_)
    refine WW.run (pc' := 40) (lv' := [(4, .int (nI j)), (3, .int rk), (2, .int (nI i)), (0, .ref o), (1, .int x)]) (st' := [.int (nI i), .int (nI j), .int rk]) 3 rfl ?_
    refine WW.join (pc' := 94) (lv' := [(4, .int (nI j)), (3, .int rk), (2, .int (nI i)), (0, .ref o), (1, .int x)]) (st' := [.int (bI (S.fB i j)), .int rk]) ?_ (fun H => ?_)
    rotate_left
    · skip
      unfold aS.fB at H
      by_cases e1 : j = i
      · skip
        rw [show (j == i) = true from beq_iff_eq.mpr e1] at H
        refine WW.icmp_eq (tgt := 93) rfl rfl (fun _ => ?_) (fun hno => absurd (congrArg nI e1) hno)
        refine WW.run (pc' := 94) (lv' := [(4, .int (nI j)), (3, .int rk), (2, .int (nI i)), (0, .ref o), (1, .int x)]) (st' := [.int (nI 0), .int rk]) 1 rfl ?_
        exact H
      · skip
        rw [show (j == i) = false from beq_eq_false_iff_ne.mpr e1] at H
        refine WW.icmp_eq (tgt := 93) rfl rfl (fun hno => absurd hno (fun z => e1 ((nI_eq (by omega) (by omega)).mp z))) (fun _ => ?_)
        refine WW.run (pc' := 44) (lv' := [(4, .int (nI j)), (3, .int rk), (2, .int (nI i)), (0, .ref o), (1, .int x)]) (st' := [.ref o, .int rk]) 1 rfl ?_
        refine WW.get rfl fX1_10 g1 (show _ = some (.ref st) from rfl) ?_
        refine WW.get rfl fX1_106 hst (show _ = some (.ref (Z 0)) from rfl) ?_
        refine WW.run (pc' := 52) (lv' := [(4, .int (nI j)), (3, .int rk), (2, .int (nI i)), (0, .ref o), (1, .int x)]) (st' := [.int (nI j), .ref (Z 0), .int rk]) 1 rfl ?_
        refine WW.callV [.int (nI j)] (Z 0) [.int rk] rfl mX1_207 (sL_get hL hj) (wdRecv.obj hl9 rfl) rfl rfl (wd_le rfl) (wd_le rfl) (by omega) (by omega) (fun o w' hq => ?_)
        obtain ⟨rfl, hw9⟩ := hq
        show WW _ _ _ 55 _ [.ref (gs j), .int rk] _
        rw [hw9]
        clear hw9 w'
        have hsj := (hS.2.2.2.1.1 j hj).1
        have hsi := (hS.2.2.2.1.1 i hi).1
        refine WW.castY rfl hsj rfl lX1_114 (Or.inl rfl) ?_
        refine WW.run (pc' := 59) (lv' := [(4, .int (nI j)), (3, .int rk), (2, .int (nI i)), (0, .ref o), (1, .int x)]) (st' := [.ref o, .ref (gs j), .int rk]) 1 rfl ?_
        refine WW.get rfl fX1_10 g1 (show _ = some (.ref st) from rfl) ?_
        refine WW.get rfl fX1_106 hst (show _ = some (.ref (Z 0)) from rfl) ?_
        refine WW.run (pc' := 66) (lv' := [(4, .int (nI j)), (3, .int rk), (2, .int (nI i)), (0, .ref o), (1, .int x)]) (st' := [.int (nI i), .ref (Z 0), .ref (gs j), .int rk]) 1 rfl ?_
        refine WW.callV [.int (nI i)] (Z 0) [.ref (gs j), .int rk] rfl mX1_207 (sL_get hL hi) (wdRecv.obj hl9 rfl) rfl rfl (wd_le rfl) (wd_le rfl) (by omega) (by omega) (fun o w' hq => ?_)
        obtain ⟨rfl, hw9⟩ := hq
        show WW _ _ _ 69 _ [.ref (gs i), .ref (gs j), .int rk] _
        rw [hw9]
        clear hw9 w'
        refine WW.castY rfl hsi rfl lX1_114 (Or.inl rfl) ?_
        refine WW.run (pc' := 75) (lv' := [(4, .int (nI j)), (3, .int rk), (2, .int (nI i)), (0, .ref o), (1, .int x)]) (st' := [.int (nI i), .int (nI j), .ref (gs i), .ref (gs j), .int rk]) 2 rfl ?_
        refine WW.join (pc' := 83) (lv' := [(4, .int (nI j)), (3, .int rk), (2, .int (nI i)), (0, .ref o), (1, .int x)]) (st' := [.int (bI (Nat.blt j i)), .ref (gs i), .ref (gs j), .int rk]) ?_ ?_
        rotate_left
        · cases hb : (Nat.blt j i) with
          | false =>
            intro H
            refine WW.icmp_ge (tgt := 82) rfl rfl (fun _ => ?_) (fun hno => absurd (nI_le (Nat.le_of_not_lt (fun q => by rw [show Nat.blt j i = true from Nat.ble_eq_true_of_le q] at hb; cases hb)) (by omega)) hno)
            refine WW.run (pc' := 83) (lv' := [(4, .int (nI j)), (3, .int rk), (2, .int (nI i)), (0, .ref o), (1, .int x)]) (st' := [.int (nI 0), .ref (gs i), .ref (gs j), .int rk]) 1 rfl ?_
            exact H
          | true =>
            intro H
            refine WW.icmp_ge (tgt := 82) rfl rfl (fun hno => absurd hno (nI_ge (Nat.le_of_ble_eq_true hb) (by omega))) (fun _ => ?_)
            refine WW.run (pc' := 83) (lv' := [(4, .int (nI j)), (3, .int rk), (2, .int (nI i)), (0, .ref o), (1, .int x)]) (st' := [.int (nI 1), .ref (gs i), .ref (gs j), .int rk]) 2 rfl ?_
            exact H
        refine WW.callV [.ref (gs i), .int (bI (Nat.blt j i))] (gs j) [.int rk] rfl mX1_226 (sH_ahead hsj hsi (Nat.blt j i)) (wdRecv.obj hsj rfl) rfl rfl (wd_le rfl) (wd_le rfl) (by omega) (by omega) (fun o w' hq => ?_)
        obtain ⟨rfl, hw9⟩ := hq
        show WW _ _ _ 86 _ [.int (bI (aAhead (S.sh j) (S.sh i) (Nat.blt j i))), .int rk] _
        rw [hw9]
        clear hw9 w'
        generalize aAhead (S.sh j) (S.sh i) (Nat.blt j i) = ah at H
        cases ah with
        | false =>
          refine WW.if_eq (tgt := 93) rfl rfl (fun _ => ?_) (fun hno => absurd rfl hno)
          refine WW.run (pc' := 94) (lv' := [(4, .int (nI j)), (3, .int rk), (2, .int (nI i)), (0, .ref o), (1, .int x)]) (st' := [.int (nI 0), .int rk]) 1 rfl ?_
          exact H
        | true =>
          refine WW.if_eq (tgt := 93) rfl rfl (fun hno => absurd hno (by decide)) (fun _ => ?_)
          refine WW.run (pc' := 94) (lv' := [(4, .int (nI j)), (3, .int rk), (2, .int (nI i)), (0, .ref o), (1, .int x)]) (st' := [.int (nI 1), .int rk]) 2 rfl ?_
          exact H
    refine WW.run (pc' := 21) (lv' := [(4, .int ((nI j) + nI 1)), (3, .int (rk + (bI (S.fB i j)))), (2, .int (nI i)), (0, .ref o), (1, .int x)]) (st' := []) 4 rfl ?_
    rw [((wn_add rfl rfl) : (nI j) + nI 1 = nI (j + 1))]
    refine WW.pick (lv' := [(4, .int (nI (j + 1))), (3, .int (rk + (bI (S.fB i j)))), (2, .int (nI i)), (0, .ref o), (1, .int x)]) [0, 1, 2, 3, 4] rfl ?_
    exact ih
  · skip
    refine WW.run (pc' := 24) (lv' := [(4, .int (nI S.ns)), (3, .int (S.fRank i S.ns)), (2, .int (nI i)), (0, .ref o), (1, .int x)]) (st' := [.ref o, .int (nI S.ns)]) 2 rfl ?_
    refine WW.get rfl fX1_10 g1 (show _ = some (.ref st) from rfl) ?_
    refine WW.get rfl fX1_106 hst (show _ = some (.ref (Z 0)) from rfl) ?_
    refine WW.callV [] (Z 0) [.int (nI S.ns)] rfl mX1_59 (sL_size hL) (wdRecv.obj hl9 rfl) rfl rfl (wd_le rfl) (wd_le rfl) (by omega) (by omega) (fun o w' hq => ?_)
    obtain ⟨rfl, hw9⟩ := hq
    show WW _ _ _ 33 _ [.int (nI S.ns), .int (nI S.ns)] _
    rw [hw9]
    clear hw9 w'
    refine WW.icmp_ge (tgt := 102) rfl rfl (fun _ => ?_) (fun hno => absurd (nI_le (Nat.le_refl _) (by omega)) hno)
    exact k
end
