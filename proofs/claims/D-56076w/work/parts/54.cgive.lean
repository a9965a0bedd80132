set_option maxRecDepth 100000
/-! SHARES: the remainders are given out -/
def shA (R : Nat → Int32) : Nat → Nat
  | 0 => 0
  | i + 1 => if R (shA R i) < R (i + 1) then i + 1 else shA R i
theorem shA_le (R : Nat → Int32) : ∀ i, shA R i ≤ i
  | 0 => Nat.le_refl 0
  | i + 1 => by
    show (if _ then _ else _) ≤ _
    split
    · exact Nat.le_refl _
    · exact Nat.le_succ_of_le (shA_le R i)
def shG (n : Nat) : Nat → (Nat → Int32) → (Nat → Int32) → (Nat → Int32)
  | 0, D, _ => D
  | L + 1, D, R => shG n L (upd D (shA R (n - 1)) (D (shA R (n - 1)) + nI 1)) (upd R (shA R (n - 1)) (-1))
section
variable {l : Launch} {G : wdG} {a : Nat}
theorem cS_give {Q : wdO → wdW → Prop} {kc ks q r n : Nat} {c : Int32} {w0 : wdW} (hqr : q ≠ r) (hn : n ≤ 6) (hq0 : w0.2 ≤ q) (hr0 : w0.2 ≤ r) : ∀ (L : Nat) (D R : Nat → Int32) (w : wdW), L < 1000 → (0 < L → 0 < n) → wFr nP w0 w → w.1 32 q = some (.inr (n, .inl D)) → w.1 32 r = some (.inr (n, .inl R)) → (∀ u, wFr nP w0 u → u.1 32 q = some (.inr (n, .inl (shG n L D R))) → WW (l, G, MX2_shares, 5, 30, 120, Q) kc ks 163 [(4, .int (nI 0)), (3, .int c), (2, .ref r), (1, .ref q), (0, .ref a)] [] u) → WW (l, G, MX2_shares, 5, 30, 120, Q) kc ks 100 [(4, .int (nI L)), (3, .int c), (2, .ref r), (1, .ref q), (0, .ref a)] [] w := by
  intro L
  induction L with
  | zero =>
    intro D R w hL h0 fr hA hB k
    refine WW.run (pc' := 102) (lv' := [(4, .int (nI 0)), (3, .int c), (2, .ref r), (1, .ref q), (0, .ref a)]) (st' := [.int (nI 0)]) 1 rfl ?_
    refine WW.if_le (tgt := 163) rfl rfl (fun _ => ?_) (fun hno => absurd (by decide) hno)
    exact k w fr hA
  | succ L ih =>
    intro D R w hL h0 fr hA hB k
    have hnp := h0 (Nat.succ_pos L)
    refine WW.run (pc' := 102) (lv' := [(4, .int (nI (L + 1))), (3, .int c), (2, .ref r), (1, .ref q), (0, .ref a)]) (st' := [.int (nI (L + 1))]) 1 rfl ?_
    refine WW.if_le (tgt := 163) rfl rfl (fun hno => absurd hno (nI_nle (by omega) (by omega))) (fun _ => ?_)
    refine WW.run (pc' := 111) (lv' := [(6, .int (nI 1)), (5, .int (nI 0)), (4, .int (nI (L + 1))), (3, .int c), (2, .ref r), (1, .ref q), (0, .ref a)]) (st' := []) 4 rfl ?_
    refine WW.up (n - 1) (fun i => [(6, .int (nI (i + 1))), (5, .int (nI (shA R i))), (4, .int (nI (L + 1))), (3, .int c), (2, .ref r), (1, .ref q), (0, .ref a)]) (fun i hi ih2 => ?_) ?_
    · skip
      have hle := shA_le R i
      have hs : shA R (i + 1) = if R (shA R i) < R (i + 1) then i + 1 else shA R i := rfl
      rw [hs] at ih2
      generalize shA R i = b at hle ih2
      refine WW.run (pc' := 114) (lv' := [(6, .int (nI (i + 1))), (5, .int (nI b)), (4, .int (nI (L + 1))), (3, .int c), (2, .ref r), (1, .ref q), (0, .ref a)]) (st' := [.ref q, .int (nI (i + 1))]) 2 rfl ?_
      refine WW.alen (v := nI n) 32 0 rfl rfl hA rfl ?_
      refine WW.icmp_ge (tgt := 144) rfl rfl (fun hno => absurd hno (nI_ge (show i + 1 < n by omega) (by omega))) (fun _ => ?_)
      refine WW.run (pc' := 121) (lv' := [(6, .int (nI (i + 1))), (5, .int (nI b)), (4, .int (nI (L + 1))), (3, .int c), (2, .ref r), (1, .ref q), (0, .ref a)]) (st' := [.int (nI (i + 1)), .ref r]) 2 rfl ?_
      refine WW.ialdN (i + 1) rfl hB rfl (by omega) (by omega) rfl ?_
      refine WW.run (pc' := 125) (lv' := [(6, .int (nI (i + 1))), (5, .int (nI b)), (4, .int (nI (L + 1))), (3, .int c), (2, .ref r), (1, .ref q), (0, .ref a)]) (st' := [.int (nI b), .ref r, .int (R (i + 1))]) 2 rfl ?_
      refine WW.ialdN b rfl hB rfl (by omega) (by omega) rfl ?_
      by_cases e : R b < R (i + 1)
      · skip
        rw [if_pos e] at ih2
        refine WW.icmp_le (tgt := 134) rfl rfl (fun hno => absurd hno (Int32.not_le.mpr e)) (fun _ => ?_)
        refine WW.run (pc' := 111) (lv' := [(6, .int ((nI (i + 1)) + nI 1)), (5, .int (nI (i + 1))), (4, .int (nI (L + 1))), (3, .int c), (2, .ref r), (1, .ref q), (0, .ref a)]) (st' := []) 5 rfl ?_
        rw [((wn_add rfl rfl) : (nI (i + 1)) + nI 1 = nI ((i + 1) + 1))]
        refine WW.pick (lv' := [(6, .int (nI ((i + 1) + 1))), (5, .int (nI (i + 1))), (4, .int (nI (L + 1))), (3, .int c), (2, .ref r), (1, .ref q), (0, .ref a)]) [0, 1, 2, 3, 4, 5, 6] rfl ?_
        exact ih2
      · skip
        rw [if_neg e] at ih2
        refine WW.icmp_le (tgt := 134) rfl rfl (fun _ => ?_) (fun hno => absurd (Int32.not_lt.mp e) hno)
        refine WW.run (pc' := 111) (lv' := [(6, .int ((nI (i + 1)) + nI 1)), (5, .int (nI b)), (4, .int (nI (L + 1))), (3, .int c), (2, .ref r), (1, .ref q), (0, .ref a)]) (st' := []) 4 rfl ?_
        rw [((wn_add rfl rfl) : (nI (i + 1)) + nI 1 = nI ((i + 1) + 1))]
        refine WW.pick (lv' := [(6, .int (nI ((i + 1) + 1))), (5, .int (nI b)), (4, .int (nI (L + 1))), (3, .int c), (2, .ref r), (1, .ref q), (0, .ref a)]) [0, 1, 2, 3, 4, 5, 6] rfl ?_
        exact ih2
    · skip
      have hle := shA_le R (n - 1)
      have hg : shG n (L + 1) D R = shG n L (upd D (shA R (n - 1)) (D (shA R (n - 1)) + nI 1)) (upd R (shA R (n - 1)) (-1)) := rfl
      rw [hg] at k
      generalize shA R (n - 1) = b at hle k
      rw [show n - 1 + 1 = n by omega]
      refine WW.run (pc' := 114) (lv' := [(6, .int (nI n)), (5, .int (nI b)), (4, .int (nI (L + 1))), (3, .int c), (2, .ref r), (1, .ref q), (0, .ref a)]) (st' := [.ref q, .int (nI n)]) 2 rfl ?_
      refine WW.alen (v := nI n) 32 0 rfl rfl hA rfl ?_
      refine WW.icmp_ge (tgt := 144) rfl rfl (fun _ => ?_) (fun hno => absurd (nI_le (Nat.le_refl _) (by omega)) hno)
      refine WW.run (pc' := 148) (lv' := [(6, .int (nI n)), (5, .int (nI b)), (4, .int (nI (L + 1))), (3, .int c), (2, .ref r), (1, .ref q), (0, .ref a)]) (st' := [.int (nI b), .ref q, .int (nI b), .ref q]) 3 rfl ?_
      refine WW.ialdN b rfl hA rfl (by omega) (by omega) rfl ?_
      refine WW.run (pc' := 151) (lv' := [(6, .int (nI n)), (5, .int (nI b)), (4, .int (nI (L + 1))), (3, .int c), (2, .ref r), (1, .ref q), (0, .ref a)]) (st' := [.int ((D b) + (nI 1)), .int (nI b), .ref q]) 2 rfl ?_
      refine WW.iastN (f' := upd D b ((D b) + (nI 1))) b rfl hA rfl (by omega) (by omega) rfl ?_
      have hA2 : (wPut w 32 q (.inr (n, .inl (upd D b ((D b) + (nI 1)))))).1 32 q = some (.inr (n, .inl (upd D b ((D b) + (nI 1))))) := wPut_same _ _ _ _
      have hB2 := (wPut_ne (w := w) (k := 32) (a := q) (p := .inr (n, .inl (upd D b (D b + nI 1)))) (k' := 32) (Ne.symm hqr)).trans hB
      refine WW.run (pc' := 156) (lv' := [(6, .int (nI n)), (5, .int (nI b)), (4, .int (nI (L + 1))), (3, .int c), (2, .ref r), (1, .ref q), (0, .ref a)]) (st' := [.int (-1), .int (nI b), .ref r]) 3 rfl ?_
      refine WW.iastN (f' := upd R b (-1)) b rfl hB2 rfl (by omega) (by omega) rfl ?_
      have hB3 : (wPut (wPut w 32 q (.inr (n, .inl (upd D b ((D b) + (nI 1)))))) 32 r (.inr (n, .inl (upd R b (-1))))).1 32 r = some (.inr (n, .inl (upd R b (-1)))) := wPut_same _ _ _ _
      refine WW.run (pc' := 100) (lv' := [(4, .int ((nI (L + 1)) + -1)), (6, .int (nI n)), (5, .int (nI b)), (3, .int c), (2, .ref r), (1, .ref q), (0, .ref a)]) (st' := []) 2 rfl ?_
      refine WW.pick (lv' := [(4, .int ((nI (L + 1)) + -1)), (3, .int c), (2, .ref r), (1, .ref q), (0, .ref a)]) [0, 3, 4, 5, 6] rfl ?_
      have e9 : nI (L + 1) + -1 = nI L := by
        rw [nI_m1, wn_sub rfl rfl (by omega), show L + 1 - 1 = L by omega]
      rw [e9]
      exact ih _ _ _ (by omega) (fun _ => hnp) ((fr.put (Or.inr hq0)).put (Or.inr hr0)) ((wPut_ne hqr).trans hA2) hB3 k
end
