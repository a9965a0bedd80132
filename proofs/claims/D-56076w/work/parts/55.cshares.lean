set_option maxRecDepth 100000
/-! SHARES -/
def aS.quo (S : aS) (k : Nat) : Int32 := bif decide (S.needs = 0) then nI 0 else S.qQ k
def aS.rem (S : aS) (k : Nat) : Int32 := bif decide (S.needs = 0) then nI 0 else S.qR k
def aS.shl (S : aS) : Nat → Int32
  | 0 => bif decide (S.needs = 0) then nI 0 else S.oil
  | n + 1 => S.shl n - S.quo n
theorem shA_congr {R R' : Nat → Int32} : ∀ (i : Nat), (∀ k, k ≤ i → R k = R' k) → shA R i = shA R' i
  | 0, _ => rfl
  | i + 1, h => by
    show (if R (shA R i) < R (i + 1) then i + 1 else shA R i) = (if R' (shA R' i) < R' (i + 1) then i + 1 else shA R' i)
    rw [shA_congr i (fun k hk => h k (by omega)), h (i + 1) (Nat.le_refl _), h (shA R' i) (Nat.le_succ_of_le (shA_le R' i))]
theorem shG_congr {n : Nat} (hn : 0 < n) : ∀ (L : Nat) {D D' R R' : Nat → Int32}, (∀ k, k < n → D k = D' k) → (∀ k, k < n → R k = R' k) → ∀ k, k < n → shG n L D R k = shG n L D' R' k
  | 0, D, D', R, R', hD, _, k, hk => hD k hk
  | L + 1, D, D', R, R', hD, hR, k, hk => by
    have e : shA R (n - 1) = shA R' (n - 1) := shA_congr (n - 1) (fun k hk => hR k (by omega))
    have hb := shA_le R' (n - 1)
    show shG n L (upd D (shA R (n - 1)) (D (shA R (n - 1)) + nI 1)) (upd R (shA R (n - 1)) (-1)) k = shG n L (upd D' (shA R' (n - 1)) (D' (shA R' (n - 1)) + nI 1)) (upd R' (shA R' (n - 1)) (-1)) k
    rw [e]
    generalize shA R' (n - 1) = b at hb
    refine shG_congr hn L (fun z hz => ?_) (fun z hz => ?_) k hk
    · show (if z = b then D b + nI 1 else D z) = (if z = b then D' b + nI 1 else D' z)
      rw [hD z hz, hD b (by omega)]
    · show (if z = b then (-1 : Int32) else R z) = (if z = b then -1 else R' z)
      rw [hR z hz]
section
variable {l : Launch} {G : wdG} {w : wdW} {lo a : Nat} {Z gs gl gr : Nat → Nat} {S : aS}
theorem cS_shares (hS : isS G w lo a Z gs gl gr S) (hW : aWf S) {L : Nat} (hL : S.shl S.ns = nI L) (hL2 : L < 1000) (hL3 : 0 < L → 0 < S.ns) : Sp l G MX2_shares 5 30 120 [.ref a] w (fun o w' => ∃ q f, w.2 ≤ q ∧ o = .inl (some (.ref q)) ∧ w'.1 32 q = some (.inr (S.ns, .inl f)) ∧ (∀ k, k < S.ns → f k = shG S.ns L S.quo S.rem k) ∧ wFr nP w w') := by
  have hns := hW.1
  refine Sp.of rfl (by decide +kernel) kX2_shares (wd_le rfl) ?_
  refine WW.ok fun ok => ?_
  replace ok : wdOk G w := ok
  have h1 := hS.1.1
  refine WW.run (pc' := 1) (lv' := [(0, .ref a)]) (st' := [.ref a]) 1 rfl ?_
  refine WW.callV [] a [] rfl mX2_206 (cS_demands hS hW) (wdRecv.obj h1 rfl) rfl rfl (wd_le rfl) (wd_le rfl) (wd_le rfl) (wd_le rfl) (fun o w2 hq => ?_)
  obtain ⟨q, f, hq0, rfl, hA, hf, fr1⟩ := hq
  show WW _ _ _ 4 _ [.ref q] _
  have okw := ok
  refine WW.ok fun ok => ?_
  replace ok : wdOk G w2 := ok
  have hqlt := (ok.1 _ _ _ hA).2
  refine WW.run (pc' := 6) (lv' := [(1, .ref q), (0, .ref a)]) (st' := [.ref q]) 2 rfl ?_
  refine WW.alen (v := nI S.ns) 32 0 rfl rfl hA rfl ?_
  refine WW.less (kc := 10) (ks := 20) (kc' := 10) (ks' := 20) (by decide) (by decide) ?_
  refine WW.newI rfl rfl (by omega) (wd_le rfl) (by omega) (fun r hr0 => ?_)
  have hr1 : w.2 ≤ r := Nat.le_trans fr1.2 hr0
  have hqr : q ≠ r := by omega
  have fr2 : wFr nP w (wNew w2 32 r (.inr (S.ns, .inl (fun _ => nI 0)))) := fr1.new hr0
  have hA2 : (wNew w2 32 r (.inr (S.ns, .inl (fun _ => nI 0)))).1 32 q = some (.inr (S.ns, .inl f)) := (wNew_ne hqr).trans hA
  have hB2 : (wNew w2 32 r (.inr (S.ns, .inl (fun _ => nI 0)))).1 32 r = some (.inr (S.ns, .inl (fun _ => nI 0))) := wNew_same _ _ _ _
  generalize wNew w2 32 r (.inr (S.ns, .inl (fun _ => nI 0))) = w3 at fr2 hA2 hB2
  refine WW.ok fun ok => ?_
  replace ok : wdOk G w3 := ok
  have hS3 := hS.fr okw fr2
  have hb3 := hS3.1.1
  refine WW.less (kc' := 9) (ks' := 10) (by decide) (by omega) ?_
  refine WW.run (pc' := 11) (lv' := [(2, .ref r), (1, .ref q), (0, .ref a)]) (st' := [.ref a]) 2 rfl ?_
  refine WW.callV [] a [] rfl mX2_210 (cS_needs hS3 hW) (wdRecv.obj hb3 rfl) rfl rfl (wd_le rfl) (wd_le rfl) (wd_le rfl) (wd_le rfl) (fun o w4 hq => ?_)
  obtain ⟨rfl, fr3⟩ := hq
  show WW _ _ _ 14 _ [.int S.needs] _
  have hA4 := fr3.eq hA2 (ok.1 _ _ _ hA2).2 (fun h => h)
  have hB4 := fr3.eq hB2 (ok.1 _ _ _ hB2).2 (fun h => h)
  have fr4 := fr2.thn0 fr3
  have hS4 := hS.fr okw fr4
  have hb4 := hS4.1.1
  generalize hc : S.needs = c
  refine WW.run (pc' := 15) (lv' := [(3, .int c), (2, .ref r), (1, .ref q), (0, .ref a)]) (st' := []) 1 rfl ?_
  refine WW.run (pc' := 16) (lv' := [(3, .int c), (2, .ref r), (1, .ref q), (0, .ref a)]) (st' := [.int c]) 1 rfl ?_
  refine WW.join (pc' := 27) (lv' := [(3, .int c), (2, .ref r), (1, .ref q), (0, .ref a)]) (st' := [.int (bif decide (c = 0) then nI 0 else S.oil)]) ?_ ?_
  rotate_left
  · cases hb : (decide (c = 0)) with
    | false =>
      intro H
      refine WW.if_ne (tgt := 23) rfl rfl (fun _ => ?_) (fun hno => absurd hno (of_decide_eq_false hb))
      refine WW.run (pc' := 24) (lv' := [(3, .int c), (2, .ref r), (1, .ref q), (0, .ref a)]) (st' := [.ref a]) 1 rfl ?_
      refine WW.get rfl fX2_56 hb4 (show _ = some (.int S.oil) from rfl) ?_
      exact H
    | true =>
      intro H
      refine WW.if_ne (tgt := 23) rfl rfl (fun hno => absurd (of_decide_eq_true hb) hno) (fun _ => ?_)
      refine WW.run (pc' := 27) (lv' := [(3, .int c), (2, .ref r), (1, .ref q), (0, .ref a)]) (st' := [.int (nI 0)]) 2 rfl ?_
      exact H
  have e0 : (bif decide (c = 0) then nI 0 else S.oil) = S.shl 0 := by rw [← hc]; rfl
  rw [e0]
  refine WW.run (pc' := 32) (lv' := [(5, .int (nI 0)), (4, .int (S.shl 0)), (3, .int c), (2, .ref r), (1, .ref q), (0, .ref a)]) (st' := []) 3 rfl ?_
  refine WW.upW S.ns (fun _ => 8) (fun _ => 6) (fun i => [(5, .int (nI i)), (4, .int (S.shl i)), (3, .int c), (2, .ref r), (1, .ref q), (0, .ref a)]) (fun i u => wFr nP w u ∧ ∃ D R, u.1 32 q = some (.inr (S.ns, .inl D)) ∧ u.1 32 r = some (.inr (S.ns, .inl R)) ∧ (∀ k, k < S.ns → D k = if k < i then S.quo k else S.demand k) ∧ ∀ k, k < i → R k = S.rem k) (fun i u hi hI ih => ?_) (fun u hI => ?_) ⟨fr4, f, _, hA4, hB4, fun k hk => (hf k hk).trans (if_neg (Nat.not_lt_zero k)).symm, fun k hk => absurd hk (Nat.not_lt_zero k)⟩
  · skip
    obtain ⟨fr, D, R, hA5, hB5, hD, hR⟩ := hI
    have hS5 := hS.fr okw fr
    have hb5 := hS5.1.1
    have hDi : D i = S.demand i := (hD i hi).trans (if_neg (Nat.lt_irrefl i))
    refine WW.run (pc' := 35) (lv' := [(5, .int (nI i)), (4, .int (S.shl i)), (3, .int c), (2, .ref r), (1, .ref q), (0, .ref a)]) (st' := [.ref q, .int (nI i)]) 2 rfl ?_
    refine WW.alen (v := nI S.ns) 32 0 rfl rfl hA5 rfl ?_
    refine WW.icmp_ge (tgt := 100) rfl rfl (fun hno => absurd hno (nI_ge hi (by omega))) (fun _ => ?_)
    refine WW.run (pc' := 43) (lv' := [(5, .int (nI i)), (4, .int (S.shl i)), (3, .int c), (2, .ref r), (1, .ref q), (0, .ref a)]) (st' := [.int c, .int (nI i), .ref r]) 3 rfl ?_
    refine WW.join (pc' := 61) (lv' := [(5, .int (nI i)), (4, .int (S.shl i)), (3, .int c), (2, .ref r), (1, .ref q), (0, .ref a)]) (st' := [.int (S.rem i), .int (nI i), .ref r]) ?_ ?_
    rotate_left
    · cases hb : (decide (c = 0)) with
      | false =>
        intro H
        refine WW.if_ne (tgt := 50) rfl rfl (fun _ => ?_) (fun hno => absurd hno (of_decide_eq_false hb))
        refine WW.run (pc' := 51) (lv' := [(5, .int (nI i)), (4, .int (S.shl i)), (3, .int c), (2, .ref r), (1, .ref q), (0, .ref a)]) (st' := [.ref a, .int (nI i), .ref r]) 1 rfl ?_
        refine WW.get rfl fX2_56 hb5 (show _ = some (.int S.oil) from rfl) ?_
        refine WW.run (pc' := 57) (lv' := [(5, .int (nI i)), (4, .int (S.shl i)), (3, .int c), (2, .ref r), (1, .ref q), (0, .ref a)]) (st' := [.int (nI i), .ref q, .int S.oil, .int (nI i), .ref r]) 2 rfl ?_
        refine WW.ialdN i rfl hA5 rfl hi (by omega) hDi ?_
        refine WW.run (pc' := 60) (lv' := [(5, .int (nI i)), (4, .int (S.shl i)), (3, .int c), (2, .ref r), (1, .ref q), (0, .ref a)]) (st' := [.int c, .int (S.oil * (S.demand i)), .int (nI i), .ref r]) 2 rfl ?_
        refine WW.irem rfl (of_decide_eq_false hb) rfl ?_
        have e : S.rem i = S.oil * S.demand i - S.oil * S.demand i / c * c := by unfold aS.rem aS.qR; rw [hc, hb]; rfl
        rw [e] at H
        exact H
      | true =>
        intro H
        refine WW.if_ne (tgt := 50) rfl rfl (fun hno => absurd (of_decide_eq_true hb) hno) (fun _ => ?_)
        refine WW.run (pc' := 61) (lv' := [(5, .int (nI i)), (4, .int (S.shl i)), (3, .int c), (2, .ref r), (1, .ref q), (0, .ref a)]) (st' := [.int (nI 0), .int (nI i), .ref r]) 2 rfl ?_
        have e : S.rem i = nI 0 := by unfold aS.rem; rw [hc, hb]; rfl
        rw [e] at H
        exact H
    refine WW.iastN (f' := upd R i (S.rem i)) i rfl hB5 rfl hi (by omega) rfl ?_
    have hB6 : (wPut u 32 r (.inr (S.ns, .inl (upd R i (S.rem i))))).1 32 r = some (.inr (S.ns, .inl (upd R i (S.rem i)))) := wPut_same _ _ _ _
    have hA6 := (wPut_ne (w := u) (k := 32) (a := r) (p := .inr (S.ns, .inl (upd R i (S.rem i)))) (k' := 32) hqr).trans hA5
    have hb6 := (wPut_k (w := u) (k := 32) (a := r) (p := .inr (S.ns, .inl (upd R i (S.rem i)))) (k' := 1) (a' := a) (by decide)).trans hb5
    refine WW.run (pc' := 66) (lv' := [(5, .int (nI i)), (4, .int (S.shl i)), (3, .int c), (2, .ref r), (1, .ref q), (0, .ref a)]) (st' := [.int c, .int (nI i), .ref q]) 3 rfl ?_
    refine WW.join (pc' := 84) (lv' := [(5, .int (nI i)), (4, .int (S.shl i)), (3, .int c), (2, .ref r), (1, .ref q), (0, .ref a)]) (st' := [.int (S.quo i), .int (nI i), .ref q]) ?_ ?_
    rotate_left
    · cases hb : (decide (c = 0)) with
      | false =>
        intro H
        refine WW.if_ne (tgt := 73) rfl rfl (fun _ => ?_) (fun hno => absurd hno (of_decide_eq_false hb))
        refine WW.run (pc' := 74) (lv' := [(5, .int (nI i)), (4, .int (S.shl i)), (3, .int c), (2, .ref r), (1, .ref q), (0, .ref a)]) (st' := [.ref a, .int (nI i), .ref q]) 1 rfl ?_
        refine WW.get rfl fX2_56 hb6 (show _ = some (.int S.oil) from rfl) ?_
        refine WW.run (pc' := 80) (lv' := [(5, .int (nI i)), (4, .int (S.shl i)), (3, .int c), (2, .ref r), (1, .ref q), (0, .ref a)]) (st' := [.int (nI i), .ref q, .int S.oil, .int (nI i), .ref q]) 2 rfl ?_
        refine WW.ialdN i rfl hA6 rfl hi (by omega) hDi ?_
        refine WW.run (pc' := 83) (lv' := [(5, .int (nI i)), (4, .int (S.shl i)), (3, .int c), (2, .ref r), (1, .ref q), (0, .ref a)]) (st' := [.int c, .int (S.oil * (S.demand i)), .int (nI i), .ref q]) 2 rfl ?_
        refine WW.idiv rfl (of_decide_eq_false hb) ?_
        have e : S.quo i = S.oil * S.demand i / c := by unfold aS.quo aS.qQ; rw [hc, hb]; rfl
        rw [e] at H
        exact H
      | true =>
        intro H
        refine WW.if_ne (tgt := 73) rfl rfl (fun hno => absurd (of_decide_eq_true hb) hno) (fun _ => ?_)
        refine WW.run (pc' := 84) (lv' := [(5, .int (nI i)), (4, .int (S.shl i)), (3, .int c), (2, .ref r), (1, .ref q), (0, .ref a)]) (st' := [.int (nI 0), .int (nI i), .ref q]) 2 rfl ?_
        have e : S.quo i = nI 0 := by unfold aS.quo; rw [hc, hb]; rfl
        rw [e] at H
        exact H
    refine WW.iastN (f' := upd D i (S.quo i)) i rfl hA6 rfl hi (by omega) rfl ?_
    have hA7 : (wPut (wPut u 32 r (.inr (S.ns, .inl (upd R i (S.rem i))))) 32 q (.inr (S.ns, .inl (upd D i (S.quo i))))).1 32 q = some (.inr (S.ns, .inl (upd D i (S.quo i)))) := wPut_same _ _ _ _
    have hB7 := (wPut_ne (w := (wPut u 32 r (.inr (S.ns, .inl (upd R i (S.rem i)))))) (k := 32) (a := q) (p := .inr (S.ns, .inl (upd D i (S.quo i)))) (k' := 32) (Ne.symm hqr)).trans hB6
    refine WW.run (pc' := 90) (lv' := [(5, .int (nI i)), (4, .int (S.shl i)), (3, .int c), (2, .ref r), (1, .ref q), (0, .ref a)]) (st' := [.int (nI i), .ref q, .int (S.shl i)]) 3 rfl ?_
    refine WW.ialdN i rfl hA7 rfl hi (by omega) (if_pos rfl) ?_
    refine WW.run (pc' := 32) (lv' := [(5, .int ((nI i) + nI 1)), (4, .int ((S.shl i) - (S.quo i))), (3, .int c), (2, .ref r), (1, .ref q), (0, .ref a)]) (st' := []) 4 rfl ?_
    rw [((wn_add rfl rfl) : (nI i) + nI 1 = nI (i + 1))]
    refine ih _ ⟨(fr.put (Or.inr hr1)).put (Or.inr hq0), _, _, hA7, hB7, fun k hk => ?_, fun k hk => ?_⟩
    · by_cases e : k = i
      · subst e
        exact (if_pos rfl).trans (if_pos (Nat.lt_succ_self _)).symm
      · refine (if_neg e).trans ((hD k hk).trans ?_)
        by_cases e2 : k < i
        · rw [if_pos e2, if_pos (by omega)]
        · rw [if_neg e2, if_neg (by omega)]
    · by_cases e : k = i
      · subst e
        exact if_pos rfl
      · exact (if_neg e).trans (hR k (by omega))
  · skip
    obtain ⟨fr, D, R, hA5, hB5, hD, hR⟩ := hI
    refine WW.run (pc' := 35) (lv' := [(5, .int (nI S.ns)), (4, .int (S.shl S.ns)), (3, .int c), (2, .ref r), (1, .ref q), (0, .ref a)]) (st' := [.ref q, .int (nI S.ns)]) 2 rfl ?_
    refine WW.alen (v := nI S.ns) 32 0 rfl rfl hA5 rfl ?_
    refine WW.icmp_ge (tgt := 100) rfl rfl (fun _ => ?_) (fun hno => absurd (nI_le (Nat.le_refl _) (by omega)) hno)
    rw [hL]
    refine WW.pick (lv' := [(4, .int (nI L)), (3, .int c), (2, .ref r), (1, .ref q), (0, .ref a)]) [1, 2, 3, 4, 5] rfl ?_
    refine cS_give hqr hns hq0 hr1 L D R u hL2 hL3 fr hA5 hB5 (fun u9 fr9 hA9 => ?_)
    refine WW.run (pc' := 164) (lv' := [(4, .int (nI 0)), (3, .int c), (2, .ref r), (1, .ref q), (0, .ref a)]) (st' := [.ref q]) 1 rfl ?_
    exact WW.aret rfl rfl (Or.inr ⟨_, rfl⟩) (Or.inr ⟨_, rfl⟩) ⟨q, _, hq0, rfl, hA9, fun k hk => shG_congr (by omega) L (fun z hz => (hD z hz).trans (if_pos hz)) (fun z hz => hR z hz) k hk, fr9⟩
end
