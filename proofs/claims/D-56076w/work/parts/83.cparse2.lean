set_option maxRecDepth 100000
def kSi (k : Nat) : Nat := match k with
  | 0 => 23 | 1 => 18 | 2 => 21 | 3 => 19 | 4 => 22 | 5 => 20 | _ => 17
/-- a number is read, or none is there -/
def yN (G : wdG) (o pa : Nat) (v : kV) (r : Nat ⊕ (Nat × Int32)) (w : wdW) : wdO → wdW → Prop := fun q w' => match r with
  | .inl e => yE G pa e w q w'
  | .inr z => q = .inl (some (.int z.2)) ∧ w' = wPut w 7 pa (.inl (yO o z.1 v))
section
variable {l : Launch} {G : wdG} {w : wdW} {o inp n pa p : Nat} {ic : Nat → Int32} {v : kV}
theorem sY_keyword (h : yI w o inp n ic) (hP : w.1 7 pa = some (.inl (yO o p v))) (hp : p ≤ 60) : Sp l G MX8_keyword 1 0 0 [.ref pa] w (fun q w' => q = .inl (some (.ref (wdSa G (kSi (kKw ic n p))))) ∧ w' = w) := by
  refine Sp.of rfl (by decide +kernel) kX8_keyword (wd_le rfl) ?_
  refine WW.run (pc' := 2) (lv' := [(0, .ref pa)]) (st' := [.int (nI 0), .ref pa]) 2 rfl ?_
  refine WW.callV [.int (nI 0)] pa [] rfl mX8_43 (sY_peek h hP hp (i := 0) (by decide)) (wdRecv.obj hP rfl) rfl rfl (wd_le rfl) (wd_le rfl) (wd_le rfl) (wd_le rfl) (fun o w' hq => ?_)
  obtain ⟨rfl, hw9⟩ := hq
  show WW _ _ _ 5 _ [.int (kPk ic n p)] _
  rw [hw9]
  clear hw9 w'
  by_cases e1 : kPk ic n p = nI 100
  · have kk : kKw ic n p = 2 := by unfold kKw; rw [if_pos e1]
    rw [kk]
    refine WW.lookup (tgt := 80) (off := 75) rfl (by decide) ((kw_off _).trans (by rw [if_pos e1])) rfl ?_
    refine WW.ldcS (i := 21) rfl rfl ⟨rfl, rfl⟩ ?_
    exact WW.aret rfl rfl (Or.inl ⟨_, rfl⟩) (Or.inr ⟨_, rfl⟩) ⟨rfl, rfl⟩
  by_cases e2 : kPk ic n p = nI 108
  · skip
    refine WW.lookup (tgt := 56) (off := 51) rfl (by decide) ((kw_off _).trans (by rw [if_neg e1, if_pos e2])) rfl ?_
    refine WW.run (pc' := 58) (lv' := [(0, .ref pa)]) (st' := [.int (nI 1), .ref pa]) 2 rfl ?_
    refine WW.callV [.int (nI 1)] pa [] rfl mX8_43 (sY_peek h hP hp (i := 1) (by decide)) (wdRecv.obj hP rfl) rfl rfl (wd_le rfl) (wd_le rfl) (wd_le rfl) (wd_le rfl) (fun o w' hq => ?_)
    obtain ⟨rfl, hw9⟩ := hq
    show WW _ _ _ 61 _ [.int (kPk ic n (p + 1))] _
    rw [hw9]
    clear hw9 w'
    refine WW.run (pc' := 63) (lv' := [(0, .ref pa)]) (st' := [.int (nI 101), .int (kPk ic n (p + 1))]) 1 rfl ?_
    by_cases e3 : kPk ic n (p + 1) = nI 101
    · have kk : kKw ic n p = 6 := by unfold kKw; rw [if_neg e1, if_pos e2, if_pos e3]
      rw [kk]
      refine WW.icmp_ne (tgt := 71) rfl rfl (fun hno => absurd e3 hno) (fun _ => ?_)
      refine WW.ldcS (i := 17) rfl rfl ⟨rfl, rfl⟩ ?_
      refine WW.run (pc' := 73) (lv' := [(0, .ref pa)]) (st' := [.ref (wdSa G 17)]) 1 rfl ?_
      exact WW.aret rfl rfl (Or.inl ⟨_, rfl⟩) (Or.inr ⟨_, rfl⟩) ⟨rfl, rfl⟩
    · have kk : kKw ic n p = 1 := by unfold kKw; rw [if_neg e1, if_pos e2, if_neg e3]
      rw [kk]
      refine WW.icmp_ne (tgt := 71) rfl rfl (fun _ => ?_) (fun hno => absurd hno e3)
      refine WW.ldcS (i := 18) rfl rfl ⟨rfl, rfl⟩ ?_
      exact WW.aret rfl rfl (Or.inl ⟨_, rfl⟩) (Or.inr ⟨_, rfl⟩) ⟨rfl, rfl⟩
  by_cases e3 : kPk ic n p = nI 111
  · have kk : kKw ic n p = 3 := by unfold kKw; rw [if_neg e1, if_neg e2, if_pos e3]
    rw [kk]
    refine WW.lookup (tgt := 74) (off := 69) rfl (by decide) ((kw_off _).trans (by rw [if_neg e1, if_neg e2, if_pos e3])) rfl ?_
    refine WW.ldcS (i := 19) rfl rfl ⟨rfl, rfl⟩ ?_
    exact WW.aret rfl rfl (Or.inl ⟨_, rfl⟩) (Or.inr ⟨_, rfl⟩) ⟨rfl, rfl⟩
  by_cases e4 : kPk ic n p = nI 114
  · have kk : kKw ic n p = 5 := by unfold kKw; rw [if_neg e1, if_neg e2, if_neg e3, if_pos e4]
    rw [kk]
    refine WW.lookup (tgt := 77) (off := 72) rfl (by decide) ((kw_off _).trans (by rw [if_neg e1, if_neg e2, if_neg e3, if_pos e4])) rfl ?_
    refine WW.ldcS (i := 20) rfl rfl ⟨rfl, rfl⟩ ?_
    exact WW.aret rfl rfl (Or.inl ⟨_, rfl⟩) (Or.inr ⟨_, rfl⟩) ⟨rfl, rfl⟩
  by_cases e5 : kPk ic n p = nI 119
  · have kk : kKw ic n p = 4 := by unfold kKw; rw [if_neg e1, if_neg e2, if_neg e3, if_neg e4, if_pos e5]
    rw [kk]
    refine WW.lookup (tgt := 83) (off := 78) rfl (by decide) ((kw_off _).trans (by rw [if_neg e1, if_neg e2, if_neg e3, if_neg e4, if_pos e5])) rfl ?_
    refine WW.ldcS (i := 22) rfl rfl ⟨rfl, rfl⟩ ?_
    exact WW.aret rfl rfl (Or.inl ⟨_, rfl⟩) (Or.inr ⟨_, rfl⟩) ⟨rfl, rfl⟩
  have kk : kKw ic n p = 0 := by unfold kKw; rw [if_neg e1, if_neg e2, if_neg e3, if_neg e4, if_neg e5]
  rw [kk]
  refine WW.lookup (tgt := 86) (off := 81) rfl (by decide) ((kw_off _).trans (by rw [if_neg e1, if_neg e2, if_neg e3, if_neg e4, if_neg e5])) rfl ?_
  refine WW.ldcS (i := 23) rfl rfl ⟨rfl, rfl⟩ ?_
  exact WW.aret rfl rfl (Or.inl ⟨_, rfl⟩) (Or.inr ⟨_, rfl⟩) ⟨rfl, rfl⟩
theorem sY_number (h : yI w o inp n ic) (hP : w.1 7 pa = some (.inl (yO o p v))) (hp : p ≤ 60) {k : Nat} (hk : k < 9) : Sp l G MX8_number 9 2 24 [.ref pa, .int (nI (k + 1))] w (yN G o pa v (kNum ic n k p) w) := by
  have hn60 := h.1.1
  have loop : ∀ (P V : Nat × Int32) (d i p' : Nat) (x : Int32), i + d = k + 1 → p' ≤ n → kDigs ic n d p' x = P → WW (l, G, MX8_number, 9, 2, 24, yN G o pa v (.inr P) w) 0 0 23 [(3, .int (nI i)), (2, .int x), (0, .ref pa), (1, .int (nI (k + 1)))] [] (wPut w 7 pa (.inl (yO o p' v))) := by
    intro P V d
    induction d with
    | zero =>
      intro i p' x hi hpn e
      cases e
      obtain rfl : i = k + 1 := by omega
      refine WW.run (pc' := 25) (lv' := [(3, .int (nI (k + 1))), (2, .int x), (0, .ref pa), (1, .int (nI (k + 1)))]) (st' := [.int (nI (k + 1)), .int (nI (k + 1))]) 2 rfl ?_
      refine WW.icmp_ge (tgt := 76) rfl rfl (fun _ => ?_) (fun hno => absurd (nI_le (Nat.le_refl _) (by omega)) hno)
      refine WW.run (pc' := 77) (lv' := [(3, .int (nI (k + 1))), (2, .int x), (0, .ref pa), (1, .int (nI (k + 1)))]) (st' := [.int x]) 1 rfl ?_
      exact WW.iret rfl rfl rfl ⟨rfl, rfl⟩
    | succ d ih =>
      intro i p' x hi hpn e
      have e1 : (wPut w 7 pa (.inl (yO o p' v))).1 7 pa = some (.inl (yO o p' v)) := wPut_same _ _ _ _
      have hI2 := h.put (pa := pa) (p := .inl (yO o p' v))
      have hI3 := hI2
      obtain ⟨-, ⟨x0, x1, x2, x5, x6, x7, x8, hO⟩, hI⟩ := hI3
      refine WW.run (pc' := 25) (lv' := [(3, .int (nI i)), (2, .int x), (0, .ref pa), (1, .int (nI (k + 1)))]) (st' := [.int (nI (k + 1)), .int (nI i)]) 2 rfl ?_
      refine WW.icmp_ge (tgt := 76) rfl rfl (fun hno => absurd hno (nI_ge (by omega) (by omega))) (fun _ => ?_)
      refine WW.run (pc' := 33) (lv' := [(3, .int (nI i)), (2, .int x), (0, .ref pa), (1, .int (nI (k + 1)))]) (st' := [.int (nI 57), .int (nI 48), .ref pa]) 3 rfl ?_
      refine WW.callV [.int (nI 48), .int (nI 57)] pa [] rfl mX8_30 (sY_sees hI2 e1 (by omega) (nI 48) (nI 57)) (wdRecv.obj e1 rfl) rfl rfl (wd_le rfl) (wd_le rfl) (wd_le rfl) (wd_le rfl) (fun o w' hq => ?_)
      obtain ⟨rfl, hw9⟩ := hq
      show WW _ _ _ 36 _ [.int (bI (kAt ic n p' (nI 48) (nI 57)))] _
      rw [hw9]
      clear hw9 w'
      unfold kDigs at e
      cases hc : kAt ic n p' (nI 48) (nI 57) with
      | false =>
        rw [hc] at e
        cases e
        refine WW.if_eq (tgt := 76) rfl rfl (fun _ => ?_) (fun hno => absurd rfl hno)
        refine WW.run (pc' := 77) (lv' := [(3, .int (nI i)), (2, .int x), (0, .ref pa), (1, .int (nI (k + 1)))]) (st' := [.int x]) 1 rfl ?_
        exact WW.iret rfl rfl rfl ⟨rfl, rfl⟩
      | true =>
        rw [hc] at e
        refine WW.if_eq (tgt := 76) rfl rfl (fun hno => absurd hno (by decide)) (fun _ => ?_)
        have hlt := kAt_lt hc
        refine WW.run (pc' := 44) (lv' := [(3, .int (nI i)), (2, .int x), (0, .ref pa), (1, .int (nI (k + 1)))]) (st' := [.ref pa, .int ((nI 10) * x)]) 4 rfl ?_
        refine WW.get rfl fX8_1 e1 (show _ = some (.ref o) from rfl) ?_
        refine WW.get rfl fX8_22 hO (show _ = some (.ref inp) from rfl) ?_
        refine WW.run (pc' := 51) (lv' := [(3, .int (nI i)), (2, .int x), (0, .ref pa), (1, .int (nI (k + 1)))]) (st' := [.ref pa, .ref inp, .int ((nI 10) * x)]) 1 rfl ?_
        refine WW.get rfl fX8_13 e1 (show _ = some (.int (nI p')) from rfl) ?_
        refine WW.caldN p' rfl hI rfl (by omega) (by decide) rfl ?_
        refine WW.run (pc' := 62) (lv' := [(2, .int ((((nI 10) * x) + (ic p')) - (nI 48))), (3, .int (nI i)), (0, .ref pa), (1, .int (nI (k + 1)))]) (st' := [.ref pa, .ref pa]) 6 rfl ?_
        refine WW.get rfl fX8_13 e1 (show _ = some (.int (nI p')) from rfl) ?_
        refine WW.run (pc' := 67) (lv' := [(2, .int ((((nI 10) * x) + (ic p')) - (nI 48))), (3, .int (nI i)), (0, .ref pa), (1, .int (nI (k + 1)))]) (st' := [.int ((nI p') + (nI 1)), .ref pa]) 2 rfl ?_
        rw [nI_add]
        refine WW.put [.int (nI (p' + 1)), .int v.1, .int v.2.1, .int v.2.2, .ref o] rfl pfX8_13 e1 (wd_le rfl) rfl rfl rfl ?_
        have h2 : (wPut (wPut w 7 pa (.inl (yO o p' v))) 7 pa (.inl [.int (nI (p' + 1)), .int v.1, .int v.2.1, .int v.2.2, .ref o])).1 7 pa = some (.inl [.int (nI (p' + 1)), .int v.1, .int v.2.1, .int v.2.2, .ref o]) := wPut_same _ _ _ _
        refine WW.run (pc' := 23) (lv' := [(3, .int ((nI i) + nI 1)), (2, .int (nI 10 * x + ic p' - nI 48)), (0, .ref pa), (1, .int (nI (k + 1)))]) (st' := []) 2 rfl ?_
        refine WW.pick (lv' := [(3, .int ((nI i) + nI 1)), (2, .int (nI 10 * x + ic p' - nI 48)), (0, .ref pa), (1, .int (nI (k + 1)))]) [0, 1, 2, 3] rfl ?_
        rw [nI_add, wPut_put]
        exact ih (i + 1) (p' + 1) _ (by omega) (by omega) e
  unfold kNum
  refine Sp.of rfl (by decide +kernel) kX8_number (wd_le rfl) ?_
  refine WW.run (pc' := 5) (lv' := [(0, .ref pa), (1, .int (nI (k + 1)))]) (st' := [.int (nI 32), .int (nI 32), .ref pa]) 3 rfl ?_
  refine WW.callV [.int (nI 32), .int (nI 32)] pa [] rfl mX8_39 (sY_next h hP hp (nI 32) (nI 32)) (wdRecv.obj hP rfl) rfl rfl (wd_le rfl) (wd_le rfl) (wd_le rfl) (wd_le rfl) (fun o w' hq => ?_)
  cases hc : kAt ic n p (nI 32) (nI 32) with
  | false =>
    rw [hc] at hq
    obtain ⟨x, g1, rfl, g3, g4⟩ := hq
    show WX _ _ _ 5 _ [] _ _ _
    exact WX.out (fun _ h => nomatch h) ⟨x, g1, rfl, g3, g4⟩
  | true =>
    rw [hc] at hq
    obtain ⟨rfl, hw9⟩ := hq
    show WW _ _ _ 8 _ [.int (ic p)] _
    rw [hw9]
    clear hw9 w'
    have e1 : (wPut w 7 pa (.inl (yO o (p + 1) v))).1 7 pa = some (.inl (yO o (p + 1) v)) := wPut_same _ _ _ _
    have hI2 := h.put (pa := pa) (p := .inl (yO o (p + 1) v))
    have hlt := kAt_lt hc
    refine WW.run (pc' := 14) (lv' := [(0, .ref pa), (1, .int (nI (k + 1)))]) (st' := [.int (nI 57), .int (nI 48), .ref pa]) 4 rfl ?_
    refine WW.callV [.int (nI 48), .int (nI 57)] pa [] rfl mX8_39 (sY_next hI2 e1 (by omega) (nI 48) (nI 57)) (wdRecv.obj e1 rfl) rfl rfl (wd_le rfl) (wd_le rfl) (wd_le rfl) (wd_le rfl) (fun o w' hq => ?_)
    cases hd : kAt ic n (p + 1) (nI 48) (nI 57) with
    | false =>
      rw [hd] at hq
      obtain ⟨x, g1, rfl, g3, g4⟩ := yE.put hq
      show WX _ _ _ 14 _ [] _ _ _
      exact WX.out (fun _ h => nomatch h) ⟨x, g1, rfl, g3, g4⟩
    | true =>
      rw [hd] at hq
      obtain ⟨rfl, hw9⟩ := hq
      rw [wPut_put] at hw9
      show WW _ _ _ 17 _ [.int (ic (p + 1))] _
      rw [hw9]
      clear hw9 w'
      refine WW.run (pc' := 23) (lv' := [(3, .int (nI 1)), (2, .int ((ic (p + 1)) - (nI 48))), (0, .ref pa), (1, .int (nI (k + 1)))]) (st' := []) 5 rfl ?_
      refine WW.pick (lv' := [(3, .int (nI 1)), (2, .int ((ic (p + 1)) - (nI 48))), (0, .ref pa), (1, .int (nI (k + 1)))]) [0, 1, 2, 3] rfl ?_
      exact loop _ (0, 0) k 1 (p + 2) _ (by omega) (kAt_lt hd) rfl
end
