set_option maxRecDepth 100000
/-! NUMBERS AS TEXT -/
def dg (v : Nat) : Nat := if v < 10 then 1 else if v < 100 then 2 else if v < 1000 then 3 else if v < 10000 then 4 else 5
abbrev tX : Type := Nat × (Nat → Int32)
def addC (t : tX) (c : Nat) : tX := (t.1 + 1, va_up t.2 t.1 (nI c))
/-- a number of at most five digits is written -/
def addN (t : tX) (v : Nat) : tX :=
  if v < 10 then addC t (48 + v)
  else if v < 100 then addC (addC t (48 + v / 10)) (48 + v % 10)
  else if v < 1000 then addC (addC (addC t (48 + v / 100)) (48 + v / 10 % 10)) (48 + v % 10)
  else if v < 10000 then addC (addC (addC (addC t (48 + v / 1000)) (48 + v / 100 % 10)) (48 + v / 10 % 10)) (48 + v % 10)
  else addC (addC (addC (addC (addC t (48 + v / 10000)) (48 + v / 1000 % 10)) (48 + v / 100 % 10)) (48 + v / 10 % 10)) (48 + v % 10)
theorem addN_len (t : tX) (v : Nat) : (addN t v).1 = t.1 + dg v := by
  unfold addN dg
  repeat' split
  all_goals rfl
theorem neg_toInt {u : Nat} (h : u < 2 ^ 29) : (-(nI u)).toInt = -(u : Int) := by
  rw [Int32.toInt_neg, nI_toInt (by omega), Int.bmod_def]
  omega
theorem neg_le {a b : Nat} (ha : a < 2 ^ 29) (hb : b < 2 ^ 29) : (-(nI a) ≤ -(nI b)) ↔ b ≤ a := by
  rw [Int32.le_iff_toInt_le, neg_toInt ha, neg_toInt hb]
  omega
theorem neg_lt {a b : Nat} (ha : a < 2 ^ 29) (hb : b < 2 ^ 29) : (-(nI a) < -(nI b)) ↔ b < a := by
  rw [Int32.lt_iff_toInt_lt, neg_toInt ha, neg_toInt hb]
  omega
theorem neg_div {u : Nat} (h : u < 2 ^ 20) : -(nI u) / nI 100 = -(nI (u / 100)) := by
  apply Int32.toInt_inj.mp
  rw [Int32.toInt_div, neg_toInt (by omega), nI_toInt (by decide), neg_toInt (by omega), Int.neg_tdiv, show ((u : Int).tdiv (100 : Nat)) = ((u / 100 : Nat) : Int) from by rw [Int.tdiv_eq_ediv_of_nonneg (by omega)]; omega, Int.bmod_def]
  omega
theorem neg_rem {u : Nat} (h : u < 2 ^ 20) : -(nI (u / 100)) * nI 100 - -(nI u) = nI (u % 100) := by
  apply Int32.toInt_inj.mp
  rw [Int32.toInt_sub, Int32.toInt_mul, neg_toInt (by omega), neg_toInt (by omega), nI_toInt (by decide), nI_toInt (by omega), Int.bmod_def, Int.bmod_def]
  omega
theorem neg_neg32 (x : Int32) : - -x = x := Int32.neg_neg
section
variable {l : Launch} {G : wdG} {w : wdW} {sb arr n cap : Nat} {ml : Int32} {f oc : Nat → Int32}
theorem sZ_loop {v : Nat} (hv : v < 100000) {Q : wdO → wdW → Prop} (hQ : Q (.inl (some (.int (nI (dg v))))) w) : ∀ (t k P : Nat), t + k = 5 → 1 ≤ k → P = 10 ^ k → (k = 1 ∨ 10 ^ (k - 1) ≤ v) → WW (l, G, MJ24_stringSize, 1, 0, 0, Q) 0 0 16 [(3, .int (nI k)), (2, .int (-(nI P))), (1, .int (nI 0)), (0, .int (-(nI v)))] [] w := by
  intro t
  induction t with
  | zero =>
    intro k P hk h1 hP hd
    have hk5 : k = 5 := by omega
    subst hk5
    subst hP
    refine WW.run (pc' := 19) (lv' := [(3, .int (nI 5)), (2, .int (-(nI (10 ^ 5)))), (1, .int (nI 0)), (0, .int (-(nI v)))]) (st' := [.int (nI 10), .int (nI 5)]) 2 rfl ?_
    refine WW.icmp_ge (tgt := 42) rfl rfl (fun hno => absurd hno (nI_ge (by decide) (by decide))) (fun _ => ?_)
    refine WW.run (pc' := 24) (lv' := [(3, .int (nI 5)), (2, .int (-(nI (10 ^ 5)))), (1, .int (nI 0)), (0, .int (-(nI v)))]) (st' := [.int (-(nI (10 ^ 5))), .int (-(nI v))]) 2 rfl ?_
    refine WW.icmp_le (tgt := 31) rfl rfl (fun hno => absurd hno (fun q => by have := (neg_le (by omega) (by decide)).mp q; omega)) (fun _ => ?_)
    refine WW.run (pc' := 30) (lv' := [(3, .int (nI 5)), (2, .int (-(nI (10 ^ 5)))), (1, .int (nI 0)), (0, .int (-(nI v)))]) (st' := [.int ((nI 5) + (nI 0))]) 3 rfl ?_
    have e : nI 5 + nI 0 = nI (dg v) := by
      rw [nI_add]
      congr 1
      unfold dg
      have : 10 ^ 4 ≤ v := by rcases hd with q | q <;> omega
      rw [if_neg (by omega), if_neg (by omega), if_neg (by omega), if_neg (by omega)]
    rw [e]
    exact WW.iret rfl rfl rfl hQ
  | succ t ih =>
    intro k P hk h1 hP hd
    have hP5 : P < 2 ^ 29 := by
      rw [hP]
      exact Nat.lt_of_le_of_lt (Nat.pow_le_pow_right (by decide) (show k ≤ 5 by omega)) (by decide)
    refine WW.run (pc' := 19) (lv' := [(3, .int (nI k)), (2, .int (-(nI P))), (1, .int (nI 0)), (0, .int (-(nI v)))]) (st' := [.int (nI 10), .int (nI k)]) 2 rfl ?_
    refine WW.icmp_ge (tgt := 42) rfl rfl (fun hno => absurd hno (nI_ge (by omega) (by omega))) (fun _ => ?_)
    refine WW.run (pc' := 24) (lv' := [(3, .int (nI k)), (2, .int (-(nI P))), (1, .int (nI 0)), (0, .int (-(nI v)))]) (st' := [.int (-(nI P)), .int (-(nI v))]) 2 rfl ?_
    by_cases e : P ≤ v
    · skip
      refine WW.icmp_le (tgt := 31) rfl rfl (fun _ => ?_) (fun hno => absurd ((neg_le (by omega) hP5).mpr e) hno)
      refine WW.run (pc' := 16) (lv' := [(3, .int ((nI k) + nI 1)), (2, .int ((nI 10) * (-(nI P)))), (1, .int (nI 0)), (0, .int (-(nI v)))]) (st' := []) 6 rfl ?_
      have e2 : nI 10 * -(nI P) = -(nI (P * 10)) := by
        rw [Int32.mul_neg, show nI (P * 10) = nI P * nI 10 from Int32.ofNat_mul P 10, Int32.mul_comm]
      refine WW.pick (lv' := [(3, .int ((nI k) + nI 1)), (2, .int ((nI 10) * (-(nI P)))), (1, .int (nI 0)), (0, .int (-(nI v)))]) [0, 1, 2, 3] rfl ?_
      rw [e2, nI_add]
      exact ih (k + 1) (P * 10) (by omega) (by omega) (by rw [hP, Nat.pow_succ]) (Or.inr (by rw [Nat.add_sub_cancel, ← hP]; exact e))
    · skip
      refine WW.icmp_le (tgt := 31) rfl rfl (fun hno => absurd hno (fun q => e ((neg_le (by omega) hP5).mp q))) (fun _ => ?_)
      refine WW.run (pc' := 30) (lv' := [(3, .int (nI k)), (2, .int (-(nI P))), (1, .int (nI 0)), (0, .int (-(nI v)))]) (st' := [.int ((nI k) + (nI 0))]) 3 rfl ?_
      have e3 : nI k + nI 0 = nI (dg v) := by
        rw [nI_add]
        congr 1
        have hkc : k = 1 ∨ k = 2 ∨ k = 3 ∨ k = 4 := by omega
        unfold dg
        rcases hkc with q | q | q | q <;> subst q <;> subst hP
        · rw [if_pos (by omega)]
        · rw [if_neg (by omega), if_pos (by omega)]
        · rw [if_neg (by omega), if_neg (by omega), if_pos (by omega)]
        · rw [if_neg (by omega), if_neg (by omega), if_neg (by omega), if_pos (by omega)]
      rw [e3]
      exact WW.iret rfl rfl rfl hQ
theorem sZ_size {v : Nat} (hv : v < 100000) : SpR l G MJ24_stringSize 1 [.int (nI v)] w (.int (nI (dg v))) := by
  refine Sp.of rfl (by decide +kernel) kJ24_stringSize (wd_le rfl) ?_
  refine WW.run (pc' := 3) (lv' := [(1, .int (nI 1)), (0, .int (nI v))]) (st' := [.int (nI v)]) 3 rfl ?_
  refine WW.if_lt (tgt := 11) rfl rfl (fun hno => absurd hno (nI_pos (by omega))) (fun _ => ?_)
  refine WW.run (pc' := 16) (lv' := [(3, .int (nI 1)), (2, .int (-10)), (0, .int (-(nI v))), (1, .int (nI 0))]) (st' := []) 9 rfl ?_
  rw [show (-10 : Int32) = -(nI (10 ^ 1)) from rfl]
  refine WW.pick (lv' := [(3, .int (nI 1)), (2, .int (-10)), (1, .int (nI 0)), (0, .int (-(nI v)))]) [0, 1, 3, 2] rfl ?_
  exact sZ_loop hv ⟨rfl, rfl⟩ 4 1 (10 ^ 1) rfl (by decide) rfl (Or.inl rfl)
abbrev cA (cap : Nat) (f : Nat → Int32) : wdPay := .inr (cap, .inl f)
theorem i_m1 {k : Nat} (h : 1 ≤ k) : nI k + -1 = nI (k - 1) := by
  rw [nI_m1, wn_sub rfl rfl h]
theorem dig_one {u : Nat} (h : u < 100) : u % 10 < 10 ∧ u / 10 < 10 := by omega
/-- two digits -/
theorem sZ_iter {Q : wdO → wdW → Prop} {u pos v9 e9 : Nat} (h1 : 100 ≤ u) (hu : u < 2 ^ 20) (hp : 2 ≤ pos) (hc : pos ≤ cap) (hcap : cap < 400) (hA : w.1 34 arr = some (cA cap f)) (k : ∀ x3 x4 : Value, WW (l, G, MJ24_getChars, 1, 0, 0, Q) 0 0 22 [(3, x3), (4, x4), (5, .int (nI (pos - 2))), (6, .int (nI 0)), (0, .int (-(nI (u / 100)))), (1, .int (nI e9)), (2, .ref arr)] [] (wPut w 34 arr (cA cap (va_up (va_up f (pos - 1) (nI (48 + u % 10))) (pos - 2) (nI (48 + u / 10 % 10)))))) : WW (l, G, MJ24_getChars, 1, 0, 0, Q) 0 0 22 [(5, .int (nI pos)), (6, .int (nI 0)), (0, .int (-(nI u))), (1, .int (nI e9)), (2, .ref arr)] [] w := by
  refine WW.run (pc' := 25) (lv' := [(5, .int (nI pos)), (6, .int (nI 0)), (0, .int (-(nI u))), (1, .int (nI e9)), (2, .ref arr)]) (st' := [.int (-100), .int (-(nI u))]) 2 rfl ?_
  refine WW.icmp_gt (tgt := 72) rfl rfl (fun hno => absurd hno (by rw [show (-100 : Int32) = -(nI 100) from rfl]; exact fun q => by have := (neg_lt (by decide) (by omega)).mp q; omega)) (fun _ => ?_)
  refine WW.run (pc' := 31) (lv' := [(5, .int (nI pos)), (6, .int (nI 0)), (0, .int (-(nI u))), (1, .int (nI e9)), (2, .ref arr)]) (st' := [.int (nI 100), .int (-(nI u))]) 2 rfl ?_
  refine WW.idiv rfl (by decide) ?_
  refine WW.run (pc' := 39) (lv' := [(3, .int ((-(nI u)) / (nI 100))), (5, .int (nI pos)), (6, .int (nI 0)), (0, .int (-(nI u))), (1, .int (nI e9)), (2, .ref arr)]) (st' := [.int ((((-(nI u)) / (nI 100)) * (nI 100)) - (-(nI u)))]) 6 rfl ?_
  rw [neg_div hu, neg_rem hu]
  refine WW.run (pc' := 49) (lv' := [(5, .int ((nI pos) + -1)), (0, .int (-(nI (u / 100)))), (4, .int (nI (u % 100))), (3, .int (-(nI (u / 100)))), (6, .int (nI 0)), (1, .int (nI e9)), (2, .ref arr)]) (st' := [.int ((nI pos) + -1), .ref arr]) 6 rfl ?_
  rw [i_m1 (by omega)]
  refine WW.gets rfl (List.mem_of_getElem? (i := 3) rfl) q766 ?_
  refine WW.run (pc' := 54) (lv' := [(5, .int (nI (pos - 1))), (0, .int (-(nI (u / 100)))), (4, .int (nI (u % 100))), (3, .int (-(nI (u / 100)))), (6, .int (nI 0)), (1, .int (nI e9)), (2, .ref arr)]) (st' := [.int (nI (u % 100)), .ref (G.2.2.2.1 2), .int (nI (pos - 1)), .ref arr]) 1 rfl ?_
  refine WW.baldT (v := .int (nI (48 + u % 10))) rfl (List.mem_of_getElem? (i := 2) rfl) (vp_in_nI (show u % 100 < 100 by omega) (by decide)) (by rw [nI_clamp (by omega)]; show Value.int (nI (48 + u % 100 % 10)) = _; congr 2; omega) ?_
  refine WW.bastN (f' := va_up f (pos - 1) (nI (48 + u % 10))) (pos - 1) rfl hA rfl (by omega) (by omega) (chr_narB (by omega)) rfl ?_
  have h4 : (wPut w 34 arr (.inr (cap, .inl (va_up f (pos - 1) (nI (48 + u % 10)))))).1 34 arr = some (.inr (cap, .inl (va_up f (pos - 1) (nI (48 + u % 10))))) := wPut_same _ _ _ _
  refine WW.run (pc' := 60) (lv' := [(5, .int ((nI (pos - 1)) + -1)), (0, .int (-(nI (u / 100)))), (4, .int (nI (u % 100))), (3, .int (-(nI (u / 100)))), (6, .int (nI 0)), (1, .int (nI e9)), (2, .ref arr)]) (st' := [.ref arr]) 2 rfl ?_
  rw [i_m1 (by omega), show pos - 1 - 1 = pos - 2 by omega]
  refine WW.run (pc' := 62) (lv' := [(5, .int (nI (pos - 2))), (0, .int (-(nI (u / 100)))), (4, .int (nI (u % 100))), (3, .int (-(nI (u / 100)))), (6, .int (nI 0)), (1, .int (nI e9)), (2, .ref arr)]) (st' := [.int (nI (pos - 2)), .ref arr]) 1 rfl ?_
  refine WW.gets rfl (List.mem_of_getElem? (i := 2) rfl) q768 ?_
  refine WW.run (pc' := 67) (lv' := [(5, .int (nI (pos - 2))), (0, .int (-(nI (u / 100)))), (4, .int (nI (u % 100))), (3, .int (-(nI (u / 100)))), (6, .int (nI 0)), (1, .int (nI e9)), (2, .ref arr)]) (st' := [.int (nI (u % 100)), .ref (G.2.2.2.1 1), .int (nI (pos - 2)), .ref arr]) 1 rfl ?_
  refine WW.baldT (v := .int (nI (48 + u / 10 % 10))) rfl (List.mem_of_getElem? (i := 1) rfl) (vp_in_nI (show u % 100 < 100 by omega) (by decide)) (by rw [nI_clamp (by omega)]; show Value.int (nI (48 + u % 100 / 10)) = _; congr 2; omega) ?_
  refine WW.bastN (f' := va_up (va_up f (pos - 1) (nI (48 + u % 10))) (pos - 2) (nI (48 + u / 10 % 10))) (pos - 2) rfl h4 rfl (by omega) (by omega) (chr_narB (by omega)) rfl ?_
  have h6 : (wPut (wPut w 34 arr (.inr (cap, .inl (va_up f (pos - 1) (nI (48 + u % 10)))))) 34 arr (.inr (cap, .inl (va_up (va_up f (pos - 1) (nI (48 + u % 10))) (pos - 2) (nI (48 + u / 10 % 10)))))).1 34 arr = some (.inr (cap, .inl (va_up (va_up f (pos - 1) (nI (48 + u % 10))) (pos - 2) (nI (48 + u / 10 % 10))))) := wPut_same _ _ _ _
  refine WW.run (pc' := 22) (lv' := [(5, .int (nI (pos - 2))), (0, .int (-(nI (u / 100)))), (4, .int (nI (u % 100))), (3, .int (-(nI (u / 100)))), (6, .int (nI 0)), (1, .int (nI e9)), (2, .ref arr)]) (st' := []) 1 rfl ?_
  rw [wPut_put]
  refine WW.pick (lv' := [(3, .int (-(nI (u / 100)))), (4, .int (nI (u % 100))), (5, .int (nI (pos - 2))), (6, .int (nI 0)), (0, .int (-(nI (u / 100)))), (1, .int (nI e9)), (2, .ref arr)]) [3, 2, 0, 4, 1, 5, 6] rfl ?_
  exact k _ _
/-- the last digit or two -/
theorem sZ_last {Q : wdO → wdW → Prop} {u pos e9 : Nat} (hu : u < 100) (hp : 2 ≤ pos ∨ (u < 10 ∧ 1 ≤ pos)) (hc : pos ≤ cap) (hcap : cap < 400) (hA : w.1 34 arr = some (cA cap f)) (k : ∀ p9 : Nat, Q (.inl (some (.int (nI p9)))) (wPut w 34 arr (cA cap (if u < 10 then va_up f (pos - 1) (nI (48 + u)) else va_up (va_up f (pos - 1) (nI (48 + u % 10))) (pos - 2) (nI (48 + u / 10)))))) : WW (l, G, MJ24_getChars, 1, 0, 0, Q) 0 0 22 [(5, .int (nI pos)), (6, .int (nI 0)), (0, .int (-(nI u))), (1, .int (nI e9)), (2, .ref arr)] [] w := by
  refine WW.run (pc' := 25) (lv' := [(5, .int (nI pos)), (6, .int (nI 0)), (0, .int (-(nI u))), (1, .int (nI e9)), (2, .ref arr)]) (st' := [.int (-100), .int (-(nI u))]) 2 rfl ?_
  refine WW.icmp_gt (tgt := 72) rfl rfl (fun _ => ?_) (fun hno => absurd (by rw [show (-100 : Int32) = -(nI 100) from rfl]; exact (neg_lt (by decide) (by omega)).mpr hu) hno)
  refine WW.run (pc' := 76) (lv' := [(5, .int ((nI pos) + -1)), (6, .int (nI 0)), (0, .int (-(nI u))), (1, .int (nI e9)), (2, .ref arr)]) (st' := [.ref arr]) 2 rfl ?_
  rw [i_m1 (by omega)]
  refine WW.run (pc' := 78) (lv' := [(5, .int (nI (pos - 1))), (6, .int (nI 0)), (0, .int (-(nI u))), (1, .int (nI e9)), (2, .ref arr)]) (st' := [.int (nI (pos - 1)), .ref arr]) 1 rfl ?_
  refine WW.gets rfl (List.mem_of_getElem? (i := 3) rfl) q766 ?_
  refine WW.run (pc' := 83) (lv' := [(5, .int (nI (pos - 1))), (6, .int (nI 0)), (0, .int (-(nI u))), (1, .int (nI e9)), (2, .ref arr)]) (st' := [.int (-(-(nI u))), .ref (G.2.2.2.1 2), .int (nI (pos - 1)), .ref arr]) 2 rfl ?_
  rw [neg_neg32]
  refine WW.baldT (v := .int (nI (48 + u % 10))) rfl (List.mem_of_getElem? (i := 2) rfl) (vp_in_nI (show u < 100 by omega) (by decide)) (by rw [nI_clamp (by omega)]) ?_
  refine WW.bastN (f' := va_up f (pos - 1) (nI (48 + u % 10))) (pos - 1) rfl hA rfl (by omega) (by omega) (chr_narB (by omega)) rfl ?_
  have h4 : (wPut w 34 arr (.inr (cap, .inl (va_up f (pos - 1) (nI (48 + u % 10)))))).1 34 arr = some (.inr (cap, .inl (va_up f (pos - 1) (nI (48 + u % 10))))) := wPut_same _ _ _ _
  refine WW.run (pc' := 88) (lv' := [(5, .int (nI (pos - 1))), (6, .int (nI 0)), (0, .int (-(nI u))), (1, .int (nI e9)), (2, .ref arr)]) (st' := [.int (-9), .int (-(nI u))]) 2 rfl ?_
  by_cases e : u < 10
  · skip
    refine WW.icmp_ge (tgt := 104) rfl rfl (fun _ => ?_) (fun hno => absurd (by rw [show (-9 : Int32) = -(nI 9) from rfl]; exact (neg_le (by decide) (by omega)).mpr (by omega)) hno)
    refine WW.run (pc' := 106) (lv' := [(5, .int (nI (pos - 1))), (6, .int (nI 0)), (0, .int (-(nI u))), (1, .int (nI e9)), (2, .ref arr)]) (st' := [.int (nI 0)]) 1 rfl ?_
    refine WW.if_eq (tgt := 118) rfl rfl (fun _ => ?_) (fun hno => absurd rfl hno)
    refine WW.run (pc' := 120) (lv' := [(5, .int (nI (pos - 1))), (6, .int (nI 0)), (0, .int (-(nI u))), (1, .int (nI e9)), (2, .ref arr)]) (st' := [.int (nI (pos - 1))]) 1 rfl ?_
    have hk := k (pos - 1)
    rw [if_pos e] at hk
    rw [show u % 10 = u by omega]
    exact WW.iret rfl rfl rfl hk
  · skip
    refine WW.icmp_ge (tgt := 104) rfl rfl (fun hno => absurd hno (by rw [show (-9 : Int32) = -(nI 9) from rfl]; exact fun q => by have := (neg_le (by decide) (by omega)).mp q; omega)) (fun _ => ?_)
    refine WW.run (pc' := 95) (lv' := [(5, .int ((nI (pos - 1)) + -1)), (6, .int (nI 0)), (0, .int (-(nI u))), (1, .int (nI e9)), (2, .ref arr)]) (st' := [.ref arr]) 2 rfl ?_
    rw [i_m1 (by omega), show pos - 1 - 1 = pos - 2 by omega]
    refine WW.run (pc' := 97) (lv' := [(5, .int (nI (pos - 2))), (6, .int (nI 0)), (0, .int (-(nI u))), (1, .int (nI e9)), (2, .ref arr)]) (st' := [.int (nI (pos - 2)), .ref arr]) 1 rfl ?_
    refine WW.gets rfl (List.mem_of_getElem? (i := 2) rfl) q768 ?_
    refine WW.run (pc' := 102) (lv' := [(5, .int (nI (pos - 2))), (6, .int (nI 0)), (0, .int (-(nI u))), (1, .int (nI e9)), (2, .ref arr)]) (st' := [.int (-(-(nI u))), .ref (G.2.2.2.1 1), .int (nI (pos - 2)), .ref arr]) 2 rfl ?_
    rw [neg_neg32]
    refine WW.baldT (v := .int (nI (48 + u / 10))) rfl (List.mem_of_getElem? (i := 1) rfl) (vp_in_nI (show u < 100 by omega) (by decide)) (by rw [nI_clamp (by omega)]) ?_
    refine WW.bastN (f' := va_up (va_up f (pos - 1) (nI (48 + u % 10))) (pos - 2) (nI (48 + u / 10))) (pos - 2) rfl h4 rfl (by omega) (by omega) (chr_narB (by omega)) rfl ?_
    have h6 : (wPut (wPut w 34 arr (.inr (cap, .inl (va_up f (pos - 1) (nI (48 + u % 10)))))) 34 arr (.inr (cap, .inl (va_up (va_up f (pos - 1) (nI (48 + u % 10))) (pos - 2) (nI (48 + u / 10)))))).1 34 arr = some (.inr (cap, .inl (va_up (va_up f (pos - 1) (nI (48 + u % 10))) (pos - 2) (nI (48 + u / 10))))) := wPut_same _ _ _ _
    refine WW.run (pc' := 106) (lv' := [(5, .int (nI (pos - 2))), (6, .int (nI 0)), (0, .int (-(nI u))), (1, .int (nI e9)), (2, .ref arr)]) (st' := [.int (nI 0)]) 1 rfl ?_
    refine WW.if_eq (tgt := 118) rfl rfl (fun _ => ?_) (fun hno => absurd rfl hno)
    refine WW.run (pc' := 120) (lv' := [(5, .int (nI (pos - 2))), (6, .int (nI 0)), (0, .int (-(nI u))), (1, .int (nI e9)), (2, .ref arr)]) (st' := [.int (nI (pos - 2))]) 1 rfl ?_
    have hk := k (pos - 2)
    rw [if_neg e] at hk
    rw [wPut_put]
    exact WW.iret rfl rfl rfl hk
/-- what lies in the bytes behind -/
def dgW (f : Nat → Int32) (n v : Nat) : Nat → Int32 := (addN (n, f) v).2
theorem sZ_getChars {v : Nat} (hv : v < 100000) (hc : n + dg v ≤ cap) (hcap : cap < 400) (hA : w.1 34 arr = some (cA cap f)) : Sp l G MJ24_getChars 1 0 0 [.int (nI v), .int (nI (n + dg v)), .ref arr] w (fun o w' => (∃ p9 : Nat, o = .inl (some (.int (nI p9)))) ∧ w' = wPut w 34 arr (cA cap (dgW f n v))) := by
  obtain ⟨e9, he⟩ : ∃ e, e = n + dg v := ⟨_, rfl⟩
  rw [← he] at hc ⊢
  refine Sp.of rfl (by decide +kernel) kJ24_getChars (wd_le rfl) ?_
  refine WW.run (pc' := 4) (lv' := [(5, .int (nI e9)), (0, .int (nI v)), (1, .int (nI e9)), (2, .ref arr)]) (st' := [.int (nI v)]) 3 rfl ?_
  refine WW.if_ge (tgt := 11) rfl rfl (fun _ => ?_) (fun hno => absurd (nI_pos' (by omega)) hno)
  refine WW.run (pc' := 16) (lv' := [(6, .int (nI 0)), (5, .int (nI e9)), (0, .int (nI v)), (1, .int (nI e9)), (2, .ref arr)]) (st' := [.int (nI 0)]) 3 rfl ?_
  refine WW.if_ne (tgt := 22) rfl rfl (fun hno => absurd rfl hno) (fun _ => ?_)
  refine WW.run (pc' := 22) (lv' := [(0, .int (-(nI v))), (6, .int (nI 0)), (5, .int (nI e9)), (1, .int (nI e9)), (2, .ref arr)]) (st' := []) 3 rfl ?_
  refine WW.pick (lv' := [(5, .int (nI e9)), (6, .int (nI 0)), (0, .int (-(nI v))), (1, .int (nI e9)), (2, .ref arr)]) [2, 1, 0, 3, 4] rfl ?_
  unfold dgW
  unfold dg at he
  by_cases c1 : v < 10
  · rw [if_pos c1] at he
    refine sZ_last (show v < 100 by omega) (Or.inr ⟨c1, by omega⟩) hc hcap hA (fun p9 => ⟨⟨p9, rfl⟩, ?_⟩)
    unfold addN addC
    rw [if_pos c1, if_pos c1, he, Nat.add_sub_cancel]
  rw [if_neg c1] at he
  by_cases c2 : v < 100
  · rw [if_pos c2] at he
    refine sZ_last c2 (Or.inl (by omega)) hc hcap hA (fun p9 => ⟨⟨p9, rfl⟩, ?_⟩)
    unfold addN addC
    rw [if_neg c1, if_neg c1, if_pos c2, he]
    refine congrArg (fun z => wPut w 34 arr (cA cap z)) ?_
    funext j
    simp only [va_up]
    repeat' split
    all_goals first | rfl | (exfalso; omega) | exact congrArg nI (by omega)
  rw [if_neg c2] at he
  by_cases c3 : v < 1000
  · rw [if_pos c3] at he
    refine sZ_iter (v9 := v) (by omega) (by omega) (by omega) hc hcap hA (fun x3 x4 => ?_)
    refine WW.pick (lv' := [(5, .int (nI (e9 - 2))), (6, .int (nI 0)), (0, .int (-(nI (v / 100)))), (1, .int (nI e9)), (2, .ref arr)]) [2, 3, 4, 5, 6] rfl ?_
    refine sZ_last (show v / 100 < 100 by omega) (Or.inr ⟨by omega, by omega⟩) (by omega) hcap (wPut_same _ _ _ _) (fun p9 => ⟨⟨p9, rfl⟩, ?_⟩)
    rw [wPut_put]
    unfold addN addC
    rw [if_pos (show v / 100 < 10 by omega), if_neg c1, if_neg c2, if_pos c3, he]
    refine congrArg (fun z => wPut w 34 arr (cA cap z)) ?_
    funext j
    simp only [va_up]
    repeat' split
    all_goals first | rfl | (exfalso; omega) | exact congrArg nI (by omega)
  rw [if_neg c3] at he
  by_cases c4 : v < 10000
  · rw [if_pos c4] at he
    refine sZ_iter (v9 := v) (by omega) (by omega) (by omega) hc hcap hA (fun x3 x4 => ?_)
    refine WW.pick (lv' := [(5, .int (nI (e9 - 2))), (6, .int (nI 0)), (0, .int (-(nI (v / 100)))), (1, .int (nI e9)), (2, .ref arr)]) [2, 3, 4, 5, 6] rfl ?_
    refine sZ_last (show v / 100 < 100 by omega) (Or.inl (by omega)) (by omega) hcap (wPut_same _ _ _ _) (fun p9 => ⟨⟨p9, rfl⟩, ?_⟩)
    rw [wPut_put]
    unfold addN addC
    rw [if_neg (show ¬ v / 100 < 10 by omega), if_neg c1, if_neg c2, if_neg c3, if_pos c4, he]
    have e1 : v / 100 / 10 = v / 1000 := by omega
    refine congrArg (fun z => wPut w 34 arr (cA cap z)) ?_
    funext j
    simp only [va_up]
    repeat' split
    all_goals first | rfl | (exfalso; omega) | exact congrArg nI (by omega)
  rw [if_neg c4] at he
  refine sZ_iter (v9 := v) (by omega) (by omega) (by omega) hc hcap hA (fun x3 x4 => ?_)
  refine WW.pick (lv' := [(5, .int (nI (e9 - 2))), (6, .int (nI 0)), (0, .int (-(nI (v / 100)))), (1, .int (nI e9)), (2, .ref arr)]) [2, 3, 4, 5, 6] rfl ?_
  refine sZ_iter (v9 := v) (show 100 ≤ v / 100 by omega) (by omega) (by omega) (by omega) hcap (wPut_same _ _ _ _) (fun x3 x4 => ?_)
  rw [wPut_put]
  refine WW.pick (lv' := [(5, .int (nI (e9 - 2 - 2))), (6, .int (nI 0)), (0, .int (-(nI (v / 100 / 100)))), (1, .int (nI e9)), (2, .ref arr)]) [2, 3, 4, 5, 6] rfl ?_
  refine sZ_last (show v / 100 / 100 < 100 by omega) (Or.inr ⟨by omega, by omega⟩) (by omega) hcap (wPut_same _ _ _ _) (fun p9 => ⟨⟨p9, rfl⟩, ?_⟩)
  rw [wPut_put]
  unfold addN addC
  rw [if_pos (show v / 100 / 100 < 10 by omega), if_neg c1, if_neg c2, if_neg c3, if_neg c4, he]
  have e1 : v / 100 / 10 = v / 1000 := by omega
  have e2 : v / 100 / 100 = v / 10000 := by omega
  refine congrArg (fun z => wPut w 34 arr (cA cap z)) ?_
  funext j
  simp only [va_up]
  repeat' split
  all_goals first | rfl | (exfalso; omega) | exact congrArg nI (by omega)
theorem addN_lt (f f' : Nat → Int32) (n v : Nat) (h : ∀ j, j < n → f j = f' j) : ∀ j, j < n + dg v → (addN (n, f) v).2 j = (addN (n, f') v).2 j := by
  intro j hj
  unfold dg at hj
  unfold addN addC
  by_cases c1 : v < 10
  · rw [if_pos c1] at hj
    rw [if_pos c1, if_pos c1]
    simp only [va_up]
    repeat' split
    all_goals first | rfl | exact h j (by omega)
  rw [if_neg c1] at hj
  by_cases c2 : v < 100
  · rw [if_pos c2] at hj
    rw [if_neg c1, if_neg c1, if_pos c2, if_pos c2]
    simp only [va_up]
    repeat' split
    all_goals first | rfl | exact h j (by omega)
  rw [if_neg c2] at hj
  by_cases c3 : v < 1000
  · rw [if_pos c3] at hj
    rw [if_neg c1, if_neg c1, if_neg c2, if_neg c2, if_pos c3, if_pos c3]
    simp only [va_up]
    repeat' split
    all_goals first | rfl | exact h j (by omega)
  rw [if_neg c3] at hj
  by_cases c4 : v < 10000
  · rw [if_pos c4] at hj
    rw [if_neg c1, if_neg c1, if_neg c2, if_neg c2, if_neg c3, if_neg c3, if_pos c4, if_pos c4]
    simp only [va_up]
    repeat' split
    all_goals first | rfl | exact h j (by omega)
  rw [if_neg c4] at hj
  rw [if_neg c1, if_neg c1, if_neg c2, if_neg c2, if_neg c3, if_neg c3, if_neg c4, if_neg c4]
  simp only [va_up]
  repeat' split
  all_goals first | rfl | exact h j (by omega)
theorem addN_fit {f : Nat → Int32} {n v cap : Nat} (hv : v < 100000) (h : ∀ j, j < cap → fits .byte (.int (f j)) = true) : ∀ j, j < cap → fits .byte (.int ((addN (n, f) v).2 j)) = true := by
  unfold addN addC
  repeat' split
  · exact up_fit (chr_fit (by omega)) h
  · exact up_fit (chr_fit (by omega)) (up_fit (chr_fit (by omega)) h)
  · exact up_fit (chr_fit (by omega)) (up_fit (chr_fit (by omega)) (up_fit (chr_fit (by omega)) h))
  · exact up_fit (chr_fit (by omega)) (up_fit (chr_fit (by omega)) (up_fit (chr_fit (by omega)) (up_fit (chr_fit (by omega)) h)))
  · exact up_fit (chr_fit (by omega)) (up_fit (chr_fit (by omega)) (up_fit (chr_fit (by omega)) (up_fit (chr_fit (by omega)) (up_fit (chr_fit (by omega)) h))))
theorem dg_le (v : Nat) : 1 ≤ dg v ∧ dg v ≤ 5 := by
  unfold dg
  repeat' split
  all_goals decide
theorem sB_appendN (h : isB w sb arr n oc) (hn : n < 190) {v : Nat} (hv : v < 100000) : Sp l G MJ4_append_2 6 1 420 [.ref sb, .int (nI v)] w (fun o w' => o = .inl (some (.ref sb)) ∧ bQ sb arr (addN (n, oc) v).1 (addN (n, oc) v).2 w w') := by
  obtain ⟨ml, cap, f, h1, hA, hnc, hcap, hb, hf⟩ := h
  have hd := dg_le v
  rw [show (addN (n, oc) v).1 = n + dg v from addN_len _ _]
  have key : Sp l G MJ3_append_2 5 1 420 [.ref sb, .int (nI v)] w (fun o w' => o = .inl (some (.ref sb)) ∧ bQ sb arr (n + dg v) (addN (n, oc) v).2 w w') := by
    refine Sp.of rfl (by decide +kernel) kJ3_append_2 (wd_le rfl) ?_
    refine WW.run (pc' := 1) (lv' := [(0, .ref sb), (1, .int (nI v))]) (st' := [.ref sb]) 1 rfl ?_
    refine WW.get rfl fJ3_79_J4 h1 (show _ = some (.int (nI n)) from rfl) ?_
    refine WW.run (pc' := 7) (lv' := [(2, .int (nI n)), (0, .ref sb), (1, .int (nI v))]) (st' := [.int (nI v), .int (nI n)]) 3 rfl ?_
    refine WW.callS [.int (nI v)] [.int (nI n)] rfl mJ3_245 (sZ_size hv) rfl rfl (wd_le rfl) (wd_le rfl) (wd_le rfl) (wd_le rfl) (fun o w' hq => ?_)
    obtain ⟨rfl, hw9⟩ := hq
    show WW _ _ _ 10 _ [.int (nI (dg v)), .int (nI n)] _
    rw [hw9]
    clear hw9 w'
    refine WW.run (pc' := 11) (lv' := [(2, .int (nI n)), (0, .ref sb), (1, .int (nI v))]) (st' := [.int ((nI n) + (nI (dg v)))]) 1 rfl ?_
    rw [nI_add]
    refine WW.run (pc' := 14) (lv' := [(3, .int (nI (n + dg v))), (2, .int (nI n)), (0, .ref sb), (1, .int (nI v))]) (st' := [.int (nI (n + dg v)), .ref sb]) 3 rfl ?_
    refine WW.callP [.int (nI (n + dg v))] sb [] rfl mJ3_100 (sB_ensure h1 hA hnc hcap hb (mn := n + dg v) (by omega)) (wdRecv.obj h1 rfl) rfl rfl (wd_le rfl) (wd_le rfl) (wd_le rfl) (wd_le rfl) (fun o w1 hq => ?_)
    obtain ⟨rfl, arr', cap', f', h2, hA2, k1, k2, k3, k4, k5, k6, k7⟩ := hq
    show WW _ _ _ 17 _ [] _
    refine WW.run (pc' := 18) (lv' := [(3, .int (nI (n + dg v))), (2, .int (nI n)), (0, .ref sb), (1, .int (nI v))]) (st' := [.ref sb]) 1 rfl ?_
    refine WW.callU [] sb [] rfl mJ3_83 (sB_isLatin1 h2) (wdRecv.obj h2 rfl) rfl rfl (wd_le rfl) (wd_le rfl) (wd_le rfl) (wd_le rfl) (fun o w' hq => ?_)
    obtain ⟨rfl, hw9⟩ := hq
    show WW _ _ _ 21 _ [.int (nI 1)] _
    rw [hw9]
    clear hw9 w'
    refine WW.if_eq (tgt := 37) rfl rfl (fun hno => absurd hno (by decide)) (fun _ => ?_)
    refine WW.run (pc' := 27) (lv' := [(3, .int (nI (n + dg v))), (2, .int (nI n)), (0, .ref sb), (1, .int (nI v))]) (st' := [.ref sb, .int (nI (n + dg v)), .int (nI v)]) 3 rfl ?_
    refine WW.get rfl fJ3_15_J4 h2 (show _ = some (.ref arr') from rfl) ?_
    refine WW.callS [.int (nI v), .int (nI (n + dg v)), .ref arr'] [] rfl mJ3_248 (sZ_getChars hv k1 k3 hA2) rfl rfl (wd_le rfl) (wd_le rfl) (wd_le rfl) (wd_le rfl) (fun o w2 hq => ?_)
    obtain ⟨⟨p9, rfl⟩, hw9⟩ := hq
    show WW _ _ _ 33 _ [.int (nI p9)] _
    have h3 : w2.1 12 sb = some (.inl (sbF arr' ml n)) := by rw [hw9]; exact (wPut_k (by decide)).trans h2
    have hA3 : w2.1 34 arr' = some (cA cap' (dgW f' n v)) := by rw [hw9]; exact wPut_same _ _ _ _
    have fr3 : wFr (bP sb arr) w w2 := by rw [hw9]; exact k7.put (k6.imp (fun e => Or.inr e) (fun e => e))
    refine WW.run (pc' := 50) (lv' := [(3, .int (nI (n + dg v))), (2, .int (nI n)), (0, .ref sb), (1, .int (nI v))]) (st' := [.int (nI (n + dg v)), .ref sb]) 4 rfl ?_
    refine WW.put [.ref arr', .int 0, .int ml, .int (nI (n + dg v))] rfl pfJ3_79_J4 h3 (wd_le rfl) rfl rfl rfl ?_
    have h4 : (wPut w2 12 sb (.inl [.ref arr', .int 0, .int ml, .int (nI (n + dg v))])).1 12 sb = some (.inl [.ref arr', .int 0, .int ml, .int (nI (n + dg v))]) := wPut_same _ _ _ _
    have hA4 : (wPut w2 12 sb (.inl [.ref arr', .int 0, .int ml, .int (nI (n + dg v))])).1 34 arr' = some (cA cap' (dgW f' n v)) := (wPut_k (by decide)).trans hA3
    refine WW.run (pc' := 54) (lv' := [(3, .int (nI (n + dg v))), (2, .int (nI n)), (0, .ref sb), (1, .int (nI v))]) (st' := [.ref sb]) 1 rfl ?_
    refine WW.aret rfl rfl (Or.inl ⟨_, rfl⟩) (Or.inr ⟨_, rfl⟩) ⟨rfl, arr', ⟨ml, cap', _, h4, hA4, k1, k3, addN_fit hv k4, fun j hj => ?_⟩, k6, fr3.put (Or.inl (Or.inl rfl))⟩
    exact addN_lt f' oc n v (fun j hj => (k5 j hj).trans (hf j hj)) j hj
  refine Sp.of rfl (by decide +kernel) kJ4_append_2 (wd_le rfl) ?_
  refine WW.run (pc' := 2) (lv' := [(0, .ref sb), (1, .int (nI v))]) (st' := [.int (nI v), .ref sb]) 2 rfl ?_
  refine WW.callSU [.int (nI v)] sb [] rfl mJ4_53 key h1 rfl rfl rfl (wd_le rfl) (wd_le rfl) (wd_le rfl) (wd_le rfl) (fun o w1 hq => ?_)
  obtain ⟨rfl, h2⟩ := hq
  show WW _ _ _ 5 _ [.ref sb] _
  refine WW.run (pc' := 7) (lv' := [(0, .ref sb), (1, .int (nI v))]) (st' := [.ref sb]) 2 rfl ?_
  exact WW.aret rfl rfl (Or.inl ⟨_, rfl⟩) (Or.inr ⟨_, rfl⟩) ⟨rfl, h2⟩
end
