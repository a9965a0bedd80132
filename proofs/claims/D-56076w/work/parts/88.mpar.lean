set_option maxRecDepth 100000
/-! THE MODEL'S PARSE: a place, and whether it has failed -/
def mSk (ic : Nat → Int32) (n : Nat) (L : List Nat) (s : Nat × Bool) : Nat × Bool := if s.2 = true then s else match kSkip ic n L s.1 with
  | .inl e => (e, true)
  | .inr p => (p, false)
def mNu (ic : Nat → Int32) (n k : Nat) (s : Nat × Bool) : (Nat × Bool) × Int32 := if s.2 = true then (s, nI 0) else match kNum ic n k s.1 with
  | .inl e => ((e, true), nI 0)
  | .inr z => ((z.1, false), z.2)
abbrev kBh (ic : Nat → Int32) (n p : Nat) : Int32 := bif Nat.blt p n then ic p else -1
def kC (k : Nat) : Int32 := match k with
  | 0 => nI 115 | 1 => nI 97 | 2 => nI 100 | 3 => nI 111 | 4 => nI 119 | 5 => nI 114 | _ => nI 108
section
variable {ic : Nat → Int32} {n : Nat}
theorem mSk_t {L : List Nat} {s : Nat × Bool} (h : s.2 = true) : mSk ic n L s = s := if_pos h
theorem mNu_t {k : Nat} {s : Nat × Bool} (h : s.2 = true) : mNu ic n k s = (s, nI 0) := if_pos h
theorem mNu_f {k p : Nat} : mNu ic n k (p, false) = (match kNum ic n k p with
  | .inl e => ((e, true), nI 0)
  | .inr z => ((z.1, false), z.2)) := if_neg (by simp)
theorem mSk_f {L : List Nat} {p : Nat} : mSk ic n L (p, false) = (match kSkip ic n L p with
  | .inl e => (e, true)
  | .inr p => (p, false)) := if_neg (by simp)
theorem mSk_le {L : List Nat} {s : Nat × Bool} (h : s.1 ≤ n) : (mSk ic n L s).1 ≤ n := by
  obtain ⟨p, b⟩ := s
  cases b with
  | true => rw [mSk_t rfl]; exact h
  | false =>
    rw [mSk_f]
    have key : ∀ (L : List Nat) (p : Nat), p ≤ n → (match kSkip ic n L p with | .inl e => (e, true) | .inr p => (p, false) : Nat × Bool).1 ≤ n := by
      intro L
      induction L with
      | nil => intro p h; exact h
      | cons c L ih =>
        intro p h
        rw [kSkip_cons]
        cases hk : kAt ic n p (nI c) (nI c) with
        | false => exact h
        | true => exact ih (p + 1) (kAt_lt hk)
    exact key L p h
theorem mNu_le {k : Nat} {s : Nat × Bool} (h : s.1 ≤ n) : (mNu ic n k s).1.1 ≤ n := by
  obtain ⟨p, b⟩ := s
  cases b with
  | true => rw [mNu_t rfl]; exact h
  | false =>
    rw [mNu_f]
    cases hk : kNum ic n k p with
    | inr z => exact (kNum_end (v := z.2) hk).2
    | inl e =>
      show e ≤ n
      unfold kNum at hk
      cases h1 : kAt ic n p (nI 32) (nI 32) with
      | false => rw [h1] at hk; cases hk; exact h
      | true =>
        cases h2 : kAt ic n (p + 1) (nI 48) (nI 57) with
        | false => rw [h1, h2] at hk; cases hk; exact kAt_lt h1
        | true => rw [h1, h2] at hk; cases hk
/-- the numbers in a row -/
theorem mOne {k p : Nat} : (match kOne ic n k p with
    | .inl e => (mNu ic n k (p, false)).1 = (e, true)
    | .inr z => (mNu ic n k (p, false)).1 = (z.1, false) ∧ (mNu ic n k (p, false)).2 = z.2.1) := by
  unfold kOne
  rw [mNu_f]
  cases kNum ic n k p with
  | inl e => rfl
  | inr z => exact ⟨rfl, rfl⟩
theorem mTwo {k k2 p : Nat} : (match kTwo ic n k k2 p with
    | .inl e => (mNu ic n k2 (mNu ic n k (p, false)).1).1 = (e, true)
    | .inr z => (mNu ic n k2 (mNu ic n k (p, false)).1).1 = (z.1, false) ∧ (mNu ic n k (p, false)).2 = z.2.1 ∧ (mNu ic n k2 (mNu ic n k (p, false)).1).2 = z.2.2.1) := by
  unfold kTwo
  rw [mNu_f]
  cases kNum ic n k p with
  | inl e => dsimp only; rw [mNu_t rfl]
  | inr z =>
    dsimp only
    rw [mNu_f]
    cases kNum ic n k2 z.1 with
    | inl e => rfl
    | inr z2 => exact ⟨rfl, rfl, rfl⟩
theorem mThree {p : Nat} : (match kThree ic n p with
    | .inl e => (mNu ic n 1 (mNu ic n 0 (mNu ic n 0 (p, false)).1).1).1 = (e, true)
    | .inr z => (mNu ic n 1 (mNu ic n 0 (mNu ic n 0 (p, false)).1).1).1 = (z.1, false) ∧ (mNu ic n 0 (p, false)).2 = z.2.1 ∧ (mNu ic n 0 (mNu ic n 0 (p, false)).1).2 = z.2.2.1 ∧ (mNu ic n 1 (mNu ic n 0 (mNu ic n 0 (p, false)).1).1).2 = z.2.2.2) := by
  unfold kThree kTwo
  rw [mNu_f]
  cases kNum ic n 0 p with
  | inl e => dsimp only; rw [mNu_t rfl, mNu_t rfl]
  | inr z =>
    dsimp only
    rw [mNu_f]
    cases kNum ic n 0 z.1 with
    | inl e => dsimp only; rw [mNu_t rfl]
    | inr z2 =>
      dsimp only
      rw [mNu_f]
      cases kNum ic n 1 z2.1 with
      | inl e => rfl
      | inr z3 => exact ⟨rfl, rfl, rfl, rfl⟩
/-- the first digit is a digit like the others -/
theorem kDigs_one {k p : Nat} (h : kAt ic n p (nI 48) (nI 57) = true) : kDigs ic n (k + 1) p (nI 0) = kDigs ic n k (p + 1) (ic p - nI 48) := by
  show (bif kAt ic n p (nI 48) (nI 57) then kDigs ic n k (p + 1) (nI 10 * nI 0 + ic p - nI 48) else (p, nI 0)) = _
  rw [h]
  show kDigs ic n k (p + 1) (nI 10 * nI 0 + ic p - nI 48) = _
  rw [show nI 10 * nI 0 = 0 from rfl, Int32.zero_add]
end
/-! the same signs, the same parse -/
section
variable {f g : Nat → Int32} {n : Nat}
theorem kAt_cong (h : ∀ i, i < n → f i = g i) (p : Nat) (lo hi : Int32) : kAt f n p lo hi = kAt g n p lo hi := by
  show (Nat.blt p n && inR (f p) lo hi) = (Nat.blt p n && inR (g p) lo hi)
  cases hb : Nat.blt p n with
  | false => rw [Bool.false_and, Bool.false_and]
  | true => rw [h p (Nat.blt_eq.mp hb)]
theorem kSkip_cong (h : ∀ i, i < n → f i = g i) (L : List Nat) : ∀ p, kSkip f n L p = kSkip g n L p := by
  induction L with
  | nil => intro p; rfl
  | cons c L ih => intro p; rw [kSkip_cons, kSkip_cons, kAt_cong h, ih]
theorem kDigs_cong (h : ∀ i, i < n → f i = g i) (k : Nat) : ∀ (p : Nat) (v : Int32), kDigs f n k p v = kDigs g n k p v := by
  induction k with
  | zero => intro p v; rfl
  | succ k ih =>
    intro p v
    show (bif kAt f n p (nI 48) (nI 57) then kDigs f n k (p + 1) (nI 10 * v + f p - nI 48) else (p, v)) = (bif kAt g n p (nI 48) (nI 57) then kDigs g n k (p + 1) (nI 10 * v + g p - nI 48) else (p, v))
    rw [kAt_cong h]
    cases hk : kAt g n p (nI 48) (nI 57) with
    | false => rfl
    | true => rw [ih, h p (kAt_lt hk)]
theorem kNum_cong (h : ∀ i, i < n → f i = g i) (k p : Nat) : kNum f n k p = kNum g n k p := by
  unfold kNum
  rw [kAt_cong h, kAt_cong h]
  cases hk : kAt g n (p + 1) (nI 48) (nI 57) with
  | false => rfl
  | true => rw [kDigs_cong h, h (p + 1) (kAt_lt hk)]
theorem kPk_cong (h : ∀ i, i < n → f i = g i) (p : Nat) : kPk f n p = kPk g n p := by
  show (bif Nat.blt p n then f p else nI 32) = (bif Nat.blt p n then g p else nI 32)
  cases hb : Nat.blt p n with
  | false => rfl
  | true => rw [h p (Nat.blt_eq.mp hb)]
theorem kKw_cong (h : ∀ i, i < n → f i = g i) (p : Nat) : kKw f n p = kKw g n p := by unfold kKw; rw [kPk_cong h, kPk_cong h]
theorem kOne_cong (h : ∀ i, i < n → f i = g i) (k p : Nat) : kOne f n k p = kOne g n k p := by unfold kOne; rw [kNum_cong h]
theorem kTwo_cong (h : ∀ i, i < n → f i = g i) (k k2 p : Nat) : kTwo f n k k2 p = kTwo g n k k2 p := by
  unfold kTwo
  rw [kNum_cong h]
  cases kNum g n k p with
  | inl e => rfl
  | inr z => dsimp only; rw [kNum_cong h]
theorem kThree_cong (h : ∀ i, i < n → f i = g i) (p : Nat) : kThree f n p = kThree g n p := by
  unfold kThree
  rw [kTwo_cong h]
  cases kTwo g n 0 0 p with
  | inl e => rfl
  | inr z => dsimp only; rw [kNum_cong h]
theorem kArg_cong (h : ∀ i, i < n → f i = g i) (k p : Nat) : kArg f n k p = kArg g n k p := by
  match k with
  | 0 => rfl
  | 1 => exact kOne_cong h _ _
  | 2 => exact kOne_cong h _ _
  | 3 => exact kOne_cong h _ _
  | 4 =>
    show (bif kAt f n p (nI 32) (nI 32) then kOne f n 1 p else .inr (p, nI 1, nI 0, nI 0)) = (bif kAt g n p (nI 32) (nI 32) then kOne g n 1 p else .inr (p, nI 1, nI 0, nI 0))
    rw [kAt_cong h, kOne_cong h]
  | 5 => exact kTwo_cong h _ _ _
  | k + 6 => exact kThree_cong h _
theorem kCmd_cong (h : ∀ i, i < n → f i = g i) (p : Nat) : kCmd f n p = kCmd g n p := by
  unfold kCmd
  rw [kKw_cong h, kSkip_cong h]
  cases kSkip g n (kB (kKw g n p)) p with
  | inl e => rfl
  | inr p1 => dsimp only; rw [kArg_cong h]
theorem kRest_cong (h : ∀ i, i < n → f i = g i) (k : Nat) : ∀ p, kRest f n k p = kRest g n k p := by
  induction k with
  | zero => intro p; rfl
  | succ k ih =>
    intro p
    unfold kRest
    rw [kAt_cong h, kCmd_cong h]
    cases kCmd g n (p + 1) with
    | inl e => rfl
    | inr z => obtain ⟨p2, c⟩ := z; dsimp only; rw [ih]
theorem kAll_cong (h : ∀ i, i < n → f i = g i) : kAll f n = kAll g n := by
  unfold kAll
  rw [kCmd_cong h]
  cases kCmd g n 0 with
  | inl e => rfl
  | inr z => obtain ⟨p2, c⟩ := z; dsimp only; rw [kRest_cong h]
end
