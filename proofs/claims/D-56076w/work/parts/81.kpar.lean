set_option maxRecDepth 100000
/-! THE PARSE, plainly: signs ic, n of them; p a place -/
section
variable (ic : Nat → Int32) (n : Nat)
abbrev kAt (p : Nat) (lo hi : Int32) : Bool := Nat.blt p n && inR (ic p) lo hi
/-- a text is met, or the place where it is not -/
def kSkip : List Nat → Nat → Nat ⊕ Nat
  | [], p => .inr p
  | c :: cs, p => bif kAt ic n p (nI c) (nI c) then kSkip cs (p + 1) else .inl p
def kDigs : Nat → Nat → Int32 → Nat × Int32
  | 0, p, v => (p, v)
  | k + 1, p, v => bif kAt ic n p (nI 48) (nI 57) then kDigs k (p + 1) (nI 10 * v + ic p - nI 48) else (p, v)
/-- a space and a number of at most k + 1 digits -/
def kNum (k p : Nat) : Nat ⊕ (Nat × Int32) := bif kAt ic n p (nI 32) (nI 32) then (bif kAt ic n (p + 1) (nI 48) (nI 57) then .inr (kDigs ic n k (p + 2) (ic (p + 1) - nI 48)) else .inl (p + 1)) else .inl p
abbrev kPk (p : Nat) : Int32 := bif Nat.blt p n then ic p else nI 32
/-- which command: 0 ship, 1 lamp, 2 drop, 3 oil, 4 wait, 5 renew, 6 lease -/
def kKw (p : Nat) : Nat := if kPk ic n p = nI 100 then 2 else if kPk ic n p = nI 108 then (if kPk ic n (p + 1) = nI 101 then 6 else 1) else if kPk ic n p = nI 111 then 3 else if kPk ic n p = nI 114 then 5 else if kPk ic n p = nI 119 then 4 else 0
def kB (k : Nat) : List Nat := match k with
  | 0 => [115, 104, 105, 112] | 1 => [108, 97, 109, 112] | 2 => [100, 114, 111, 112] | 3 => [111, 105, 108] | 4 => [119, 97, 105, 116] | 5 => [114, 101, 110, 101, 119] | _ => [108, 101, 97, 115, 101]
abbrev kV : Type := Int32 × Int32 × Int32
def kOne (k p : Nat) : Nat ⊕ (Nat × kV) := match kNum ic n k p with
  | .inl e => .inl e
  | .inr (p', a) => .inr (p', a, nI 0, nI 0)
def kTwo (k k2 p : Nat) : Nat ⊕ (Nat × kV) := match kNum ic n k p with
  | .inl e => .inl e
  | .inr (p', a) => match kNum ic n k2 p' with
    | .inl e => .inl e
    | .inr (p2, b) => .inr (p2, a, b, nI 0)
def kThree (p : Nat) : Nat ⊕ (Nat × kV) := match kTwo ic n 0 0 p with
  | .inl e => .inl e
  | .inr (p', v) => match kNum ic n 1 p' with
    | .inl e => .inl e
    | .inr (p2, c) => .inr (p2, v.1, v.2.1, c)
def kArg (k p : Nat) : Nat ⊕ (Nat × kV) := match k with
  | 0 => .inr (p, nI 0, nI 0, nI 0)
  | 1 => kOne ic n 0 p
  | 2 => kOne ic n 0 p
  | 3 => kOne ic n 2 p
  | 4 => bif kAt ic n p (nI 32) (nI 32) then kOne ic n 1 p else .inr (p, nI 1, nI 0, nI 0)
  | 5 => kTwo ic n 0 1 p
  | _ => kThree ic n p
def kCmd (p : Nat) : Nat ⊕ (Nat × Nat × kV) := match kSkip ic n (kB (kKw ic n p)) p with
  | .inl e => .inl e
  | .inr p1 => match kArg ic n (kKw ic n p) p1 with
    | .inl e => .inl e
    | .inr (p2, v) => .inr (p2, kKw ic n p, v)
/-- what follows a command that ended at p -/
def kRest : Nat → Nat → Nat ⊕ List (Nat × kV)
  | 0, p => .inl p
  | f + 1, p => bif Nat.blt p n then (bif kAt ic n p (nI 59) (nI 59) then (match kCmd ic n (p + 1) with
      | .inl e => .inl e
      | .inr (p', c) => match kRest f p' with
        | .inl e => .inl e
        | .inr cs => .inr (c :: cs)) else .inl p) else .inr []
def kAll : Nat ⊕ List (Nat × kV) := match kCmd ic n 0 with
  | .inl e => .inl e
  | .inr (p', c) => match kRest ic n (n + 1) p' with
    | .inl e => .inl e
    | .inr cs => .inr (c :: cs)
end
/-! what a command does -/
def aDo (k : Nat) (v : kV) (S : aS) : aR := match k with
  | 0 => S.doShip | 1 => S.doLamp v.1 | 2 => S.doDrop v.1 | 3 => S.doOil v.1 | 4 => S.doWait v.1 | 5 => S.doReq v.1 v.2.1 | _ => S.doLease v.1 v.2.1 v.2.2
def kEs (k : Nat) : List Nat := match k with
  | 0 => [15] | 1 => [14, 15] | 2 => [13, 16] | 3 => [14, 15] | 4 => [14] | 5 => [13, 14, 16, 15] | _ => [13, 14, 15, 17]
/-- the numbers that count are the same -/
def kEq (k : Nat) (u v : kV) : Prop := (1 ≤ k → u.1 = v.1) ∧ (5 ≤ k → u.2.1 = v.2.1) ∧ (6 ≤ k → u.2.2 = v.2.2)
theorem aDo0 (v : kV) (S : aS) : aDo 0 v S = S.doShip := by delta aDo; exact Eq.refl _
theorem aDo1 (v : kV) (S : aS) : aDo 1 v S = S.doLamp v.1 := by delta aDo; exact Eq.refl _
theorem aDo2 (v : kV) (S : aS) : aDo 2 v S = S.doDrop v.1 := by delta aDo; exact Eq.refl _
theorem aDo3 (v : kV) (S : aS) : aDo 3 v S = S.doOil v.1 := by delta aDo; exact Eq.refl _
theorem aDo4 (v : kV) (S : aS) : aDo 4 v S = S.doWait v.1 := by delta aDo; exact Eq.refl _
theorem aDo5 (v : kV) (S : aS) : aDo 5 v S = S.doReq v.1 v.2.1 := by delta aDo; exact Eq.refl _
theorem aDo6 (k : Nat) (v : kV) (S : aS) : aDo (k + 6) v S = S.doLease v.1 v.2.1 v.2.2 := by delta aDo; exact Eq.refl _
theorem kEq.do {k : Nat} {u v : kV} (h : kEq k u v) (S : aS) : aDo k u S = aDo k v S := by
  obtain ⟨h1, h2, h3⟩ := h
  match k, h1, h2, h3 with
  | 0, _, _, _ => rw [aDo0, aDo0]
  | 1, h1, _, _ => rw [aDo1, aDo1, h1 (by decide)]
  | 2, h1, _, _ => rw [aDo2, aDo2, h1 (by decide)]
  | 3, h1, _, _ => rw [aDo3, aDo3, h1 (by decide)]
  | 4, h1, _, _ => rw [aDo4, aDo4, h1 (by decide)]
  | 5, h1, h2, _ => rw [aDo5, aDo5, h1 (by decide), h2 (by decide)]
  | k + 6, h1, h2, h3 => rw [aDo6, aDo6, h1 (by omega), h2 (by omega), h3 (by omega)]
/-- the commands in turn, the first of them number i: the one that fails and its exception's kind, or the state -/
def aRun : List (Nat × kV) → Nat → aS → (Nat × Nat) ⊕ aS
  | [], _, S => .inr S
  | c :: cs, i, S => match aDo c.1 c.2 S with
    | .inl p => .inl (i, (kEs c.1)[p - 1]?.getD 13)
    | .inr z => aRun cs (i + 1) z.2
/-! places stay in the text -/
section
variable {ic : Nat → Int32} {n : Nat}
theorem kAt_lt {p : Nat} {lo hi : Int32} (h : kAt ic n p lo hi = true) : p < n := by
  rw [Bool.and_eq_true] at h
  exact Nat.blt_eq.mp h.1
theorem kAt_eq {p : Nat} {c : Int32} (h : kAt ic n p c c = true) : p < n ∧ ic p = c := by
  refine ⟨kAt_lt h, ?_⟩
  rw [Bool.and_eq_true] at h
  have h2 := h.2
  simp only [inR, Bool.and_eq_true, decide_eq_true_eq] at h2
  exact Int32.le_antisymm h2.2 h2.1
theorem kAt_of {p : Nat} {c : Int32} (h : p < n) (e : ic p = c) : kAt ic n p c c = true := by
  have h1 : Nat.blt p n = true := Nat.blt_eq.mpr h
  show (Nat.blt p n && inR (ic p) c c) = true
  rw [h1, e]
  simp [inR, Int32.le_refl]
theorem kSkip_end {cs : List Nat} {p p' : Nat} (hp : p ≤ n) (h : kSkip ic n cs p = .inr p') : p' = p + cs.length ∧ p' ≤ n := by
  induction cs generalizing p with
  | nil => cases h; exact ⟨rfl, hp⟩
  | cons c cs ih =>
    unfold kSkip at h
    cases hk : kAt ic n p (nI c) (nI c) with
    | false => rw [hk] at h; cases h
    | true =>
      rw [hk] at h
      obtain ⟨e1, e2⟩ := ih (Nat.succ_le_of_lt (kAt_lt hk)) h
      exact ⟨by rw [e1, List.length_cons]; omega, e2⟩
theorem kDigs_end (k : Nat) : ∀ (p : Nat) (v : Int32), p ≤ n → p ≤ (kDigs ic n k p v).1 ∧ (kDigs ic n k p v).1 ≤ n := by
  induction k with
  | zero => intro p v h; exact ⟨Nat.le_refl _, h⟩
  | succ k ih =>
    intro p v h
    unfold kDigs
    cases hk : kAt ic n p (nI 48) (nI 57) with
    | false => exact ⟨Nat.le_refl _, h⟩
    | true =>
      have := ih (p + 1) (nI 10 * v + ic p - nI 48) (Nat.succ_le_of_lt (kAt_lt hk))
      exact ⟨Nat.le_trans (Nat.le_succ _) this.1, this.2⟩
theorem kNum_end {k p p' : Nat} {v : Int32} (h : kNum ic n k p = .inr (p', v)) : p < p' ∧ p' ≤ n := by
  unfold kNum at h
  cases h1 : kAt ic n p (nI 32) (nI 32) with
  | false => rw [h1] at h; cases h
  | true =>
    cases h2 : kAt ic n (p + 1) (nI 48) (nI 57) with
    | false => rw [h1, h2] at h; cases h
    | true =>
      rw [h1, h2] at h
      have e : kDigs ic n k (p + 2) (ic (p + 1) - nI 48) = (p', v) := Sum.inr.inj h
      have := kDigs_end (ic := ic) (n := n) k (p + 2) (ic (p + 1) - nI 48) (kAt_lt h2)
      rw [e] at this
      exact ⟨Nat.lt_of_lt_of_le (by omega) this.1, this.2⟩
theorem kOne_end {k p p' : Nat} {v : kV} (h : kOne ic n k p = .inr (p', v)) : p < p' ∧ p' ≤ n := by
  unfold kOne at h
  cases h1 : kNum ic n k p with
  | inl e => rw [h1] at h; cases h
  | inr z => rw [h1] at h; cases h; exact kNum_end h1
theorem kTwo_end {k k2 p p' : Nat} {v : kV} (h : kTwo ic n k k2 p = .inr (p', v)) : p < p' ∧ p' ≤ n := by
  unfold kTwo at h
  cases h1 : kNum ic n k p with
  | inl e => rw [h1] at h; cases h
  | inr z =>
    rw [h1] at h
    obtain ⟨p1, a⟩ := z
    dsimp only at h
    cases h2 : kNum ic n k2 p1 with
    | inl e => rw [h2] at h; cases h
    | inr z => rw [h2] at h; cases h; exact ⟨Nat.lt_trans (kNum_end h1).1 (kNum_end h2).1, (kNum_end h2).2⟩
theorem kThree_end {p p' : Nat} {v : kV} (h : kThree ic n p = .inr (p', v)) : p < p' ∧ p' ≤ n := by
  unfold kThree at h
  cases h1 : kTwo ic n 0 0 p with
  | inl e => rw [h1] at h; cases h
  | inr z =>
    rw [h1] at h
    obtain ⟨p1, a⟩ := z
    dsimp only at h
    cases h2 : kNum ic n 1 p1 with
    | inl e => rw [h2] at h; cases h
    | inr z => rw [h2] at h; cases h; exact ⟨Nat.lt_trans (kTwo_end h1).1 (kNum_end h2).1, (kNum_end h2).2⟩
theorem kArg_end {k p p' : Nat} {v : kV} (hp : p ≤ n) (h : kArg ic n k p = .inr (p', v)) : p ≤ p' ∧ p' ≤ n := by
  match k, h with
  | 0, h => cases h; exact ⟨Nat.le_refl _, hp⟩
  | 1, h => exact ⟨Nat.le_of_lt (kOne_end h).1, (kOne_end h).2⟩
  | 2, h => exact ⟨Nat.le_of_lt (kOne_end h).1, (kOne_end h).2⟩
  | 3, h => exact ⟨Nat.le_of_lt (kOne_end h).1, (kOne_end h).2⟩
  | 4, h =>
    unfold kArg at h
    cases hk : kAt ic n p (nI 32) (nI 32) with
    | false => rw [hk] at h; cases h; exact ⟨Nat.le_refl _, hp⟩
    | true => rw [hk] at h; exact ⟨Nat.le_of_lt (kOne_end h).1, (kOne_end h).2⟩
  | 5, h => exact ⟨Nat.le_of_lt (kTwo_end h).1, (kTwo_end h).2⟩
  | k + 6, h => exact ⟨Nat.le_of_lt (kThree_end h).1, (kThree_end h).2⟩
theorem kB_len (k : Nat) : 3 ≤ (kB k).length := by
  match k with
  | 0 => decide
  | 1 => decide
  | 2 => decide
  | 3 => decide
  | 4 => decide
  | 5 => decide
  | k + 6 => show 3 ≤ 5; decide
theorem kCmd_end {p p' k : Nat} {v : kV} (hp : p ≤ n) (h : kCmd ic n p = .inr (p', k, v)) : p + 3 ≤ p' ∧ p' ≤ n := by
  unfold kCmd at h
  cases h1 : kSkip ic n (kB (kKw ic n p)) p with
  | inl e => rw [h1] at h; cases h
  | inr p1 =>
    rw [h1] at h
    dsimp only at h
    cases h2 : kArg ic n (kKw ic n p) p1 with
    | inl e => rw [h2] at h; cases h
    | inr z =>
      rw [h2] at h
      obtain ⟨p2, v2⟩ := z
      cases h
      obtain ⟨e1, e2⟩ := kSkip_end hp h1
      obtain ⟨f1, f2⟩ := kArg_end e2 h2
      have := kB_len (kKw ic n p)
      exact ⟨by omega, f2⟩
end
