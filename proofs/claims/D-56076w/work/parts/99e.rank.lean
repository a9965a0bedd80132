set_option maxRecDepth 100000
/-! RANKS: in a strict order of n things each rank is had once -/
def cN (p : Nat → Bool) : Nat → Nat
  | 0 => 0
  | k + 1 => cN p k + (if p k then 1 else 0)
theorem cN_sum (p : Nat → Bool) : ∀ n, aSum (fun k => bI (p k)) n = nI (cN p n)
  | 0 => rfl
  | n + 1 => by
    show aSum (fun k => bI (p k)) n + bI (p n) = nI (cN p n + _)
    rw [cN_sum p n]
    cases p n with
    | false => exact nI_add _ 0
    | true => exact nI_add _ 1
theorem cN_le (p : Nat → Bool) : ∀ n, cN p n ≤ n
  | 0 => Nat.le_refl 0
  | n + 1 => by
    show cN p n + _ ≤ n + 1
    have := cN_le p n
    split <;> omega
theorem cN_mono {p q : Nat → Bool} : ∀ n, (∀ k, k < n → p k = true → q k = true) → cN p n ≤ cN q n
  | 0, _ => Nat.le_refl 0
  | n + 1, h => by
    show cN p n + _ ≤ cN q n + _
    have h1 := cN_mono n (fun k hk => h k (by omega))
    cases hp : p n with
    | false =>
      simp
      omega
    | true =>
      rw [h n (by omega) hp]
      simp
      exact h1
theorem cN_lt {p q : Nat → Bool} : ∀ n, (∀ k, k < n → p k = true → q k = true) → (∃ k, k < n ∧ q k = true ∧ p k = false) → cN p n < cN q n
  | 0, _, ⟨k, hk, _⟩ => absurd hk (Nat.not_lt_zero k)
  | n + 1, h, ⟨k, hk, h1, h2⟩ => by
    show cN p n + _ < cN q n + _
    have hm := cN_mono n (fun k hk => h k (by omega))
    by_cases e : k = n
    · subst e
      rw [h1, h2]
      simp
      omega
    · have hl := cN_lt n (fun k hk => h k (by omega)) ⟨k, by omega, h1, h2⟩
      cases hp : p n with
      | false =>
        simp
        omega
      | true =>
        rw [h n (by omega) hp]
        simp
        exact hl
theorem cN_all : ∀ n, cN (fun _ => true) n = n
  | 0 => rfl
  | n + 1 => by show cN (fun _ => true) n + 1 = n + 1; rw [cN_all n]
/-- what is put into n places, no two in one, fills them -/
theorem pigeonF : ∀ (n : Nat) (f : Nat → Nat), (∀ i, i < n → f i < n) → (∀ i k, i < n → k < n → f i = f k → i = k) → ∀ x, x < n → ∃ i, i < n ∧ f i = x
  | 0, f, _, _, x, hx => absurd hx (Nat.not_lt_zero x)
  | n + 1, f, hf, hi, x, hx => by
    by_cases ex : x = f n
    · exact ⟨n, Nat.lt_succ_self n, ex.symm⟩
    · have hne : ∀ i, i < n → f i ≠ f n := fun i h e => by have := hi i n (by omega) (by omega) e; omega
      have ih := pigeonF n (fun i => if f i = n then f n else f i) (fun i h => by
        show (if f i = n then f n else f i) < n
        have h1 := hf i (by omega)
        have h2 := hf n (by omega)
        have h3 := hne i h
        split <;> omega) (fun i k h h' e => by
        have e : (if f i = n then f n else f i) = (if f k = n then f n else f k) := e
        have h3 := hne i h
        have h4 := hne k h'
        refine hi i k (by omega) (by omega) ?_
        split at e <;> split at e <;> omega)
      by_cases exn : x = n
      · have h2 := hf n (by omega)
        obtain ⟨i, h1, h3⟩ := ih (f n) (by omega)
        refine ⟨i, by omega, ?_⟩
        have h3 : (if f i = n then f n else f i) = f n := h3
        have h4 := hne i h1
        split at h3 <;> omega
      · obtain ⟨i, h1, h3⟩ := ih x (by omega)
        refine ⟨i, by omega, ?_⟩
        have h3 : (if f i = n then f n else f i) = x := h3
        split at h3
        · exact absurd h3.symm ex
        · exact h3
/-- r i k : k comes ahead of i -/
theorem rank_perm {n : Nat} {r : Nat → Nat → Bool} (h0 : ∀ i, i < n → r i i = false) (h1 : ∀ i k, i < n → k < n → i ≠ k → r i k = !(r k i)) (h2 : ∀ i j k, i < n → j < n → k < n → r i j = true → r j k = true → r i k = true) :
    (∀ i, i < n → cN (r i) n < n) ∧ (∀ i k, i < n → k < n → cN (r i) n = cN (r k) n → i = k) ∧ ∀ x, x < n → ∃ i, i < n ∧ cN (r i) n = x := by
  have a : ∀ i, i < n → cN (r i) n < n := fun i hi => by
    have := cN_lt (p := r i) (q := fun _ => true) n (fun _ _ _ => rfl) ⟨i, hi, rfl, h0 i hi⟩
    rw [cN_all] at this
    exact this
  have lt : ∀ i k, i < n → k < n → r i k = true → cN (r k) n < cN (r i) n := fun i k hi hk e =>
    cN_lt n (fun j hj ej => h2 i k j hi hk hj e ej) ⟨k, hk, e, h0 k hk⟩
  have b : ∀ i k, i < n → k < n → cN (r i) n = cN (r k) n → i = k := fun i k hi hk e => by
    refine Decidable.byContradiction fun hne => ?_
    have h := h1 i k hi hk hne
    cases hr : r i k with
    | true => have := lt i k hi hk hr; omega
    | false =>
      rw [hr] at h
      have hr2 : r k i = true := by cases hq : r k i with | true => rfl | false => rw [hq] at h; cases h
      have := lt k i hk hi hr2
      omega
  exact ⟨a, b, pigeonF n (fun i => cN (r i) n) a b⟩
section
variable {B : Nat} {S : aS}
theorem aSeek_spec {f : Nat → Int32} {x : Int32} : ∀ (n i : Nat), (∀ z, aSeek f x n i = some z → i ≤ z ∧ z < i + n ∧ f z = x) ∧ (aSeek f x n i = none → ∀ z, i ≤ z → z < i + n → f z ≠ x)
  | 0, i => ⟨fun z e => (nomatch e), fun _ z h1 h2 => by omega⟩
  | n + 1, i => by
    obtain ⟨h1, h2⟩ := aSeek_spec (f := f) (x := x) n (i + 1)
    unfold aSeek
    cases hb : decide (f i = x) with
    | true =>
      refine ⟨fun z e => ?_, fun e => (nomatch e)⟩
      cases e
      exact ⟨Nat.le_refl _, by omega, of_decide_eq_true hb⟩
    | false =>
      refine ⟨fun z e => ?_, fun e z g1 g2 => ?_⟩
      · obtain ⟨a, b, c⟩ := h1 z e
        exact ⟨by omega, by omega, c⟩
      · by_cases ez : z = i
        · subst ez; exact of_decide_eq_false hb
        · exact h2 e z (by omega) (by omega)
theorem aLast_spec {p : Nat → Bool} : ∀ (n : Nat) {i : Nat}, i < n → p i = true → (∀ k, k < n → p k = true → k = i) → aLast p n = nI i
  | 0, i, h, _, _ => absurd h (Nat.not_lt_zero i)
  | n + 1, i, h, hp, hu => by
    show (bif p n then nI n else aLast p n) = nI i
    cases hb : p n with
    | true => rw [hu n (by omega) hb]; rfl
    | false =>
      have hne : i ≠ n := fun e => by rw [e, hb] at hp; cases hp
      exact aLast_spec n (by omega) hp (fun k hk => hu k (by omega))
theorem aInv.byF (h : aInv B S) (x : Int32) : gByF S x = bif S.ixS x then .inr (.int (S.lastF x)) else .inl 1 := by
  obtain ⟨hW, hh, q, cc, ff, v, d, hb, a1, a4, -⟩ := h
  have h6 := hW.1
  have val : ∀ i k, i < S.ns → k < S.ns → S.fB i k = triB (ff i) (ff k) (cc k) (cc i) (Nat.blt k i) := fun i k hi hk => by
    obtain ⟨b1, b2, b3⟩ := a4 i hi
    obtain ⟨c1, c2, c3⟩ := a4 k hk
    exact fB_val (by omega) (by omega) (by omega) (by omega) b1 b2 c1 c2
  have tri : ∀ i k, i < S.ns → k < S.ns → (S.fB i k = true ↔ ff i < ff k ∨ (ff k = ff i ∧ (cc k < cc i ∨ (cc i = cc k ∧ k < i)))) := fun i k hi hk => by
    rw [val i k hi hk]
    unfold triB
    simp only [Bool.or_eq_true, Bool.and_eq_true, decide_eq_true_eq, Nat.blt_eq]
  obtain ⟨p1, p2, p3⟩ := rank_perm (n := S.ns) (r := S.fB) (fun i hi => by
    cases hc : S.fB i i with
    | false => rfl
    | true => have := (tri i i hi hi).mp hc; omega) (fun i k hi hk hne => by
    cases hc : S.fB i k with
    | true =>
      have e1 := (tri i k hi hk).mp hc
      cases hd : S.fB k i with
      | false => rfl
      | true => have e2 := (tri k i hk hi).mp hd; omega
    | false =>
      cases hd : S.fB k i with
      | true => rfl
      | false =>
        have e1 : ¬ _ := fun z => by rw [(tri i k hi hk).mpr z] at hc; cases hc
        have e2 : ¬ _ := fun z => by rw [(tri k i hk hi).mpr z] at hd; cases hd
        omega) (fun i j k hi hj hk e1 e2 => by
    have e1 := (tri i j hi hj).mp e1
    have e2 := (tri j k hj hk).mp e2
    exact (tri i k hi hk).mpr (by omega))
  have hrk : ∀ i, S.fRank i S.ns = nI (cN (S.fB i) S.ns) := fun i => cN_sum _ _
  unfold gByF
  cases hx : S.ixS x with
  | false =>
    cases hs : aSeek (fun i => S.fRank i S.ns) x S.ns 0 with
    | none => rfl
    | some i =>
      obtain ⟨-, h2, h3⟩ := (aSeek_spec _ _).1 i hs
      have h2 : i < S.ns := by omega
      have h3 : S.fRank i S.ns = x := h3
      rw [hrk] at h3
      have := p1 i h2
      rw [← h3] at hx
      exfalso
      have e : S.ixS (nI (cN (S.fB i) S.ns)) = true := by
        unfold aS.ixS inR
        rw [show nI S.ns - nI 1 = nI (S.ns - 1) from wn_sub rfl rfl (by omega), decide_eq_true (nI_le (Nat.zero_le _) (by omega)), decide_eq_true (nI_le (by omega) (by omega))]
        rfl
      rw [e] at hx
      cases hx
  | true =>
    obtain ⟨j, j1, rfl, -⟩ := hW.ixS hx
    obtain ⟨i, i1, i2⟩ := p3 j j1
    have hi : S.fRank i S.ns = nI j := by rw [hrk, i2]
    have uniq : ∀ k, k < S.ns → S.fRank k S.ns = nI j → k = i := fun k hk e => by
      rw [hrk] at e
      have := (nI_eq (by have := p1 k hk; omega) (by omega)).mp e
      exact p2 k i hk i1 (by omega)
    have hl : S.lastF (nI j) = nI i := aLast_spec S.ns i1 (decide_eq_true hi) (fun k hk e => uniq k hk (of_decide_eq_true e))
    cases hs : aSeek (fun i => S.fRank i S.ns) (nI j) S.ns 0 with
    | none => exact absurd hi ((aSeek_spec _ _).2 hs i (Nat.zero_le _) (by omega))
    | some z =>
      obtain ⟨-, h2, h3⟩ := (aSeek_spec _ _).1 z hs
      rw [uniq z (by omega) h3, hl]
      rfl
end
