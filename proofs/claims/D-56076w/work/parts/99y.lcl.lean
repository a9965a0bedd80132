set_option maxRecDepth 100000
/-! THE STATES IN TURN -/
def lP0 : lPr := fun c cur hn hist sv n ic on oc J => aInv (3000 * c) cur ∧ (hn ≤ 8 ∧ ∀ k, k < hn → aInv (3000 * c) (hist k)) ∧ (∀ T, sv = some T → aInv (3000 * c) T) ∧ (n ≤ 60 ∧ ∀ j, j < n → narrow .char (.int (ic j)) = .int (ic j)) ∧ (tSm (on, oc) ∧ on ≤ 120) ∧ ((J 1 = -1 ∨ 0 ≤ J 1) ∧ (J 2 = -1 ∨ 0 ≤ J 2) ∧ narrow .char (.int (J 3)) = .int (J 3))
theorem tRec_inv {B hn : Nat} {hist : Nat → aS} {cur : aS} (h8 : hn ≤ 8) (h : ∀ k, k < hn → aInv B (hist k)) (hc : aInv B cur) : (tRec hn hist cur).1 ≤ 8 ∧ ∀ k, k < (tRec hn hist cur).1 → aInv B ((tRec hn hist cur).2 k) := by
  unfold tRec
  by_cases e : hn = 8
  · rw [if_pos e]
    refine ⟨Nat.le_refl 8, fun k hk => ?_⟩
    have hk : k < 8 := hk
    show aInv B (va_up (fun j => hist (j + 1)) 7 cur k)
    by_cases e7 : k = 7
    · subst e7; rw [va_up_self]; exact hc
    · rw [va_up_ne _ _ e7]; exact h (k + 1) (by omega)
  · rw [if_neg e]
    refine ⟨by show hn + 1 ≤ 8; omega, fun k hk => ?_⟩
    have hk : k < hn + 1 := hk
    show aInv B (va_up hist hn cur k)
    by_cases e7 : k = hn
    · subst e7; rw [va_up_self]; exact hc
    · rw [va_up_ne _ _ e7]; exact h k (by omega)
theorem lChr_nar2 (x : Int32) : narrow .char (.int (lChr x)) = .int (lChr x) := by
  have h := lChr_nar x
  show Value.int _ = Value.int _
  exact congrArg Value.int h
section
variable {ic : Nat → Int32} {n : Nat}
theorem kSkip_le {L : List Nat} {p e : Nat} (hp : p ≤ n) (h : kSkip ic n L p = .inl e) : e ≤ n := by
  have := mSk_le (ic := ic) (n := n) (L := L) (s := (p, false)) hp
  rw [mSk_f, h] at this
  exact this
theorem kNum_le {k p e : Nat} (hp : p ≤ n) (h : kNum ic n k p = .inl e) : e ≤ n := by
  have := mNu_le (ic := ic) (n := n) (k := k) (s := (p, false)) hp
  rw [mNu_f, h] at this
  exact this
theorem kOne_le {k p e : Nat} (hp : p ≤ n) (h : kOne ic n k p = .inl e) : e ≤ n := by
  unfold kOne at h
  cases hk : kNum ic n k p with
  | inl x => rw [hk] at h; cases h; exact kNum_le hp hk
  | inr z => rw [hk] at h; cases h
theorem kTwo_le {k k2 p e : Nat} (hp : p ≤ n) (h : kTwo ic n k k2 p = .inl e) : e ≤ n := by
  unfold kTwo at h
  cases hk : kNum ic n k p with
  | inl x => rw [hk] at h; cases h; exact kNum_le hp hk
  | inr z =>
    rw [hk] at h
    obtain ⟨p1, a⟩ := z
    dsimp only at h
    cases hk2 : kNum ic n k2 p1 with
    | inl x => rw [hk2] at h; cases h; exact kNum_le (kNum_end hk).2 hk2
    | inr z => rw [hk2] at h; cases h
theorem kThree_le {p e : Nat} (hp : p ≤ n) (h : kThree ic n p = .inl e) : e ≤ n := by
  unfold kThree at h
  cases hk : kTwo ic n 0 0 p with
  | inl x => rw [hk] at h; cases h; exact kTwo_le hp hk
  | inr z =>
    rw [hk] at h
    obtain ⟨p1, a⟩ := z
    dsimp only at h
    cases hk2 : kNum ic n 1 p1 with
    | inl x => rw [hk2] at h; cases h; exact kNum_le (kTwo_end hk).2 hk2
    | inr z => rw [hk2] at h; cases h
theorem kArg_le {k p e : Nat} (hp : p ≤ n) (h : kArg ic n k p = .inl e) : e ≤ n := by
  match k, h with
  | 0, h => cases h
  | 1, h => exact kOne_le hp h
  | 2, h => exact kOne_le hp h
  | 3, h => exact kOne_le hp h
  | 4, h =>
    unfold kArg at h
    cases hk : kAt ic n p (nI 32) (nI 32) with
    | false => rw [hk] at h; cases h
    | true => rw [hk] at h; exact kOne_le hp h
  | 5, h => exact kTwo_le hp h
  | k + 6, h => exact kThree_le hp h
theorem kCmd_le {p e : Nat} (hp : p ≤ n) (h : kCmd ic n p = .inl e) : e ≤ n := by
  unfold kCmd at h
  cases hk : kSkip ic n (kB (kKw ic n p)) p with
  | inl x => rw [hk] at h; cases h; exact kSkip_le hp hk
  | inr p1 =>
    rw [hk] at h
    dsimp only at h
    cases ha : kArg ic n (kKw ic n p) p1 with
    | inl x => rw [ha] at h; cases h; exact kArg_le (kSkip_end hp hk).2 ha
    | inr z => rw [ha] at h; cases h
theorem kRest_le : ∀ (f p : Nat) {e : Nat}, p ≤ n → kRest ic n f p = .inl e → e ≤ n
  | 0, p, e, hp, h => by cases h; exact hp
  | f + 1, p, e, hp, h => by
    unfold kRest at h
    cases hb : Nat.blt p n with
    | false => rw [hb] at h; cases h
    | true =>
      rw [hb] at h
      dsimp only [cond_true] at h
      cases hc : kAt ic n p (nI 59) (nI 59) with
      | false => rw [hc] at h; cases h; exact hp
      | true =>
        rw [hc] at h
        dsimp only [cond_true] at h
        cases hk : kCmd ic n (p + 1) with
        | inl x => rw [hk] at h; cases h; exact kCmd_le (Nat.blt_eq.mp hb) hk
        | inr z =>
          obtain ⟨p2, k2, v2⟩ := z
          rw [hk] at h
          dsimp only at h
          cases hr : kRest ic n f p2 with
          | inl x => rw [hr] at h; cases h; exact kRest_le f p2 (kCmd_end (Nat.blt_eq.mp hb) hk).2 hr
          | inr cs => rw [hr] at h; cases h
theorem kAll_le {e : Nat} (h : kAll ic n = .inl e) : e ≤ n := by
  unfold kAll at h
  cases hk : kCmd ic n 0 with
  | inl x => rw [hk] at h; cases h; exact kCmd_le (Nat.zero_le _) hk
  | inr z =>
    obtain ⟨p2, k2, v2⟩ := z
    rw [hk] at h
    dsimp only at h
    cases hr : kRest ic n (n + 1) p2 with
    | inl x => rw [hr] at h; cases h; exact kRest_le (n + 1) p2 (kCmd_end (Nat.zero_le _) hk).2 hr
    | inr cs => rw [hr] at h; cases h
end
theorem aRun_lt : ∀ (cs : List (Nat × kV)) {i : Nat} {S : aS} {z : Nat × Nat}, aRun cs i S = .inl z → z.1 < i + cs.length
  | [], i, S, z, h => by cases h
  | c :: cs, i, S, z, h => by
    unfold aRun at h
    rw [List.length_cons]
    cases hD : aDo c.1 c.2 S with
    | inl p => rw [hD] at h; cases h; show i < _; omega
    | inr y => rw [hD] at h; have := aRun_lt cs h; omega
theorem lCl_of (hG : ∀ B S, B < 90000 → aInv B S → gA S ∧ gB S ∧ gN S) : lCl lP0 := by
  intro c cur hn hist sv n ic on oc J hc ⟨h1, ⟨h2, h3⟩, h4, ⟨h5, h6⟩, ⟨h7, h8⟩, h9, h10, h11⟩
  obtain ⟨gA1, gB1, gN1⟩ := hG _ _ (by omega : 3000 * c < 90000) h1
  have up : ∀ {S : aS}, aInv (3000 * c) S → aInv (3000 * (c + 1)) S := fun h => h.mono (by omega)
  have hrec := tRec_inv h2 h3 h1
  have hkw : ∀ cs, kAll ic n = .inr cs → kWf cs cur ∧ ∀ T, aRun cs 0 cur = .inr T → aInv (3000 * (c + 1)) T := by
    intro cs e
    obtain ⟨e1, e2⟩ := kAll_ok e
    obtain ⟨r1, r2⟩ := aInv.run (i := 0) cs e2 (by omega) h1
    exact ⟨r1, fun T hT => (r2 T hT).mono (by omega)⟩
  have hsv : ∀ T, sv = some T → aInv (3000 * (c + 1)) T := fun T e => up (h4 T e)
  have hhi : ∀ k, k < hn → aInv (3000 * (c + 1)) (hist k) := fun k hk => up (h3 k hk)
  have htx := txt_fine gA1.1 gA1.2.2.2.2.2.1 (fun _ => nI 0) cur.nl (Nat.le_refl _)
  have hnl := gA1.1.2.1
  refine ⟨⟨gA1, gB1, gN1, ⟨h9, h10, h11⟩, ⟨h7, h8⟩, ⟨h5, h6⟩, ⟨h2, fun k hk => (h3 k hk).1⟩, fun T e => (h4 T e).1, fun cs e => (hkw cs e).1⟩, ⟨up h1, ⟨h2, hhi⟩, hsv, ⟨h5, h6⟩, ⟨h7, h8⟩, h9, h10, h11⟩, fun k v z hk hz => ?_, fun x hx => ?_, fun e he => ?_, fun cs z he hz => ?_, fun cs T he hz => ?_, ?_, fun hne => ?_, ?_, fun S hS => ?_⟩
  · exact ⟨(h1.do hk (by omega) hz).mono (by omega), ⟨hrec.1, fun k hk => up (hrec.2 k hk)⟩, hsv, ⟨h5, h6⟩, ⟨h7, h8⟩, h9, h10, h11⟩
  · refine ⟨up h1, ⟨h2, hhi⟩, hsv, ⟨hx, fun j hj => ?_⟩, ⟨h7, h8⟩, h9, h10, h11⟩
    show narrow .char (.int (va_up ic n (lChr x) j)) = .int (va_up ic n (lChr x) j)
    by_cases e : j = n
    · subst e; rw [va_up_self]; exact lChr_nar2 x
    · rw [va_up_ne _ _ e]; exact h6 j (by omega)
  · have := kAll_le he
    exact ⟨up h1, ⟨h2, hhi⟩, hsv, ⟨Nat.zero_le _, fun j hj => absurd hj (Nat.not_lt_zero j)⟩, ⟨h7, h8⟩, Or.inr (nI_le (Nat.zero_le _) (by omega)), h10, h11⟩
  · have h12 := aRun_lt cs hz
    obtain ⟨e1, e2⟩ := kAll_ok he
    exact ⟨up h1, ⟨h2, hhi⟩, hsv, ⟨Nat.zero_le _, fun j hj => absurd hj (Nat.not_lt_zero j)⟩, ⟨h7, h8⟩, h9, Or.inr (nI_le (Nat.zero_le _) (by omega)), rsN_nar⟩
  · exact ⟨(hkw cs he).2 T hz, ⟨hrec.1, fun k hk => up (hrec.2 k hk)⟩, hsv, ⟨Nat.zero_le _, fun j hj => absurd hj (Nat.not_lt_zero j)⟩, ⟨h7, h8⟩, h9, h10, h11⟩
  · exact ⟨up h1, ⟨h2, hhi⟩, hsv, ⟨h5, h6⟩, ⟨htx.2, by omega⟩, h9, h10, h11⟩
  · exact ⟨hhi (hn - 1) (by omega), ⟨by omega, fun k hk => hhi k (by omega)⟩, hsv, ⟨h5, h6⟩, ⟨h7, h8⟩, h9, h10, h11⟩
  · exact ⟨up h1, ⟨h2, hhi⟩, fun T e => by cases e; exact up h1, ⟨h5, h6⟩, ⟨h7, h8⟩, h9, h10, h11⟩
  · exact ⟨hsv S hS, ⟨Nat.zero_le _, fun k hk => absurd hk (Nat.not_lt_zero k)⟩, hsv, ⟨h5, h6⟩, ⟨h7, h8⟩, h9, h10, h11⟩
theorem lP_start : lP0 0 aS0 0 (fun _ => aS0) none 0 (fun _ => nI 0) 0 (fun _ => nI 0) oI0 := by
  refine ⟨aInv0, ⟨Nat.zero_le _, fun k hk => absurd hk (Nat.not_lt_zero k)⟩, (fun T e => nomatch e), ⟨Nat.zero_le _, fun j hj => absurd hj (Nat.not_lt_zero j)⟩, ⟨fun j hj => absurd hj (Nat.not_lt_zero j), Nat.zero_le _⟩, Or.inl rfl, Or.inl rfl, rfl⟩
