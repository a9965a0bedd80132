set_option maxRecDepth 100000
section
variable {B : Nat} {S : aS}
theorem aInv.ends (h : aInv B S) : aEnds 600 S := by
  obtain ⟨hW, x, q, cc, ff, v, d, hb, ⟨a1, a2, a3⟩, a4, a5, a6, a7⟩ := h
  intro i hi hl
  obtain ⟨c5, c6, c7⟩ := (a5 i hi).2.2.2 hl
  exact ⟨d i, c6 hi, by omega, by rw [c5, a1, nI_add]⟩
theorem aInv.shB (h : aInv B S) : aShB S := by
  obtain ⟨hW, x, q, cc, ff, v, d, hb, a1, a4, -⟩ := h
  intro k hk
  obtain ⟨b1, b2, b3⟩ := a4 k hk
  exact ⟨cc k, ff k, by omega, by omega, b1, b2⟩
theorem aInv.tx (h : aInv B S) (hB : B < 90000) : aTx S := by
  obtain ⟨hW, x, q, cc, ff, v, d, hb, a1, a4, a5, -⟩ := h
  intro i hi
  obtain ⟨c1, c2, c3, c4⟩ := a5 i hi
  by_cases hl : 0 < (S.la i).le
  · obtain ⟨c5, c6, c7⟩ := c4 hl
    exact ⟨v i, x + d i, by omega, by omega, c1, fun _ => c5⟩
  · exact ⟨v i, 0, by omega, by omega, c1, fun q => absurd q hl⟩
theorem aInv.lv (h : aInv B S) : ∀ i, i < S.nl → 0 < (S.la i).le → ∃ m, 1 ≤ m ∧ m ≤ 24 ∧ (S.la i).lv = nI m := by
  obtain ⟨hW, x, q, cc, ff, v, d, hb, a1, a4, a5, -⟩ := h
  intro i hi hl
  obtain ⟨c1, c2, c3, c4⟩ := a5 i hi
  exact ⟨v i, c2, by omega, c1⟩
end
section
variable {B : Nat} {S : aS}
theorem aInv.laB (h : aInv B S) (hB : B < 90000) : aLaB S := by
  obtain ⟨hW, x, q, cc, ff, v, d, hb, a1, a4, a5, -⟩ := h
  intro k hk
  obtain ⟨c1, c2, c3, c4⟩ := a5 k hk
  unfold aS.eE
  by_cases hl : (S.la k).le = 0
  · rw [if_pos hl]
    exact ⟨0, v k, by decide, by omega, rfl, c1⟩
  · rw [if_neg hl]
    obtain ⟨c5, c6, c7⟩ := c4 (Nat.pos_of_ne_zero hl)
    exact ⟨x + d k, v k, by omega, by omega, c5, c1⟩
/-- sums of small numbers -/
theorem aSum_nI {g : Nat → Int32} {f : Nat → Nat} : ∀ n, (∀ i, i < n → g i = nI (f i)) → aSum g n = nI (Nat.rec (motive := fun _ => Nat) 0 (fun i s => s + f i) n)
  | 0, _ => rfl
  | n + 1, h => by
    show aSum g n + g n = _
    rw [aSum_nI n (fun i hi => h i (by omega)), h n (by omega), nI_add]
end
