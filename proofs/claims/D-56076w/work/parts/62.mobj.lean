set_option maxRecDepth 100000
/-! THE MODEL WHOLE: the state cur, the hn states hist behind it, the saved one sv, n signs ic fed, on signs oc written; J: places and reason of errors -/
def mR (I : Nat → Int32) (F : Nat → Nat → Int32) (J : Nat → Int32) (cur : aS) (hn : Nat) (hist : Nat → aS) (sv : Option aS) (n : Nat) (ic : Nat → Int32) (on : Nat) (oc : Nat → Int32) : Prop :=
  fS (F 0) cur ∧ (hn ≤ 8 ∧ I 1 = nI hn ∧ ∀ k, k < hn → fS (fun j => F 4 (81 * k + j)) (hist k)) ∧ (match sv with | none => I 0 = nI 0 | some T => I 0 = nI 1 ∧ fS (F 3) T) ∧ (I 3 = nI on ∧ on ≤ 120 ∧ ∀ i, i < on → F 5 i = oc i) ∧ (I 4 = nI n ∧ n ≤ 60 ∧ ∀ i, i < n → F 6 i = ic i) ∧ I 7 = J 1 ∧ I 8 = J 2 ∧ I 9 = J 3
def isMm (w : wdW) (m : Nat) (A : Nat → Nat) (t : Int32) (J : Nat → Int32) (cur : aS) (hn : Nat) (hist : Nat → aS) (sv : Option aS) (n : Nat) (ic : Nat → Int32) (on : Nat) (oc : Nat → Int32) : Prop :=
  ∃ (I : Nat → Int32) (F : Nat → Nat → Int32), isM w m A I F ∧ I 2 = t ∧ mR I F J cur hn hist sv n ic on oc
theorem isM.mto {w w' : wdW} {m : Nat} {A : Nat → Nat} {I : Nat → Int32} {F : Nat → Nat → Int32} (h : isM w m A I F) (e1 : ∀ p, w.1 2 m = some p → w'.1 2 m = some p) (e2 : ∀ i p, i < 8 → w.1 (mK i) (A i) = some p → w'.1 (mK i) (A i) = some p) : isM w' m A I F :=
  ⟨e1 _ h.1, fun i hi => e2 i _ hi (h.2.1 i hi), h.2.2⟩
section
variable {I I' : Nat → Int32} {F F' : Nat → Nat → Int32} {J : Nat → Int32} {cur : aS} {hn : Nat} {hist : Nat → aS} {sv : Option aS} {n : Nat} {ic : Nat → Int32} {on : Nat} {oc : Nat → Int32}
theorem mR.to {cur' : aS} (h : mR I F J cur hn hist sv n ic on oc) (e0 : I' 0 = I 0) (e1 : I' 1 = I 1) (e3 : I' 3 = I 3) (e4 : I' 4 = I 4) (e7 : I' 7 = I 7) (e8 : I' 8 = I 8) (e9 : I' 9 = I 9) (f0 : fS (F' 0) cur') (f3 : F' 3 = F 3) (f4 : F' 4 = F 4) (f5 : F' 5 = F 5) (f6 : F' 6 = F 6) : mR I' F' J cur' hn hist sv n ic on oc := by
  obtain ⟨h0, ⟨h1, h2, h3⟩, h4, ⟨h5, h6, h7⟩, ⟨h8, h9, h10⟩, h11, h12, h13⟩ := h
  refine ⟨f0, ⟨h1, e1.trans h2, by rw [f4]; exact h3⟩, ?_, ⟨e3.trans h5, h6, by rw [f5]; exact h7⟩, ⟨e4.trans h8, h9, by rw [f6]; exact h10⟩, e7.trans h11, e8.trans h12, e9.trans h13⟩
  cases sv with
  | none => exact e0.trans h4
  | some T => exact ⟨e0.trans h4.1, by rw [f3]; exact h4.2⟩
theorem mR.i2 (h : mR I F J cur hn hist sv n ic on oc) (x : Int32) : mR (va_up I 2 x) F J cur hn hist sv n ic on oc := h.to rfl rfl rfl rfl rfl rfl rfl h.1 rfl rfl rfl rfl
end
def rT {α : Type} (r : Nat ⊕ α) : Int32 := match r with
  | .inl p => nI p
  | .inr _ => nI 0
def qV (v0 : Value) (r : Nat ⊕ Value) : Value := match r with
  | .inl _ => v0
  | .inr v => v
/-- a question of the model's: r says what is thrown, or the answer -/
def mA (m : Nat) (A : Nat → Nat) (J : Nat → Int32) (cur : aS) (hn : Nat) (hist : Nat → aS) (sv : Option aS) (n : Nat) (ic : Nat → Int32) (on : Nat) (oc : Nat → Int32) (v0 : Value) (r : Nat ⊕ Value) (w : wdW) : wdO → wdW → Prop := fun o w' =>
  o = .inl (some (qV v0 r)) ∧ isMm w' m A (rT r) J cur hn hist sv n ic on oc ∧ mFr m A w w'
/-- a command of the model's -/
def mD (m : Nat) (A : Nat → Nat) (J : Nat → Int32) (cur : aS) (hn : Nat) (hist : Nat → aS) (sv : Option aS) (n : Nat) (ic : Nat → Int32) (on : Nat) (oc : Nat → Int32) (r : aR) (w : wdW) : wdO → wdW → Prop := fun o w' =>
  o = .inl (some (.int (rV r))) ∧ mFr m A w w' ∧ match r with
  | .inl p => isMm w' m A (nI p) J cur hn hist sv n ic on oc
  | .inr z => isMm w' m A (nI 0) J z.2 (tRec hn hist cur).1 (tRec hn hist cur).2 sv n ic on oc
/-! rows copied -/
theorem fS.cong {f f' : Nat → Int32} {S : aS} (h : fS f S) (hW : aWf S) (e : ∀ j, j < 81 → f' j = f j) : fS f' S := by
  obtain ⟨w1, w2, w3, -⟩ := hW
  obtain ⟨⟨a0, a1, a2, a3, a4, a5, a6⟩, b, c, d⟩ := h
  refine ⟨⟨(e 0 (by omega)).trans a0, (e 1 (by omega)).trans a1, (e 2 (by omega)).trans a2, (e 3 (by omega)).trans a3, (e 4 (by omega)).trans a4, (e 5 (by omega)).trans a5, (e 6 (by omega)).trans a6⟩, fun k hk => ?_, fun k hk => ?_, fun k hk => ?_⟩
  · obtain ⟨b0, b1, b2⟩ := b k hk
    exact ⟨(e _ (by omega)).trans b0, (e _ (by omega)).trans b1, (e _ (by omega)).trans b2⟩
  · obtain ⟨c0, c1, c2, c3, c4⟩ := c k hk
    exact ⟨(e _ (by omega)).trans c0, (e _ (by omega)).trans c1, (e _ (by omega)).trans c2, (e _ (by omega)).trans c3, (e _ (by omega)).trans c4⟩
  · obtain ⟨d0, d1⟩ := d k hk
    exact ⟨(e _ (by omega)).trans d0, (e _ (by omega)).trans d1⟩
theorem cpy_in {α : Type} (f g : Nat → α) {sp dp n j : Nat} (h : j < n) : va_cpy f g sp dp n (dp + j) = f (sp + j) := by
  unfold va_cpy
  rw [if_pos ⟨by omega, by omega⟩]
  congr 1
  omega
theorem cpy_out {α : Type} (f g : Nat → α) {sp dp n j : Nat} (h : j < dp ∨ dp + n ≤ j) : va_cpy f g sp dp n j = g j := by
  unfold va_cpy
  rw [if_neg (by omega)]
theorem fS.cpy0 {f : Nat → Int32} {S : aS} (h : fS f S) (hW : aWf S) (g : Nat → Int32) : fS (va_cpy f g 0 0 81) S :=
  h.cong hW (fun j hj => by have := cpy_in f g (sp := 0) (dp := 0) hj; simpa using this)
/-- the history, with the state of before recorded -/
theorem hist_rec {P B : Nat → Int32} {cur : aS} {hn : Nat} {hist : Nat → aS} (h8 : hn ≤ 8) (hB : fS B cur) (hW : aWf cur) (hWh : ∀ k, k < hn → aWf (hist k)) (hP : ∀ k, k < hn → fS (fun j => P (81 * k + j)) (hist k)) :
    ∀ k, k < (tRec hn hist cur).1 → fS (fun j => va_cpy B (if hn = 8 then va_cpy P P 81 0 567 else P) 0 (81 * ((tRec hn hist cur).1 - 1)) 81 (81 * k + j)) ((tRec hn hist cur).2 k) := by
  obtain ⟨tr, htr⟩ : ∃ t, t = tRec hn hist cur := ⟨_, rfl⟩
  rw [← htr]
  unfold tRec at htr
  by_cases e : hn = 8
  · rw [if_pos e] at htr
    subst htr
    rw [if_pos e]
    intro k hk
    have hk' : k < 8 := hk
    show fS (fun j => va_cpy B (va_cpy P P 81 0 567) 0 (81 * 7) 81 (81 * k + j)) (va_up (fun j => hist (j + 1)) 7 cur k)
    by_cases e7 : k = 7
    · subst e7
      rw [va_up_self]
      exact hB.cong hW (fun j hj => by rw [cpy_in _ _ hj, Nat.zero_add])
    · rw [va_up_ne _ _ e7]
      refine (hP (k + 1) (by omega)).cong (hWh (k + 1) (by omega)) (fun j hj => ?_)
      rw [cpy_out _ _ (Or.inl (by omega))]
      have := cpy_in P P (sp := 81) (dp := 0) (n := 567) (j := 81 * k + j) (by omega)
      rw [Nat.zero_add] at this
      rw [this]
      congr 1
      omega
  · rw [if_neg e] at htr
    subst htr
    rw [if_neg e]
    intro k hk
    have hk' : k < hn + 1 := hk
    show fS (fun j => va_cpy B P 0 (81 * (hn + 1 - 1)) 81 (81 * k + j)) (va_up hist hn cur k)
    rw [Nat.add_sub_cancel]
    by_cases e7 : k = hn
    · subst e7
      rw [va_up_self]
      exact hB.cong hW (fun j hj => by rw [cpy_in _ _ hj, Nat.zero_add])
    · rw [va_up_ne _ _ e7]
      refine (hP k (by omega)).cong (hWh k (by omega)) (fun j hj => ?_)
      rw [cpy_out _ _ (Or.inl (by omega))]
