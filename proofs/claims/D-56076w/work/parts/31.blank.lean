set_option maxRecDepth 100000
/-! BLANK OBJECTS -/
abbrev wdB0 : List Value := [.null, .null, .null, .null, .int 0, .int 0, .int 0, .int 0, .null]
theorem wdBl0 : wdBlank 0 wdB0 := fun r hr j hj => by
  cases hr
  match j, hj with
  | 0, _ => exact ⟨.object "LampLeaseOffice$State", rfl, rfl⟩
  | 1, _ => exact ⟨.object "java/util/ArrayList", rfl, rfl⟩
  | 2, _ => exact ⟨.object "LampLeaseOffice$State", rfl, rfl⟩
  | 3, _ => exact ⟨.array .char, rfl, rfl⟩
  | 4, _ => exact ⟨.int, rfl, rfl⟩
  | 5, _ => exact ⟨.int, rfl, rfl⟩
  | 6, _ => exact ⟨.int, rfl, rfl⟩
  | 7, _ => exact ⟨.char, rfl, rfl⟩
  | 8, _ => exact ⟨.object "java/lang/StringBuilder", rfl, rfl⟩
  | j + 9, h => exact absurd h (by show ¬ j + 9 < 9; omega)
abbrev wdB1 : List Value := [.null, .null, .null, .int 0, .int 0, .int 0, .int 0]
theorem wdBl1 : wdBlank 1 wdB1 := fun r hr j hj => by
  cases hr
  match j, hj with
  | 0, _ => exact ⟨.object "java/util/ArrayList", rfl, rfl⟩
  | 1, _ => exact ⟨.object "java/util/ArrayList", rfl, rfl⟩
  | 2, _ => exact ⟨.object "java/util/ArrayList", rfl, rfl⟩
  | 3, _ => exact ⟨.int, rfl, rfl⟩
  | 4, _ => exact ⟨.int, rfl, rfl⟩
  | 5, _ => exact ⟨.int, rfl, rfl⟩
  | 6, _ => exact ⟨.int, rfl, rfl⟩
  | j + 7, h => exact absurd h (by show ¬ j + 7 < 7; omega)
abbrev wdB2 : List Value := [.null, .null, .null, .null, .int 0, .null, .int 0, .int 0, .null, .int 0, .null, .int 0, .int 0, .int 0, .int 0, .int 0, .int 0, .null, .int 0]
theorem wdBl2 : wdBlank 2 wdB2 := fun r hr j hj => by
  cases hr
  match j, hj with
  | 0, _ => exact ⟨.array .int, rfl, rfl⟩
  | 1, _ => exact ⟨.array .int, rfl, rfl⟩
  | 2, _ => exact ⟨.array .int, rfl, rfl⟩
  | 3, _ => exact ⟨.array .int, rfl, rfl⟩
  | 4, _ => exact ⟨.boolean, rfl, rfl⟩
  | 5, _ => exact ⟨.array .int, rfl, rfl⟩
  | 6, _ => exact ⟨.int, rfl, rfl⟩
  | 7, _ => exact ⟨.int, rfl, rfl⟩
  | 8, _ => exact ⟨.array .char, rfl, rfl⟩
  | 9, _ => exact ⟨.int, rfl, rfl⟩
  | 10, _ => exact ⟨.array .char, rfl, rfl⟩
  | 11, _ => exact ⟨.int, rfl, rfl⟩
  | 12, _ => exact ⟨.int, rfl, rfl⟩
  | 13, _ => exact ⟨.boolean, rfl, rfl⟩
  | 14, _ => exact ⟨.int, rfl, rfl⟩
  | 15, _ => exact ⟨.int, rfl, rfl⟩
  | 16, _ => exact ⟨.char, rfl, rfl⟩
  | 17, _ => exact ⟨.array .int, rfl, rfl⟩
  | 18, _ => exact ⟨.int, rfl, rfl⟩
  | j + 19, h => exact absurd h (by show ¬ j + 19 < 19; omega)
abbrev wdB3 : List Value := [.int 0, .int 0, .int 0]
theorem wdBl3 : wdBlank 3 wdB3 := fun r hr j hj => by
  cases hr
  match j, hj with
  | 0, _ => exact ⟨.int, rfl, rfl⟩
  | 1, _ => exact ⟨.int, rfl, rfl⟩
  | 2, _ => exact ⟨.int, rfl, rfl⟩
  | j + 3, h => exact absurd h (by show ¬ j + 3 < 3; omega)
abbrev wdB4 : List Value := [.int 0, .int 0, .int 0, .int 0, .int 0]
theorem wdBl4 : wdBlank 4 wdB4 := fun r hr j hj => by
  cases hr
  match j, hj with
  | 0, _ => exact ⟨.int, rfl, rfl⟩
  | 1, _ => exact ⟨.int, rfl, rfl⟩
  | 2, _ => exact ⟨.int, rfl, rfl⟩
  | 3, _ => exact ⟨.int, rfl, rfl⟩
  | 4, _ => exact ⟨.boolean, rfl, rfl⟩
  | j + 5, h => exact absurd h (by show ¬ j + 5 < 5; omega)
abbrev wdB5 : List Value := [.null, .null, .null, .null, .null, .int 0]
theorem wdBl5 : wdBlank 5 wdB5 := fun r hr j hj => by
  cases hr
  match j, hj with
  | 0, _ => exact ⟨.object "java/lang/Throwable", rfl, rfl⟩
  | 1, _ => exact ⟨.array (.object "java/lang/StackTraceElement"), rfl, rfl⟩
  | 2, _ => exact ⟨.object "java/util/List", rfl, rfl⟩
  | 3, _ => exact ⟨.object "java/lang/String", rfl, rfl⟩
  | 4, _ => exact ⟨.object "java/lang/Object", rfl, rfl⟩
  | 5, _ => exact ⟨.int, rfl, rfl⟩
  | j + 6, h => exact absurd h (by show ¬ j + 6 < 6; omega)
abbrev wdB6 : List Value := [.int 0, .int 0]
theorem wdBl6 : wdBlank 6 wdB6 := fun r hr j hj => by
  cases hr
  match j, hj with
  | 0, _ => exact ⟨.int, rfl, rfl⟩
  | 1, _ => exact ⟨.int, rfl, rfl⟩
  | j + 2, h => exact absurd h (by show ¬ j + 2 < 2; omega)
abbrev wdB7 : List Value := [.int 0, .int 0, .int 0, .int 0, .null]
theorem wdBl7 : wdBlank 7 wdB7 := fun r hr j hj => by
  cases hr
  match j, hj with
  | 0, _ => exact ⟨.int, rfl, rfl⟩
  | 1, _ => exact ⟨.int, rfl, rfl⟩
  | 2, _ => exact ⟨.int, rfl, rfl⟩
  | 3, _ => exact ⟨.int, rfl, rfl⟩
  | 4, _ => exact ⟨.object "LampLeaseOffice", rfl, rfl⟩
  | j + 5, h => exact absurd h (by show ¬ j + 5 < 5; omega)
abbrev wdB8 : List Value := [.null, .null, .null, .null, .null, .int 0, .int 0]
theorem wdBl8 : wdBlank 8 wdB8 := fun r hr j hj => by
  cases hr
  match j, hj with
  | 0, _ => exact ⟨.object "java/lang/Throwable", rfl, rfl⟩
  | 1, _ => exact ⟨.array (.object "java/lang/StackTraceElement"), rfl, rfl⟩
  | 2, _ => exact ⟨.object "java/util/List", rfl, rfl⟩
  | 3, _ => exact ⟨.object "java/lang/String", rfl, rfl⟩
  | 4, _ => exact ⟨.object "java/lang/Object", rfl, rfl⟩
  | 5, _ => exact ⟨.int, rfl, rfl⟩
  | 6, _ => exact ⟨.int, rfl, rfl⟩
  | j + 7, h => exact absurd h (by show ¬ j + 7 < 7; omega)
abbrev wdB9 : List Value := [.null, .null, .null, .null, .null, .int 0, .int 0]
theorem wdBl9 : wdBlank 9 wdB9 := fun r hr j hj => by
  cases hr
  match j, hj with
  | 0, _ => exact ⟨.object "java/lang/Throwable", rfl, rfl⟩
  | 1, _ => exact ⟨.array (.object "java/lang/StackTraceElement"), rfl, rfl⟩
  | 2, _ => exact ⟨.object "java/util/List", rfl, rfl⟩
  | 3, _ => exact ⟨.object "java/lang/String", rfl, rfl⟩
  | 4, _ => exact ⟨.object "java/lang/Object", rfl, rfl⟩
  | 5, _ => exact ⟨.int, rfl, rfl⟩
  | 6, _ => exact ⟨.int, rfl, rfl⟩
  | j + 7, h => exact absurd h (by show ¬ j + 7 < 7; omega)
abbrev wdB10 : List Value := [.int 0, .null, .int 0]
theorem wdBl10 : wdBlank 10 wdB10 := fun r hr j hj => by
  cases hr
  match j, hj with
  | 0, _ => exact ⟨.int, rfl, rfl⟩
  | 1, _ => exact ⟨.array (.object "java/lang/Object"), rfl, rfl⟩
  | 2, _ => exact ⟨.int, rfl, rfl⟩
  | j + 3, h => exact absurd h (by show ¬ j + 3 < 3; omega)
abbrev wdB11 : List Value := [.int 0, .int 0, .int 0, .null]
theorem wdBl11 : wdBlank 11 wdB11 := fun r hr j hj => by
  cases hr
  match j, hj with
  | 0, _ => exact ⟨.int, rfl, rfl⟩
  | 1, _ => exact ⟨.int, rfl, rfl⟩
  | 2, _ => exact ⟨.int, rfl, rfl⟩
  | 3, _ => exact ⟨.object "java/util/ArrayList", rfl, rfl⟩
  | j + 4, h => exact absurd h (by show ¬ j + 4 < 4; omega)
abbrev wdB12 : List Value := [.null, .int 0, .int 0, .int 0]
theorem wdBl12 : wdBlank 12 wdB12 := fun r hr j hj => by
  cases hr
  match j, hj with
  | 0, _ => exact ⟨.array .byte, rfl, rfl⟩
  | 1, _ => exact ⟨.byte, rfl, rfl⟩
  | 2, _ => exact ⟨.boolean, rfl, rfl⟩
  | 3, _ => exact ⟨.int, rfl, rfl⟩
  | j + 4, h => exact absurd h (by show ¬ j + 4 < 4; omega)
/-- an object is stored, null is stored, at a known place -/
theorem WW.aastK {X : wdX} {kc ks pc a n v : Nat} {f f' : Nat → Option Nat} {i : Int32} {lv : List (Nat × Value)} {rest : List Value} {w : wdW} (j : Nat) (ht : X.M.tab pc = some (.aastore, 1)) (hc : w.1 37 a = some (.inr (n, .inr (.inr (.inr (.inr f)))))) (hv : ∃ (ci : Nat) (fs : List Value) (r : vw_C), w.1 ci v = some (.inl fs) ∧ wdCl[ci]? = some r ∧ (Cond.castable r.1 "java/lang/Object") ∈ wdNw) (hi : i = nI j) (hj : j < n) (hn : n < 2 ^ 31) (hf : va_up f j (some v) = f')
    (kk : WW X kc ks (pc + 1) lv rest (wPut w 37 a (.inr (n, .inr (.inr (.inr (.inr f'))))))) : WW X kc ks pc lv (.ref v :: .int i :: .ref a :: rest) w := by
  subst hi
  have e : (nI j).toNatClampNeg = j := nI_clamp (by omega)
  obtain ⟨ci, fs, r, h1, h2, h3⟩ := hv
  exact WW.aast ht hc h1 h2 h3 (vp_in_nI hj hn) (by rw [e]; exact hf) kk
theorem WW.aastNN {X : wdX} {kc ks pc a n : Nat} {f f' : Nat → Option Nat} {i : Int32} {lv : List (Nat × Value)} {rest : List Value} {w : wdW} (j : Nat) (ht : X.M.tab pc = some (.aastore, 1)) (hc : w.1 37 a = some (.inr (n, .inr (.inr (.inr (.inr f)))))) (hi : i = nI j) (hj : j < n) (hn : n < 2 ^ 31) (hf : va_up f j none = f')
    (kk : WW X kc ks (pc + 1) lv rest (wPut w 37 a (.inr (n, .inr (.inr (.inr (.inr f'))))))) : WW X kc ks pc lv (.null :: .int i :: .ref a :: rest) w := by
  subst hi
  have e : (nI j).toNatClampNeg = j := nI_clamp (by omega)
  exact WW.aastN ht hc (vp_in_nI hj hn) (by rw [e]; exact hf) kk
