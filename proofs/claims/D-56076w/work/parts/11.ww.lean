set_option maxRecDepth 100000
/-! THE WORLD: cells by kind and address, and a bound above all of them -/
/-- a cell's content: an object's fields, or an array -/
abbrev wdPay : Type := List Value ⊕ vp_A
abbrev wdW : Type := (Nat → Nat → Option wdPay) × Nat
/-- classes and their slots; array classes by kind; the first address of the run's own; static arrays (0 empty list's, 1 tens, 2 ones, 3 script); strings; their bytes; the script's length and ints -/
abbrev wdG : Type := va_G × (Nat → ClassId) × Nat × (Nat → Nat) × (Nat → Nat) × (Nat → Nat) × Nat × (Nat → Int32)
def wdA (G : wdG) : Nat → Prop := fun q => G.2.2.1 ≤ q
def wdCell (G : wdG) (k a : Nat) (p : wdPay) (H : Heap) : Prop := match p with
  | .inl fs => ∃ (r : vw_C) (cell : Cell), wdCl[k]? = some r ∧ H[a]? = some cell ∧ cell.cls = G.1.1 k ∧ cell.vm = .none ∧ (∀ j, j < r.2.2 → cell.slots[G.1.2 k j]? = some (vp_V fs j)) ∧ (k = 8 ∨ k = 9 → cell.monitor.owner = none ∧ cell.monitor.count = 0)
  | .inr x => H[a]? = some (vp_cell (G.2.1 k) x)
theorem wdCell.kept {G : wdG} {k a : Nat} {p : wdPay} {H H1 : Heap} (h : wdCell G k a p H) (e : H1[a]? = H[a]?) : wdCell G k a p H1 := by
  cases p with
  | inl fs =>
    obtain ⟨r, cell, h1, h2, h3⟩ := h
    exact ⟨r, cell, h1, by rw [e]; exact h2, h3⟩
  | inr x => exact e.trans h
theorem wdCell.lt {G : wdG} {k a : Nat} {p : wdPay} {H : Heap} (h : wdCell G k a p H) : a < H.size := by
  cases p with
  | inl fs =>
    obtain ⟨r, cell, h1, h2, h3⟩ := h
    exact (Array.getElem?_eq_some_iff.mp h2).1
  | inr x => exact (Array.getElem?_eq_some_iff.mp h).1
def wdH (G : wdG) (w : wdW) (H : Heap) : Prop := (∀ k a p, w.1 k a = some p → wdCell G k a p H) ∧ (∀ k k' a p p', w.1 k a = some p → w.1 k' a = some p' → k = k') ∧ (∀ k a p, w.1 k a = some p → G.2.2.1 ≤ a ∧ a < w.2) ∧ w.2 ≤ H.size
def wPut (w : wdW) (k a : Nat) (p : wdPay) : wdW := (fun k' => bif Nat.beq k' k then (fun a' => bif Nat.beq a' a then some p else w.1 k a') else w.1 k', w.2)
def wNew (w : wdW) (k q : Nat) (p : wdPay) : wdW := (fun k' => bif Nat.beq k' k then (fun a' => bif Nat.beq a' q then some p else w.1 k a') else w.1 k', q + 1)
theorem wPut_eq (w : wdW) (k a : Nat) (p : wdPay) (k' a' : Nat) : (wPut w k a p).1 k' a' = if k' = k ∧ a' = a then some p else w.1 k' a' := by
  show (bif Nat.beq k' k then (fun a' => bif Nat.beq a' a then some p else w.1 k a') else w.1 k') a' = _
  by_cases h : k' = k
  · subst h
    have e1 : Nat.beq k' k' = true := Nat.beq_refl k'
    rw [e1]
    by_cases h2 : a' = a
    · subst h2
      have e2 : Nat.beq a' a' = true := Nat.beq_refl a'
      simp [e2]
    · have e2 : Nat.beq a' a = false := by
        cases hb : Nat.beq a' a with
        | false => rfl
        | true => exact absurd (Nat.eq_of_beq_eq_true hb) h2
      simp [e2, h2]
  · have e1 : Nat.beq k' k = false := by
      cases hb : Nat.beq k' k with
      | false => rfl
      | true => exact absurd (Nat.eq_of_beq_eq_true hb) h
    rw [e1]
    simp [h]
theorem wNew_eq (w : wdW) (k q : Nat) (p : wdPay) (k' a' : Nat) : (wNew w k q p).1 k' a' = if k' = k ∧ a' = q then some p else w.1 k' a' := wPut_eq w k q p k' a'
theorem wPut_same (w : wdW) (k a : Nat) (p : wdPay) : (wPut w k a p).1 k a = some p := by rw [wPut_eq, if_pos ⟨rfl, rfl⟩]
theorem wNew_same (w : wdW) (k a : Nat) (p : wdPay) : (wNew w k a p).1 k a = some p := by rw [wNew_eq, if_pos ⟨rfl, rfl⟩]
theorem wPut_ne {w : wdW} {k a : Nat} {p : wdPay} {k' a' : Nat} (h : a' ≠ a) : (wPut w k a p).1 k' a' = w.1 k' a' := by rw [wPut_eq, if_neg (fun q => h q.2)]
theorem wNew_ne {w : wdW} {k a : Nat} {p : wdPay} {k' a' : Nat} (h : a' ≠ a) : (wNew w k a p).1 k' a' = w.1 k' a' := by rw [wNew_eq, if_neg (fun q => h q.2)]
theorem wdH.put {G : wdG} {w : wdW} {H H1 : Heap} {k a : Nat} {p0 p : wdPay} (h : wdH G w H) (h0 : w.1 k a = some p0) (hc : wdCell G k a p H1) (oq : ∀ q : Nat, q ≠ a → H1[q]? = H[q]?) (hz : H.size ≤ H1.size) : wdH G (wPut w k a p) H1 := by
  obtain ⟨h1, h2, h3, h4⟩ := h
  have key : ∀ k' a' p', (wPut w k a p).1 k' a' = some p' → (k' = k ∧ a' = a ∧ p' = p) ∨ (w.1 k' a' = some p' ∧ a' ≠ a) := by
    intro k' a' p' e
    rw [wPut_eq] at e
    by_cases hh : k' = k ∧ a' = a
    · rw [if_pos hh] at e
      exact Or.inl ⟨hh.1, hh.2, (Option.some.inj e).symm⟩
    · rw [if_neg hh] at e
      refine Or.inr ⟨e, fun q => hh ⟨?_, q⟩⟩
      subst q
      exact h2 k' k a' p' p0 e h0
  have dom : ∀ k' a' p', (wPut w k a p).1 k' a' = some p' → ∃ p'', w.1 k' a' = some p'' := by
    intro k' a' p' e
    rcases key k' a' p' e with ⟨e1, e2, -⟩ | ⟨e1, -⟩
    · subst e1; subst e2; exact ⟨p0, h0⟩
    · exact ⟨p', e1⟩
  refine ⟨fun k' a' p' e => ?_, fun k1 k2 a' p1 p2 e1 e2 => ?_, fun k' a' p' e => ?_, Nat.le_trans h4 hz⟩
  · rcases key k' a' p' e with ⟨e1, e2, e3⟩ | ⟨e1, e2⟩
    · subst e1; subst e2; subst e3; exact hc
    · exact (h1 k' a' p' e1).kept (oq a' e2)
  · obtain ⟨q1, g1⟩ := dom _ _ _ e1
    obtain ⟨q2, g2⟩ := dom _ _ _ e2
    exact h2 k1 k2 a' q1 q2 g1 g2
  · obtain ⟨q1, g1⟩ := dom _ _ _ e
    exact h3 k' a' q1 g1
theorem wdH.new {G : wdG} {w : wdW} {H H1 : Heap} {k q : Nat} {p : wdPay} (h : wdH G w H) (hq : q = H.size) (hb : G.2.2.1 ≤ H.size) (hc : wdCell G k q p H1) (oq : ∀ x : Nat, x < H.size → H1[x]? = H[x]?) : wdH G (wNew w k q p) H1 := by
  obtain ⟨h1, h2, h3, h4⟩ := h
  have hl : q < H1.size := hc.lt
  have key : ∀ k' a' p', (wNew w k q p).1 k' a' = some p' → (k' = k ∧ a' = q ∧ p' = p) ∨ (w.1 k' a' = some p' ∧ a' < H.size) := by
    intro k' a' p' e
    rw [wNew_eq] at e
    by_cases hh : k' = k ∧ a' = q
    · rw [if_pos hh] at e
      exact Or.inl ⟨hh.1, hh.2, (Option.some.inj e).symm⟩
    · rw [if_neg hh] at e
      exact Or.inr ⟨e, Nat.lt_of_lt_of_le (h3 k' a' p' e).2 h4⟩
  refine ⟨fun k' a' p' e => ?_, fun k1 k2 a' p1 p2 e1 e2 => ?_, fun k' a' p' e => ?_, hl⟩
  · rcases key k' a' p' e with ⟨e1, e2, e3⟩ | ⟨e1, e2⟩
    · subst e1; subst e2; subst e3; exact hc
    · exact (h1 k' a' p' e1).kept (oq a' e2)
  · rcases key _ _ _ e1 with ⟨a1, a2, -⟩ | ⟨a1, a2⟩ <;> rcases key _ _ _ e2 with ⟨b1, b2, -⟩ | ⟨b1, b2⟩
    · rw [a1, b1]
    · omega
    · omega
    · exact h2 _ _ _ _ _ a1 b1
  · rcases key k' a' p' e with ⟨e1, e2, -⟩ | ⟨e1, e2⟩
    · refine ⟨by omega, ?_⟩
      show a' < q + 1
      omega
    · refine ⟨(h3 k' a' p' e1).1, ?_⟩
      show a' < q + 1
      omega
/-! WHAT HOLDS ALL THROUGH THE RUN: classes, words, statics, strings, the script -/
def wdTys (G : wdG) : List (ClassId × FieldType) := [(G.2.1 32, .int), (G.2.1 33, .char), (G.2.1 34, .byte), (G.2.1 35, .long), (G.2.1 36, .double), (G.2.1 37, .object "java/lang/Object")]
/-- statics that hold a number or one of the known arrays -/
def wdU (G : wdG) (i : Nat) : Value := match G.2.2.2.1 i with
  | 0 => .null
  | a + 1 => .ref a
theorem wdU_nr (G : wdG) (i : Nat) : (wdU G i).isRef = true := by
  unfold wdU
  cases G.2.2.2.1 i <;> rfl
def wdZs (G : wdG) : List (String × String × String × Value) := [("java/lang/String", "COMPACT_STRINGS", "Z", .int 1), ("java/util/ArrayList", "DEFAULTCAPACITY_EMPTY_ELEMENTDATA", "[Ljava/lang/Object;", .ref (G.2.2.2.1 0)), ("java/lang/Integer", "DigitTens", "[B", .ref (G.2.2.2.1 1)), ("java/lang/Integer", "DigitOnes", "[B", .ref (G.2.2.2.1 2)), ("java/lang/Throwable", "UNASSIGNED_STACK", "[Ljava/lang/StackTraceElement;", wdU G 4), ("java/lang/Throwable", "SUPPRESSED_SENTINEL", "Ljava/util/List;", wdU G 5)]
/-- arrays that nobody writes -/
def wdKs (G : wdG) : List (FieldType × Nat × Nat × (Nat → Value)) := [(.object "java/lang/Object", G.2.2.2.1 0, 0, fun _ => .null), (.byte, G.2.2.2.1 1, 100, fun j => .int (nI (48 + j / 10))), (.byte, G.2.2.2.1 2, 100, fun j => .int (nI (48 + j % 10))), (.int, G.2.2.2.1 3, G.2.2.2.2.2.2.1, fun j => .int (G.2.2.2.2.2.2.2 j))]
/-- string i: address, bytes' address -/
abbrev wdSa (G : wdG) : Nat → Nat := G.2.2.2.2.1
abbrev wdSv (G : wdG) : Nat → Nat := G.2.2.2.2.2.1
def wdFw (C : String) (x y : MethodName) (U : State) : Prop := va_Fw C x y U
def wdIt : List (String × MethodName × MethodName) := [("java/util/ArrayList$Itr", ⟨"java/util/Iterator", "hasNext", "()Z"⟩, ⟨"java/util/ArrayList$Itr", "hasNext", "()Z"⟩), ("java/util/ArrayList$Itr", ⟨"java/util/Iterator", "next", "()Ljava/lang/Object;"⟩, ⟨"java/util/ArrayList$Itr", "next", "()Ljava/lang/Object;"⟩)]
/-- private methods that an object of a class below is asked for -/
def wdSx : List (String × MethodName) := [("java/lang/StringBuilder", ⟨"java/lang/AbstractStringBuilder", "ensureCapacityInternal", "(I)V"⟩), ("java/lang/StringBuilder", ⟨"java/lang/AbstractStringBuilder", "newCapacity", "(I)I"⟩), ("java/lang/StringBuilder", ⟨"java/lang/AbstractStringBuilder", "putStringAt", "(ILjava/lang/String;)V"⟩), ("java/lang/StringBuilder", ⟨"java/lang/AbstractStringBuilder", "inflateIfNeededFor", "(Ljava/lang/String;)V"⟩)]
def wdF (l : Launch) (G : wdG) (U : State) (H : Heap) : Prop :=
  l.stackTraces = false ∧ G.2.2.1 ≤ H.size ∧ va_K G.1 wdCl (wdTys G) U ∧ (∀ w ∈ wdNw, va_Nw w U) ∧ (∀ q ∈ wdNc, va_Nc q.1 q.2 U) ∧ (va_AO "java/lang/Object" U ∧ ∀ q ∈ wdSx, (Cond.selects q.1 q.2 q.2).before #[] U = true) ∧ (∀ q ∈ wdIt, va_Fw q.1 q.2.1 q.2.2 U) ∧
  (∀ q ∈ wdZs G, va_Z q.1 q.2.1 q.2.2.1 q.2.2.2 (wdA G) U H) ∧ (wx_Zq Bundle.tN "UNASSIGNED_STACK" Bundle.steD (wdA G) U H ∧ wx_Zq Bundle.tN "SUPPRESSED_SENTINEL" Bundle.listD (wdA G) U H ∧ va_Zq "jdk/internal/util/Preconditions" "SIOOBE_FORMATTER" "Ljava/util/function/BiFunction;" (wdA G) U H) ∧
  (∀ q ∈ wdKs G, va_T q.1 q.2.1 q.2.2.1 q.2.2.2 (wdA G) U H) ∧
  (∀ i q, wdSt[i]? = some q → va_O "java/lang/String" (wdSa G i) (wdA G) U H ∧ va_OF "java/lang/String" "coder" "B" (.int 0) (wdSa G i) (wdA G) U H ∧ va_OF "java/lang/String" "value" "[B" (.ref (wdSv G i)) (wdSa G i) (wdA G) U H ∧ va_OF "java/lang/String" "hash" "I" (.int q.2.2.2.1) (wdSa G i) (wdA G) U H ∧ va_OF "java/lang/String" "hashIsZero" "Z" (.int q.2.2.2.2.1) (wdSa G i) (wdA G) U H ∧
    va_T .byte (wdSv G i) q.2.2.2.2.2.length (fun j => .int (nI (q.2.2.2.2.2.getD j 0))) (wdA G) U H ∧ vk_R q.1 q.2.1 q.2.2.1 (wdSa G i) U)
theorem wdNw_warm {w : Cond} (h : w ∈ wdNw) {s U : State} (hW : s.WarmedH U.vm) (hZ : va_Nw w s) : va_Nw w U := by
  have key : ∀ w : Cond, (match w with | .fieldLinkNest .. => true | .methodLinkNest .. => true | .castable .. => true | .declares .. => true | _ => false) = true → va_Nw w s → va_Nw w U := by
    intro w hw hZ
    cases w with
    | fieldLinkNest a i b n d h => exact va_Nw.warmF hW hZ
    | methodLinkNest a i x h => exact va_Nw.warmM hW hZ
    | castable C T => exact va_Nw.warmC hW hZ
    | declares x => exact va_Nw.warmD hW hZ
    | _ => cases hw
  refine key w ?_ hZ
  have hall : wdNw.all (fun w => match w with | .fieldLinkNest .. => true | .methodLinkNest .. => true | .castable .. => true | .declares .. => true | _ => false) = true := by decide +kernel
  exact List.all_eq_true.mp hall w h
