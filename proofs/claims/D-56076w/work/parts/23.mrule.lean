set_option maxRecDepth 100000
/-! THE MODEL's CELLS: m, its arrays A 0 .. A 7 (s, before, aside, saved, past, output, input, commands), its ints I 0 .. I 10 (isSaved, pastMany, thrown, outputMany, length, at, isWrong, errorAt, failedAt, reason, commandMany) -/
abbrev mF (A : Nat → Nat) (I : Nat → Int32) : List Value := [.ref (A 0), .ref (A 1), .ref (A 2), .ref (A 3), .int (I 0), .ref (A 4), .int (I 1), .int (I 2), .ref (A 5), .int (I 3), .ref (A 6), .int (I 4), .int (I 5), .int (I 6), .int (I 7), .int (I 8), .int (I 9), .ref (A 7), .int (I 10)]
def mK (i : Nat) : Nat := match i with
  | 5 => 33
  | 6 => 33
  | _ => 32
def mN (i : Nat) : Nat := match i with
  | 4 => 648
  | 5 => 120
  | 6 => 60
  | 7 => 240
  | _ => 81
/-- the field of array i, of int j -/
def mAk (i : Nat) : Nat := match i with
  | 0 => 0 | 1 => 1 | 2 => 2 | 3 => 3 | 4 => 5 | 5 => 8 | 6 => 10 | _ => 17
def mIk (j : Nat) : Nat := match j with
  | 0 => 4 | 1 => 6 | 2 => 7 | 3 => 9 | 4 => 11 | 5 => 12 | 6 => 13 | 7 => 14 | 8 => 15 | 9 => 16 | _ => 18
def isM (w : wdW) (m : Nat) (A : Nat → Nat) (I : Nat → Int32) (F : Nat → Nat → Int32) : Prop := w.1 2 m = some (.inl (mF A I)) ∧ (∀ i, i < 8 → w.1 (mK i) (A i) = some (.inr (mN i, .inl (F i)))) ∧ (∀ i j, i < 8 → j < 8 → A i = A j → i = j) ∧ ∀ i, i < 8 → A i ≠ m
/-- what else is in the world stays -/
def mFr (m : Nat) (A : Nat → Nat) (w w' : wdW) : Prop := (∀ a, a ≠ m → (∀ i, i < 8 → a ≠ A i) → ∀ k, w'.1 k a = w.1 k a) ∧ w'.2 = w.2
theorem mFr.refl (m : Nat) (A : Nat → Nat) (w : wdW) : mFr m A w w := ⟨fun _ _ _ _ => rfl, rfl⟩
theorem mFr.trans {m : Nat} {A : Nat → Nat} {w w1 w2 : wdW} (h : mFr m A w w1) (h' : mFr m A w1 w2) : mFr m A w w2 := ⟨fun a h1 h2 k => (h'.1 a h1 h2 k).trans (h.1 a h1 h2 k), h'.2.trans h.2⟩
theorem isM.putI {w : wdW} {m : Nat} {A : Nat → Nat} {I : Nat → Int32} {F : Nat → Nat → Int32} (h : isM w m A I F) (I' : Nat → Int32) : isM (wPut w 2 m (.inl (mF A I'))) m A I' F := by
  obtain ⟨h1, h2, h3, h4⟩ := h
  refine ⟨wPut_same _ _ _ _, fun i hi => ?_, h3, h4⟩
  rw [wPut_ne (h4 i hi)]
  exact h2 i hi
theorem mFr.putI {w : wdW} {m : Nat} {A : Nat → Nat} (p : wdPay) : mFr m A w (wPut w 2 m p) := ⟨fun a h1 _ k => wPut_ne h1, rfl⟩
theorem isM.putF {w : wdW} {m : Nat} {A : Nat → Nat} {I : Nat → Int32} {F : Nat → Nat → Int32} (h : isM w m A I F) {i : Nat} (hi : i < 8) (g : Nat → Int32) : isM (wPut w (mK i) (A i) (.inr (mN i, .inl g))) m A I (va_up F i g) := by
  obtain ⟨h1, h2, h3, h4⟩ := h
  refine ⟨?_, fun j hj => ?_, h3, h4⟩
  · rw [wPut_ne (fun e => h4 i hi e.symm)]
    exact h1
  · by_cases e : j = i
    · subst e
      rw [wPut_same, va_up_self]
    · rw [wPut_ne (fun q => e (h3 j i hj hi q)), va_up_ne _ _ e]
      exact h2 j hj
theorem mFr.putF {w : wdW} {m : Nat} {A : Nat → Nat} {i : Nat} (hi : i < 8) (k : Nat) (p : wdPay) : mFr m A w (wPut w k (A i) p) := ⟨fun a _ h2 k => wPut_ne (h2 i hi), rfl⟩
/-- an int field is stored -/
theorem WW.mputI {X : wdX} {kc ks pc idx m : Nat} {A : Nat → Nat} {I : Nat → Int32} {F : Nat → Nat → Int32} {lv : List (Nat × Value)} {rest : List Value} {w : wdW} {v : Int32} {ty : FieldType} (j : Nat) {k : Nat} (ht : X.M.tab pc = some (.putfield idx, 3)) (hf : wdFP X.M.y.cls idx 2 k ty) (hM : isM w m A I F) (hk : Nat.blt k 19 = true) (hn : narrow ty (.int v) = .int v) (hfit : fits ty (.int v) = true) (hI : (mF A I).set k (.int v) = mF A (va_up I j v))
    (kk : ∀ w1, isM w1 m A (va_up I j v) F → mFr m A w w1 → WW X kc ks (pc + 3) lv rest w1) : WW X kc ks pc lv (.int v :: .ref m :: rest) w :=
  WW.put _ ht hf hM.1 (by simpa using hk) hn hfit hI (kk _ (hM.putI _) (mFr.putI _))
/-- an element of array i, read -/
theorem WW.mald {X : wdX} {kc ks pc m : Nat} {A : Nat → Nat} {I : Nat → Int32} {F : Nat → Nat → Int32} {x : Int32} {lv : List (Nat × Value)} {rest : List Value} {w : wdW} (i j : Nat) (ht : X.M.tab pc = some (.iaload, 1)) (hM : isM w m A I F) (hi : i < 8) (h32 : mK i = 32) (hx : x = nI j) (hj : j < mN i) (hn : mN i < 2 ^ 31) {v : Int32} (hv : F i j = v)
    (k : WW X kc ks (pc + 1) lv (.int v :: rest) w) : WW X kc ks pc lv (.int x :: .ref (A i) :: rest) w :=
  WW.ialdN j ht (by rw [← h32]; exact hM.2.1 i hi) hx hj hn hv k
theorem WW.mcld {X : wdX} {kc ks pc m : Nat} {A : Nat → Nat} {I : Nat → Int32} {F : Nat → Nat → Int32} {x : Int32} {lv : List (Nat × Value)} {rest : List Value} {w : wdW} (i j : Nat) (ht : X.M.tab pc = some (.caload, 1)) (hM : isM w m A I F) (hi : i < 8) (h32 : mK i = 33) (hx : x = nI j) (hj : j < mN i) (hn : mN i < 2 ^ 31) {v : Int32} (hv : F i j = v)
    (k : WW X kc ks (pc + 1) lv (.int v :: rest) w) : WW X kc ks pc lv (.int x :: .ref (A i) :: rest) w :=
  WW.caldN j ht (by rw [← h32]; exact hM.2.1 i hi) hx hj hn hv k
/-- .. stored -/
theorem WW.mast {X : wdX} {kc ks pc m : Nat} {A : Nat → Nat} {I : Nat → Int32} {F : Nat → Nat → Int32} {x v : Int32} {lv : List (Nat × Value)} {rest : List Value} {w : wdW} (i j : Nat) (ht : X.M.tab pc = some (.iastore, 1)) (hM : isM w m A I F) (hi : i < 8) (h32 : mK i = 32) (hx : x = nI j) (hj : j < mN i) (hn : mN i < 2 ^ 31)
    (kk : ∀ w1, isM w1 m A I (va_up F i (va_up (F i) j v)) → mFr m A w w1 → WW X kc ks (pc + 1) lv rest w1) : WW X kc ks pc lv (.int v :: .int x :: .ref (A i) :: rest) w := by
  refine WW.iastN (f' := va_up (F i) j v) j ht (by rw [← h32]; exact hM.2.1 i hi) hx hj hn rfl ?_
  refine kk _ ?_ (mFr.putF hi _ _)
  have h := hM.putF hi (va_up (F i) j v)
  rw [h32] at h
  exact h
theorem WW.mcst {X : wdX} {kc ks pc m : Nat} {A : Nat → Nat} {I : Nat → Int32} {F : Nat → Nat → Int32} {x v : Int32} {lv : List (Nat × Value)} {rest : List Value} {w : wdW} (i j : Nat) (ht : X.M.tab pc = some (.castore, 1)) (hM : isM w m A I F) (hi : i < 8) (h32 : mK i = 33) (hx : x = nI j) (hj : j < mN i) (hn : mN i < 2 ^ 31) (hv : vp_nar .char v = v)
    (kk : ∀ w1, isM w1 m A I (va_up F i (va_up (F i) j v)) → mFr m A w w1 → WW X kc ks (pc + 1) lv rest w1) : WW X kc ks pc lv (.int v :: .int x :: .ref (A i) :: rest) w := by
  subst hx
  have e : (nI j).toNatClampNeg = j := nI_clamp (by omega)
  refine WW.cast_ (f' := va_up (F i) j v) ht (by rw [← h32]; exact hM.2.1 i hi) (vp_in_nI hj hn) (by rw [e, hv]; rfl) ?_
  refine kk _ ?_ (mFr.putF hi _ _)
  have h := hM.putF hi (va_up (F i) j v)
  rw [h32] at h
  exact h
/-- n elements of array i from place x to place y of array j -/
theorem WW.mcopy {X : wdX} {kc ks pc idx m : Nat} {A : Nat → Nat} {I : Nat → Int32} {F : Nat → Nat → Int32} {lv : List (Nat × Value)} {rest : List Value} {w : wdW} {sp dp n : Int32} (i j x y z : Nat) (ht : X.M.tab pc = some (.invokestatic idx, 3)) (hL : wdLcp X.M.y.cls idx) (hM : isM w m A I F) (hi : i < 8) (hj : j < 8) (hki : mK i = 32) (hkj : mK j = 32) (hsp : sp = nI x) (hdp : dp = nI y) (hnz : n = nI z) (h4 : x + z ≤ mN i) (h5 : y + z ≤ mN j) (hW : (rest.map fun v => v.category).sum ≤ 8) (hd : 1 ≤ X.d)
    (kk : ∀ w1, isM w1 m A I (va_up F j (va_cpy (F i) (F j) x y z)) → mFr m A w w1 → WW X kc ks (pc + 3) lv rest w1) : WW X kc ks pc lv (.int n :: .int dp :: .ref (A j) :: .int sp :: .ref (A i) :: rest) w := by
  have mn : ∀ q, mN q ≤ 648 := by
    intro q
    unfold mN
    split <;> decide
  have hx : x < 2 ^ 31 := by have := mn i; omega
  have hy : y < 2 ^ 31 := by have := mn j; omega
  have hz : z < 2 ^ 31 := by have := mn i; omega
  subst hsp hdp hnz
  refine WW.copy (f := F i) (g := F j) (g' := va_cpy (F i) (F j) x y z) 32 0 .int ht hL rfl rfl (by rw [← hki]; exact hM.2.1 i hi) (by rw [← hkj]; exact hM.2.1 j hj) (nI_pos hx) (nI_pos hy) (nI_pos hz) (by rw [nI_clamp hx, nI_clamp hz]; exact h4) (by rw [nI_clamp hy, nI_clamp hz]; exact h5) (fun _ _ => rfl) (by rw [nI_clamp hx, nI_clamp hy, nI_clamp hz]) hW hd ?_
  refine kk _ ?_ (mFr.putF hj _ _)
  have h := hM.putF hj (va_cpy (F i) (F j) x y z)
  rw [hkj] at h
  exact h
/-- a contract of the model's: from these numbers an answer and other numbers -/
abbrev SpM (l : Launch) (G : wdG) (M : wdM) (d : Nat) (m : Nat) (A : Nat → Nat) (as : List Value) (w : wdW) (P : Option Value → (Nat → Int32) → (Nat → Nat → Int32) → Prop) : Prop := Sp l G M d 0 0 (.ref m :: as) w (fun o w' => ∃ (v : Option Value) (I' : Nat → Int32) (F' : Nat → Nat → Int32), o = .inl v ∧ P v I' F' ∧ isM w' m A I' F' ∧ mFr m A w w')
