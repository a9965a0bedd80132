set_option maxRecDepth 100000
theorem wd_bif {α : Type} {b : Bool} {x : Option α} {y : α} (h : (bif b then x else none) = some y) : b = true ∧ x = some y := by
  cases b with
  | true => exact ⟨rfl, h⟩
  | false => cases h
theorem wd_n {n k : Nat} (h : Nat.beq n k = true) : n = k := Nat.eq_of_beq_eq_true h
theorem wd_and {a b : Bool} (h : (a && b) = true) : a = true ∧ b = true := by
  cases a <;> cases b <;> first | exact ⟨rfl, rfl⟩ | cases h
theorem wdLoad_inv {lv : List (Nat × Value)} {st : List Value} {i n pc : Nat} {f : Value → Bool} {r : wdS} (h : wdLoad lv st i n pc f = some r) : ∃ v, wdGet lv i = some v ∧ f v = true ∧ r = (pc + n, lv, v :: st) := by
  unfold wdLoad at h
  cases hg : wdGet lv i with
  | none => rw [hg] at h; cases h
  | some v =>
    rw [hg] at h
    obtain ⟨h1, h2⟩ := wd_bif h
    exact ⟨v, rfl, h1, (Option.some.inj h2).symm⟩
theorem wdStore1_inv {nL : Nat} {lv : List (Nat × Value)} {st : List Value} {i n pc : Nat} {f : Value → Bool} {r : wdS} (h : wdStore1 nL lv st i n pc f = some r) : ∃ v rest, st = v :: rest ∧ f v = true ∧ i < nL ∧ r = (pc + n, (i, v) :: wdDel1 i lv, rest) := by
  unfold wdStore1 at h
  cases st with
  | nil => cases h
  | cons v rest =>
    obtain ⟨h1, h2⟩ := wd_bif h
    obtain ⟨h3, h4⟩ := wd_and h1
    refine ⟨v, rest, rfl, h3, ?_, (Option.some.inj h2).symm⟩
    exact Nat.le_of_ble_eq_true h4
theorem wdStore2_inv {nL : Nat} {lv : List (Nat × Value)} {st : List Value} {i n pc : Nat} {f : Value → Bool} {r : wdS} (h : wdStore2 nL lv st i n pc f = some r) : ∃ v rest, st = v :: rest ∧ f v = true ∧ i + 1 < nL ∧ r = (pc + n, (i, v) :: wdDel2 i lv, rest) := by
  unfold wdStore2 at h
  cases st with
  | nil => cases h
  | cons v rest =>
    obtain ⟨h1, h2⟩ := wd_bif h
    obtain ⟨h3, h4⟩ := wd_and h1
    refine ⟨v, rest, rfl, h3, ?_, (Option.some.inj h2).symm⟩
    exact Nat.le_of_ble_eq_true h4
theorem isI_inv {v : Value} (h : isI v = true) : ∃ x, v = .int x := by cases v <;> first | exact ⟨_, rfl⟩ | cases h
theorem isR_inv {v : Value} (h : isR v = true) : ∃ x, v = .ref x := by cases v <;> first | exact ⟨_, rfl⟩ | cases h
theorem isF_inv {v : Value} (h : isF v = true) : ∃ x, v = .float x := by cases v <;> first | exact ⟨_, rfl⟩ | cases h
theorem isDb_inv {v : Value} (h : isDb v = true) : ∃ x, v = .double x := by cases v <;> first | exact ⟨_, rfl⟩ | cases h
set_option maxHeartbeats 4000000 in
theorem WW.pure1 {X : wdX} {kc ks pc n pc' : Nat} {lv lv' : List (Nat × Value)} {st st' : List Value} {w : wdW} {i : Instr} (ht : X.M.tab pc = some (i, n)) (hp : wdPure X.M.nL i n pc lv st = some (pc', lv', st')) (k : WW X kc ks pc' lv' st' w) : WW X kc ks pc lv st w := by
  intro p e R s m args below meth c H locs cells slots ls A hH hS hl hc hs
  have hd := A.tab ht
  have hx := A.exec
  have hb := A.code
  have K := fun ls hl => k p e R s m args below meth c H locs cells slots ls A hH hS hl hc hs
  cases i with
  | iconst z =>
    obtain ⟨h1, h2⟩ := wd_bif hp; obtain rfl := wd_n h1; cases h2
    exact lv_iconst hx hb hd rfl (K ls hl)
  | bipush z =>
    obtain ⟨h1, h2⟩ := wd_bif hp; obtain rfl := wd_n h1; cases h2
    exact lv_bipush hx hb hd rfl (K ls hl)
  | sipush z =>
    obtain ⟨h1, h2⟩ := wd_bif hp; obtain rfl := wd_n h1; cases h2
    exact lv_sipush hx hb hd rfl (K ls hl)
  | lconst z =>
    obtain ⟨h1, h2⟩ := wd_bif hp; obtain rfl := wd_n h1; cases h2
    exact lv_lconst hx hb hd rfl (K ls hl)
  | aconst_null =>
    obtain ⟨h1, h2⟩ := wd_bif hp; obtain rfl := wd_n h1; cases h2
    exact lv_null hx hb hd (K ls hl)
  | iload_n z =>
    obtain ⟨h1, h2⟩ := wd_bif hp; obtain rfl := wd_n h1
    obtain ⟨v, g1, g2, g3⟩ := wdLoad_inv h2; cases g3
    obtain ⟨x, rfl⟩ := isI_inv g2
    exact lv_iload_n hx hb hd rfl (wdGet_at hl g1) (K ls hl)
  | iload z =>
    obtain ⟨h1, h2⟩ := wd_bif hp; obtain rfl := wd_n h1
    obtain ⟨v, g1, g2, g3⟩ := wdLoad_inv h2; cases g3
    obtain ⟨x, rfl⟩ := isI_inv g2
    exact lv_iload hx hb hd (wdGet_at hl g1) (K ls hl)
  | aload_n z =>
    obtain ⟨h1, h2⟩ := wd_bif hp; obtain rfl := wd_n h1
    obtain ⟨v, g1, g2, g3⟩ := wdLoad_inv h2; cases g3
    obtain ⟨x, rfl⟩ := isR_inv g2
    exact lv_aload_n hx hb hd rfl (wdGet_at hl g1) (K ls hl)
  | aload z =>
    obtain ⟨h1, h2⟩ := wd_bif hp; obtain rfl := wd_n h1
    obtain ⟨v, g1, g2, g3⟩ := wdLoad_inv h2; cases g3
    obtain ⟨x, rfl⟩ := isR_inv g2
    exact lv_aload hx hb hd (wdGet_at hl g1) (K ls hl)
  | fload_n z =>
    obtain ⟨h1, h2⟩ := wd_bif hp; obtain rfl := wd_n h1
    obtain ⟨v, g1, g2, g3⟩ := wdLoad_inv h2; cases g3
    obtain ⟨x, rfl⟩ := isF_inv g2
    exact lv_fload_n hx hb hd rfl (wdGet_at hl g1) (K ls hl)
  | fload z =>
    obtain ⟨h1, h2⟩ := wd_bif hp; obtain rfl := wd_n h1
    obtain ⟨v, g1, g2, g3⟩ := wdLoad_inv h2; cases g3
    obtain ⟨x, rfl⟩ := isF_inv g2
    exact lv_fload hx hb hd (wdGet_at hl g1) (K ls hl)
  | dload_n z =>
    obtain ⟨h1, h2⟩ := wd_bif hp; obtain rfl := wd_n h1
    obtain ⟨v, g1, g2, g3⟩ := wdLoad_inv h2; cases g3
    obtain ⟨x, rfl⟩ := isDb_inv g2
    exact lv_dload_n hx hb hd rfl (wdGet_at hl g1) (K ls hl)
  | dload z =>
    obtain ⟨h1, h2⟩ := wd_bif hp; obtain rfl := wd_n h1
    obtain ⟨v, g1, g2, g3⟩ := wdLoad_inv h2; cases g3
    obtain ⟨x, rfl⟩ := isDb_inv g2
    exact lv_dload hx hb hd (wdGet_at hl g1) (K ls hl)
  | istore_n z =>
    obtain ⟨h1, h2⟩ := wd_bif hp; obtain rfl := wd_n h1
    obtain ⟨v, r, rfl, g2, g3, g4⟩ := wdStore1_inv h2; cases g4
    obtain ⟨x, rfl⟩ := isI_inv g2
    exact lv_istore_n hx hb hd rfl hl g3 rfl (fun ls hl => K ls (lv_less1 hl))
  | istore z =>
    obtain ⟨h1, h2⟩ := wd_bif hp; obtain rfl := wd_n h1
    obtain ⟨v, r, rfl, g2, g3, g4⟩ := wdStore1_inv h2; cases g4
    obtain ⟨x, rfl⟩ := isI_inv g2
    exact lv_istore hx hb hd hl g3 rfl (fun ls hl => K ls (lv_less1 hl))
  | astore_n z =>
    obtain ⟨h1, h2⟩ := wd_bif hp; obtain rfl := wd_n h1
    obtain ⟨v, r, rfl, g2, g3, g4⟩ := wdStore1_inv h2; cases g4
    obtain ⟨x, rfl⟩ := isR_inv g2
    exact lv_astore_n hx hb hd rfl hl g3 rfl (fun ls hl => K ls (lv_less1 hl))
  | astore z =>
    obtain ⟨h1, h2⟩ := wd_bif hp; obtain rfl := wd_n h1
    obtain ⟨v, r, rfl, g2, g3, g4⟩ := wdStore1_inv h2; cases g4
    obtain ⟨x, rfl⟩ := isR_inv g2
    exact lv_astore hx hb hd hl g3 rfl (fun ls hl => K ls (lv_less1 hl))
  | fstore_n z =>
    obtain ⟨h1, h2⟩ := wd_bif hp; obtain rfl := wd_n h1
    obtain ⟨v, r, rfl, g2, g3, g4⟩ := wdStore1_inv h2; cases g4
    obtain ⟨x, rfl⟩ := isF_inv g2
    exact lv_fstore_n hx hb hd rfl hl g3 rfl (fun ls hl => K ls (lv_less1 hl))
  | fstore z =>
    obtain ⟨h1, h2⟩ := wd_bif hp; obtain rfl := wd_n h1
    obtain ⟨v, r, rfl, g2, g3, g4⟩ := wdStore1_inv h2; cases g4
    obtain ⟨x, rfl⟩ := isF_inv g2
    exact lv_fstore hx hb hd hl g3 rfl (fun ls hl => K ls (lv_less1 hl))
  | dstore_n z =>
    obtain ⟨h1, h2⟩ := wd_bif hp; obtain rfl := wd_n h1
    obtain ⟨v, r, rfl, g2, g3, g4⟩ := wdStore2_inv h2; cases g4
    obtain ⟨x, rfl⟩ := isDb_inv g2
    exact lv_dstore_n hx hb hd rfl hl g3 rfl (fun ls hl => K ls (lv_less2 hl))
  | dstore z =>
    obtain ⟨h1, h2⟩ := wd_bif hp; obtain rfl := wd_n h1
    obtain ⟨v, r, rfl, g2, g3, g4⟩ := wdStore2_inv h2; cases g4
    obtain ⟨x, rfl⟩ := isDb_inv g2
    exact lv_dstore hx hb hd hl g3 rfl (fun ls hl => K ls (lv_less2 hl))
  | iinc z d =>
    obtain ⟨h1, h2⟩ := wd_bif hp; obtain ⟨h3, h4⟩ := wd_and h1; obtain rfl := wd_n h3
    have h5 : z < X.M.nL := Nat.le_of_ble_eq_true h4
    cases hg : wdGet lv z with
    | none => rw [hg] at h2; cases h2
    | some v =>
      rw [hg] at h2
      cases v with
      | int x =>
        cases h2
        obtain ⟨j, hj⟩ := List.getElem?_of_mem (wdGet_mem hg)
        exact lv_iinc hx hb hd hl hj rfl h5 rfl (fun ls hl => K ls (lv_less1 hl))
      | _ => cases h2
  | iadd =>
    obtain ⟨h1, h2⟩ := wd_bif hp; obtain rfl := wd_n h1
    split at h2 <;> cases h2
    exact lv_iadd hx hb hd (K ls hl)
  | isub =>
    obtain ⟨h1, h2⟩ := wd_bif hp; obtain rfl := wd_n h1
    split at h2 <;> cases h2
    exact lv_isub hx hb hd (K ls hl)
  | imul =>
    obtain ⟨h1, h2⟩ := wd_bif hp; obtain rfl := wd_n h1
    split at h2 <;> cases h2
    exact lv_imul hx hb hd (K ls hl)
  | iand =>
    obtain ⟨h1, h2⟩ := wd_bif hp; obtain rfl := wd_n h1
    split at h2 <;> cases h2
    exact lv_iand hx hb hd (K ls hl)
  | ishl =>
    obtain ⟨h1, h2⟩ := wd_bif hp; obtain rfl := wd_n h1
    split at h2 <;> cases h2
    exact lv_ishl hx hb hd (K ls hl)
  | ishr =>
    obtain ⟨h1, h2⟩ := wd_bif hp; obtain rfl := wd_n h1
    split at h2 <;> cases h2
    exact lv_ishr hx hb hd (K ls hl)
  | ineg =>
    obtain ⟨h1, h2⟩ := wd_bif hp; obtain rfl := wd_n h1
    split at h2 <;> cases h2
    exact lv_ineg hx hb hd (K ls hl)
  | i2l =>
    obtain ⟨h1, h2⟩ := wd_bif hp; obtain rfl := wd_n h1
    split at h2 <;> cases h2
    exact lv_i2l hx hb hd rfl (K ls hl)
  | i2b =>
    obtain ⟨h1, h2⟩ := wd_bif hp; obtain rfl := wd_n h1
    split at h2 <;> cases h2
    exact lv_i2b hx hb hd rfl (K ls hl)
  | i2c =>
    obtain ⟨h1, h2⟩ := wd_bif hp; obtain rfl := wd_n h1
    split at h2 <;> cases h2
    exact lv_i2c hx hb hd rfl (K ls hl)
  | dup =>
    obtain ⟨h1, h2⟩ := wd_bif hp; obtain rfl := wd_n h1
    split at h2
    · obtain ⟨h3, h4⟩ := wd_bif h2; cases h4
      exact lv_dup hx hb hd (wd_n h3) (K ls hl)
    · cases h2
  | pop =>
    obtain ⟨h1, h2⟩ := wd_bif hp; obtain rfl := wd_n h1
    split at h2
    · obtain ⟨h3, h4⟩ := wd_bif h2; cases h4
      exact lv_pop hx hb hd (wd_n h3) (K ls hl)
    · cases h2
  | dup_x1 =>
    obtain ⟨h1, h2⟩ := wd_bif hp; obtain rfl := wd_n h1
    split at h2
    · obtain ⟨h3, h4⟩ := wd_bif h2; cases h4
      exact lv_dup_x1 hx hb hd (wd_n (wd_and h3).1) (wd_n (wd_and h3).2) (K ls hl)
    · cases h2
  | dup2 =>
    obtain ⟨h1, h2⟩ := wd_bif hp; obtain rfl := wd_n h1
    split at h2
    · obtain ⟨h3, h4⟩ := wd_bif h2; cases h4
      exact lv_dup2_11 hx hb hd (wd_n (wd_and h3).1) (wd_n (wd_and h3).2) (K ls hl)
    · cases h2
  | goto z =>
    obtain ⟨h1, h2⟩ := wd_bif hp; obtain rfl := wd_n h1
    cases hz : (pc : Int) + z with
    | ofNat t =>
      rw [hz] at h2
      cases h2
      exact lv_goto (tgt := pc') hx hb hd (by rw [hz]; rfl) (K ls hl)
    | negSucc t => rw [hz] at h2; cases h2
  | _ => exact nomatch hp
/-- k pure steps -/
def wdRun (nL : Nat) (tab : Nat → Option (Instr × Nat)) : Nat → Nat → List (Nat × Value) → List Value → Option wdS
  | 0, pc, lv, st => some (pc, lv, st)
  | k + 1, pc, lv, st => match tab pc with
    | some x => (match wdPure nL x.1 x.2 pc lv st with
      | some r => wdRun nL tab k r.1 r.2.1 r.2.2
      | none => none)
    | none => none
theorem WW.run {X : wdX} {kc ks : Nat} {w : wdW} : ∀ (k : Nat) {pc pc' : Nat} {lv lv' : List (Nat × Value)} {st st' : List Value}, wdRun X.M.nL X.M.tab k pc lv st = some (pc', lv', st') → WW X kc ks pc' lv' st' w → WW X kc ks pc lv st w
  | 0, pc, pc', lv, lv', st, st', h, k => by
    cases h
    exact k
  | n + 1, pc, pc', lv, lv', st, st', h, k => by
    unfold wdRun at h
    cases ht : X.M.tab pc with
    | none => rw [ht] at h; cases h
    | some x =>
      rw [ht] at h
      cases hp : wdPure X.M.nL x.1 x.2 pc lv st with
      | none => simp only [hp] at h; cases h
      | some r =>
        simp only [hp] at h
        obtain ⟨i, n1⟩ := x
        obtain ⟨pc1, lv1, st1⟩ := r
        exact WW.pure1 ht hp (WW.run n h k)
