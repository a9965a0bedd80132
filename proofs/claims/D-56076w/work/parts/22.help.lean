set_option maxRecDepth 100000
/-! HELPS FOR THE WALKS -/
theorem wd_le {a b : Nat} (h : Nat.ble a b = true) : a ≤ b := Nat.le_of_ble_eq_true h
/-- what holds of every world -/
def wdOk (G : wdG) (w : wdW) : Prop := (∀ k a p, w.1 k a = some p → G.2.2.1 ≤ a ∧ a < w.2) ∧ (∀ k k' a p p', w.1 k a = some p → w.1 k' a = some p' → k = k') ∧ G.2.2.2.1 0 < G.2.2.1
theorem WW.ok {X : wdX} {kc ks pc : Nat} {lv : List (Nat × Value)} {st : List Value} {w : wdW} (k : wdOk X.G w → WW X kc ks pc lv st w) : WW X kc ks pc lv st w :=
  fun p e R s m args below meth c H locs cells slots ls A hH hS hl hc hs => k ⟨hH.2.2.1, hH.2.1, by
    obtain ⟨cell, -, -, -, -, -, -, h⟩ := wdK_T A (ty := .object "java/lang/Object") (t := X.G.2.2.2.1 0) (N := 0) (f := fun _ => .null) List.mem_cons_self
    exact Nat.lt_of_not_le h⟩ p e R s m args below meth c H locs cells slots ls A hH hS hl hc hs
/-- fewer locals, by their places -/
theorem WW.pick {X : wdX} {kc ks pc : Nat} {lv lv' : List (Nat × Value)} {st : List Value} {w : wdW} (is : List Nat) (hl : lv_pick lv is = lv') (k : WW X kc ks pc lv' st w) : WW X kc ks pc lv st w :=
  WW.locals (fun q hq => by
    rw [← hl] at hq
    obtain ⟨i, -, hi⟩ := List.mem_filterMap.mp hq
    exact List.mem_of_getElem? hi) k
/-! numbers as nI -/
theorem wn_add {x y : Int32} {a b : Nat} (h : x = nI a) (h' : y = nI b) : x + y = nI (a + b) := by rw [h, h', nI_add]
theorem wn_mul {x y : Int32} {a b : Nat} (h : x = nI a) (h' : y = nI b) : x * y = nI (a * b) := by rw [h, h']; exact (Int32.ofNat_mul a b).symm
theorem wn_sub {x y : Int32} {a b : Nat} (h : x = nI a) (h' : y = nI b) (hb : b ≤ a) : x - y = nI (a - b) := by
  have e : nI a = nI (a - b) + nI b := by rw [nI_add]; congr 1; omega
  rw [h, h', e]
  exact Int32.add_sub_cancel _ _
/-- a read at a known place -/
theorem WW.ialdN {X : wdX} {kc ks pc a n : Nat} {f : Nat → Int32} {i v : Int32} {lv : List (Nat × Value)} {rest : List Value} {w : wdW} (j : Nat) (ht : X.M.tab pc = some (.iaload, 1)) (hc : w.1 32 a = some (.inr (n, .inl f))) (hi : i = nI j) (hj : j < n) (hn : n < 2 ^ 31) (hv : f j = v)
    (k : WW X kc ks (pc + 1) lv (.int v :: rest) w) : WW X kc ks pc lv (.int i :: .ref a :: rest) w := by
  subst hi hv
  have e : (nI j).toNatClampNeg = j := nI_clamp (by omega)
  refine WW.iald ht hc (vp_in_nI hj hn) ?_
  rw [e]; exact k
theorem WW.caldN {X : wdX} {kc ks pc a n : Nat} {f : Nat → Int32} {i v : Int32} {lv : List (Nat × Value)} {rest : List Value} {w : wdW} (j : Nat) (ht : X.M.tab pc = some (.caload, 1)) (hc : w.1 33 a = some (.inr (n, .inl f))) (hi : i = nI j) (hj : j < n) (hn : n < 2 ^ 31) (hv : f j = v)
    (k : WW X kc ks (pc + 1) lv (.int v :: rest) w) : WW X kc ks pc lv (.int i :: .ref a :: rest) w := by
  subst hi hv
  have e : (nI j).toNatClampNeg = j := nI_clamp (by omega)
  refine WW.cald ht hc (vp_in_nI hj hn) ?_
  rw [e]; exact k
theorem WW.iastN {X : wdX} {kc ks pc a n : Nat} {f f' : Nat → Int32} {i x : Int32} {lv : List (Nat × Value)} {rest : List Value} {w : wdW} (j : Nat) (ht : X.M.tab pc = some (.iastore, 1)) (hc : w.1 32 a = some (.inr (n, .inl f))) (hi : i = nI j) (hj : j < n) (hn : n < 2 ^ 31) (hf : upd f j x = f')
    (k : WW X kc ks (pc + 1) lv rest (wPut w 32 a (.inr (n, .inl f')))) : WW X kc ks pc lv (.int x :: .int i :: .ref a :: rest) w := by
  subst hi
  have e : (nI j).toNatClampNeg = j := nI_clamp (by omega)
  exact WW.iast ht hc (vp_in_nI hj hn) (by rw [e]; exact hf) k
theorem WW.aaldN {X : wdX} {kc ks pc a n : Nat} {f : Nat → Option Nat} {i : Int32} {v : Value} {lv : List (Nat × Value)} {rest : List Value} {w : wdW} (j : Nat) (ht : X.M.tab pc = some (.aaload, 1)) (hc : w.1 37 a = some (.inr (n, .inr (.inr (.inr (.inr f)))))) (hi : i = nI j) (hj : j < n) (hn : n < 2 ^ 31) (hv : va_rf (f j) = v)
    (k : WW X kc ks (pc + 1) lv (v :: rest) w) : WW X kc ks pc lv (.int i :: .ref a :: rest) w := by
  subst hi
  have e : (nI j).toNatClampNeg = j := nI_clamp (by omega)
  exact WW.aald ht hc (vp_in_nI hj hn) (by rw [e]; exact hv) k
/-- worlds: two writes at one place -/
theorem wPut_put (w : wdW) (k a : Nat) (p p' : wdPay) : wPut (wPut w k a p) k a p' = wPut w k a p' := by
  refine Prod.ext ?_ rfl
  funext k' a'
  rw [wPut_eq, wPut_eq, wPut_eq]
  by_cases h : k' = k ∧ a' = a
  · rw [if_pos h, if_pos h]
  · rw [if_neg h, if_neg h, if_neg h]
theorem wPut_self {w : wdW} {k a : Nat} {p : wdPay} (h : w.1 k a = some p) : wPut w k a p = w := by
  refine Prod.ext ?_ rfl
  funext k' a'
  rw [wPut_eq]
  by_cases e : k' = k ∧ a' = a
  · obtain ⟨rfl, rfl⟩ := e
    rw [if_pos ⟨rfl, rfl⟩, h]
  · rw [if_neg e]
theorem wPut_comm (w : wdW) {k a k' a' : Nat} (p p' : wdPay) (h : k ≠ k' ∨ a ≠ a') : wPut (wPut w k a p) k' a' p' = wPut (wPut w k' a' p') k a p := by
  refine Prod.ext ?_ rfl
  funext k1 a1
  rw [wPut_eq, wPut_eq, wPut_eq, wPut_eq]
  by_cases h1 : k1 = k ∧ a1 = a
  · by_cases h2 : k1 = k' ∧ a1 = a'
    · exact absurd h1 (fun e => by omega)
    · rw [if_neg h2, if_pos h1, if_pos h1]
  · rw [if_neg h1, if_neg h1]
