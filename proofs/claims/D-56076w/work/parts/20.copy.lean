set_option maxRecDepth 100000
/-! SYSTEM.ARRAYCOPY -/
theorem wd_nn {z : Int32} (hz : ¬ z < 0) : z.toInt = (z.toNatClampNeg : Int) := by
  have hz0 : (0 : Int) ≤ z.toInt := by
    have := Int32.not_lt.mp hz
    simpa using Int32.le_iff_toInt_le.mp this
  show z.toInt = ((z.toInt.toNat : Nat) : Int)
  omega
/-- the words that a call of it asks -/
def wdLcp (own : String) (idx : Nat) : Prop := (Cond.methodLink own idx arraycopyName) ∈ lw_all ∧ (Cond.native arraycopyName) ∈ lw_all ∧ (Cond.static arraycopyName) ∈ lw_all ∧ (Cond.initialized "java/lang/System") ∈ lw_all
set_option maxHeartbeats 4000000 in
/-- numbers, out of any array cs -/
theorem WW.copyX {X : wdX} {kc ks pc idx a0 a n0 n1 : Nat} {f g g' : Nat → Int32} {lv : List (Nat × Value)} {rest : List Value} {w : wdW} {sp dp n : Int32} (k t : Nat) (ty : FieldType) (ht : X.M.tab pc = some (.invokestatic idx, 3)) (hL : wdLcp X.M.y.cls idx) (hkt : (wdTys X.G)[t]? = some (X.G.2.1 k, ty)) (hprim : refKind ty = false)
    (hsrc : ∀ p e R s m args below meth c (H : Heap) (locs : List Loc), wdAt X p e R s m args below meth c → wdH X.G w H → va_S (wdA X.G) s.heap H locs → ∃ cs : Cell, H[a0]? = some cs ∧ s.isArrayOf cs ty ∧ cs.vm ≠ .unknown ∧ n0 ≤ cs.slots.size ∧ ∀ j, j < n0 → cs.slots[j]? = some (.int (f j)))
    (hc : w.1 k a = some (.inr (n1, .inl g))) (h1 : ¬ sp < 0) (h2 : ¬ dp < 0) (h3 : ¬ n < 0) (h4 : sp.toNatClampNeg + n.toNatClampNeg ≤ n0) (h5 : dp.toNatClampNeg + n.toNatClampNeg ≤ n1) (hfit : ∀ i, i < n.toNatClampNeg → fits ty (.int (f (sp.toNatClampNeg + i))) = true) (hg : va_cpy f g sp.toNatClampNeg dp.toNatClampNeg n.toNatClampNeg = g') (hW : (rest.map fun v => v.category).sum ≤ 8) (hd : 1 ≤ X.d)
    (kk : WW X kc ks (pc + 3) lv rest (wPut w k a (.inr (n1, .inl g')))) : WW X kc ks pc lv (.int n :: .int dp :: .ref a :: .int sp :: .ref a0 :: rest) w := by
  subst hg
  intro p e R s m args below meth c H locs cells slots ls A hH hS hl hcc hss
  obtain ⟨r1, r2, r3, r4⟩ := A.room
  obtain ⟨cs, c0, ⟨hst, k0, hk0, cm0, hkk0⟩, cu, csz, cv⟩ := hsrc _ _ _ _ _ _ _ _ _ _ _ A hH hS
  have hc1 : H[a]? = some (vp_cell (X.G.2.1 k) (n1, .inl g)) := hH.1 k a _ hc
  obtain ⟨-, k1, hk1, cm1, hkk1⟩ := (wdArr A hkt).1 n1 (fun j => .int (g j))
  intro T hT X0
  obtain ⟨vm', X', step⟩ := X0.arraycopy A.exec A.own (A.hts _ hL.1) (A.hts _ hL.2.1) (A.hts _ hL.2.2.1) (A.hts _ hL.2.2.2) (src := a0) (dst := a) (cs := cs) (cd := vp_cell (X.G.2.1 k) (n1, .inl g)) (srcPos := sp) (destPos := dp) (n := n) (by rw [hT]; exact c0) (by rw [hT]; exact hc1)
    hst (fun _ h => by cases h) cu (fun h => by cases h) hk0 hk1 hkk0 hkk1 (by simp [hprim]) h1 h2 h3
    (by rw [wd_nn h1, wd_nn h3]; omega)
    (by rw [wd_nn h2, wd_nn h3]; show ¬ _ > ((arrV (X.G.2.1 k) n1 (fun j => .int (g j))).slots.size : Int); rw [arrV_size]; omega)
    (fun vm₁ _ i hi => by
      have e : cs.slots.getD (sp.toNatClampNeg + i) .null = .int (f (sp.toNatClampNeg + i)) := by
        rw [Array.getD_eq_getD_getElem?, cv _ (by omega)]
        rfl
      refine ⟨?_, ?_⟩
      · rw [e]
        exact hfit i hi
      · rw [e]
        exact trivial)
    (g := F0 m pc ls (.int n :: .int dp :: .ref a :: .int sp :: .ref a0 :: rest)) rfl (by rw [A.nl]; exact hl.1) (rest := rest) rfl (by rw [A.code]; exact A.tab ht) (by omega) (by
      have hnf : nativeFrameWords "java/lang/System" "arraycopy" 5 + 11 ≤ 60 := by decide +kernel
      show 2 * 0 + _ + _ ≤ _; omega)
  have e1 : copied cs (vp_cell (X.G.2.1 k) (n1, .inl g)) sp dp n = vp_cell (X.G.2.1 k) (n1, .inl (va_cpy f g sp.toNatClampNeg dp.toNatClampNeg n.toNatClampNeg)) := va_copiedX (fun z => .int z) cs (X.G.2.1 k) f g cv h4
  rw [e1] at X' step
  have hl0 : a < H.size := (Array.getElem?_eq_some_iff.mp hc1).1
  have hheap : ((T.setVm vm').setCell a (vp_cell (X.G.2.1 k) (n1, .inl (va_cpy f g sp.toNatClampNeg dp.toNatClampNeg n.toNatClampNeg)))).heap = H.setIfInBounds a (vp_cell (X.G.2.1 k) (n1, .inl (va_cpy f g sp.toNatClampNeg dp.toNatClampNeg n.toNatClampNeg))) := by rw [← hT]; rfl
  have oq : ∀ q : Nat, q ≠ a → (H.setIfInBounds a (vp_cell (X.G.2.1 k) (n1, .inl (va_cpy f g sp.toNatClampNeg dp.toNatClampNeg n.toNatClampNeg))))[q]? = H[q]? := fun q hq => by simp [Array.getElem?_setIfInBounds, Ne.symm hq]
  have hbA : wdA X.G a := (hH.2.2.1 k a _ hc).1
  obtain ⟨t9, a1, b1⟩ := kk p e R s m args below meth c (H.setIfInBounds a (vp_cell (X.G.2.1 k) (n1, .inl (va_cpy f g sp.toNatClampNeg dp.toNatClampNeg n.toNatClampNeg)))) _ cells slots ls A
    (hH.put (p := .inr (n1, .inl (va_cpy f g sp.toNatClampNeg dp.toNatClampNeg n.toNatClampNeg))) hc (show (H.setIfInBounds a _)[a]? = some _ by simp [Array.getElem?_setIfInBounds, hl0]) oq (by simp)) ⟨by simp; exact hS.1, fun q g1 g2 => by
      rw [oq q (fun e => g2 (by rw [e]; exact hbA))]
      exact hS.2.1 q g1 g2, fun q hq => by
      rcases List.mem_append.mp hq with h | h
      · exact hS.2.2 q h
      · obtain ⟨z, -, hz⟩ := List.mem_map.mp h
        rw [← hz]
        exact hbA⟩ hl hcc hss _ hheap X'
  exact ⟨t9, step t9 a1, b1⟩
/-- .. out of an array of the world -/
theorem WW.copy {X : wdX} {kc ks pc idx a0 a n0 n1 : Nat} {f g g' : Nat → Int32} {lv : List (Nat × Value)} {rest : List Value} {w : wdW} {sp dp n : Int32} (k t : Nat) (ty : FieldType) (ht : X.M.tab pc = some (.invokestatic idx, 3)) (hL : wdLcp X.M.y.cls idx) (hkt : (wdTys X.G)[t]? = some (X.G.2.1 k, ty)) (hprim : refKind ty = false)
    (hc0 : w.1 k a0 = some (.inr (n0, .inl f))) (hc : w.1 k a = some (.inr (n1, .inl g))) (h1 : ¬ sp < 0) (h2 : ¬ dp < 0) (h3 : ¬ n < 0) (h4 : sp.toNatClampNeg + n.toNatClampNeg ≤ n0) (h5 : dp.toNatClampNeg + n.toNatClampNeg ≤ n1) (hfit : ∀ i, i < n.toNatClampNeg → fits ty (.int (f (sp.toNatClampNeg + i))) = true) (hg : va_cpy f g sp.toNatClampNeg dp.toNatClampNeg n.toNatClampNeg = g') (hW : (rest.map fun v => v.category).sum ≤ 8) (hd : 1 ≤ X.d)
    (kk : WW X kc ks (pc + 3) lv rest (wPut w k a (.inr (n1, .inl g')))) : WW X kc ks pc lv (.int n :: .int dp :: .ref a :: .int sp :: .ref a0 :: rest) w :=
  WW.copyX k t ty ht hL hkt hprim (fun _ _ _ _ _ _ _ _ _ _ _ A hH _ => ⟨_, hH.1 k a0 _ hc0, (wdArr A hkt).1 n0 (fun j => .int (f j)), (fun h => by cases h), (by show n0 ≤ (arrV _ n0 (fun j => .int (f j))).slots.size; rw [arrV_size]; exact Nat.le_refl _), fun j hj => arrV_read _ _ hj⟩) hc h1 h2 h3 h4 h5 hfit hg hW hd kk
/-- .. out of a string constant's bytes -/
theorem WW.copyS {X : wdX} {kc ks pc idx i a n1 : Nat} {q : String × Nat × String × Int32 × Int32 × List Nat} {g g' : Nat → Int32} {lv : List (Nat × Value)} {rest : List Value} {w : wdW} {sp dp n : Int32} (ht : X.M.tab pc = some (.invokestatic idx, 3)) (hL : wdLcp X.M.y.cls idx)
    (hq : wdSt[i]? = some q) (hc : w.1 34 a = some (.inr (n1, .inl g))) (h1 : ¬ sp < 0) (h2 : ¬ dp < 0) (h3 : ¬ n < 0) (h4 : sp.toNatClampNeg + n.toNatClampNeg ≤ q.2.2.2.2.2.length) (h5 : dp.toNatClampNeg + n.toNatClampNeg ≤ n1) (hfit : ∀ j, j < n.toNatClampNeg → fits .byte (.int (nI (q.2.2.2.2.2.getD (sp.toNatClampNeg + j) 0))) = true) (hg : va_cpy (fun j => nI (q.2.2.2.2.2.getD j 0)) g sp.toNatClampNeg dp.toNatClampNeg n.toNatClampNeg = g') (hW : (rest.map fun v => v.category).sum ≤ 8) (hd : 1 ≤ X.d)
    (kk : WW X kc ks (pc + 3) lv rest (wPut w 34 a (.inr (n1, .inl g')))) : WW X kc ks pc lv (.int n :: .int dp :: .ref a :: .int sp :: .ref (wdSv X.G i) :: rest) w :=
  WW.copyX (f := fun j => nI (q.2.2.2.2.2.getD j 0)) (n0 := q.2.2.2.2.2.length) 34 2 .byte ht hL (show (wdTys X.G)[2]? = some (X.G.2.1 34, .byte) from rfl) (show refKind .byte = false from rfl) (fun _ _ _ _ _ _ _ _ _ _ _ A _ hS => by
    obtain ⟨cell, e1, e2, e3, e4, e5, e6, -⟩ := va_T.kept (wdStr A hq).2.2.2.2.2.1 hS.2.1
    exact ⟨cell, e1, e2, e3, e4, e6⟩) hc h1 h2 h3 h4 h5 hfit hg hW hd kk
set_option maxHeartbeats 4000000 in
/-- references, all of class number ci or null -/
theorem WW.copyq {X : wdX} {kc ks pc idx a0 a n0 n1 : Nat} {r : vw_C} {f g g' : Nat → Option Nat} {lv : List (Nat × Value)} {rest : List Value} {w : wdW} {sp dp n : Int32} (ci : Nat) (ht : X.M.tab pc = some (.invokestatic idx, 3)) (hL : wdLcp X.M.y.cls idx) (hr : wdCl[ci]? = some r) (hca : (Cond.castable r.1 "java/lang/Object") ∈ wdNw)
    (hc0 : w.1 37 a0 = some (.inr (n0, .inr (.inr (.inr (.inr f)))))) (hc : w.1 37 a = some (.inr (n1, .inr (.inr (.inr (.inr g)))))) (h1 : ¬ sp < 0) (h2 : ¬ dp < 0) (h3 : ¬ n < 0) (h4 : sp.toNatClampNeg + n.toNatClampNeg ≤ n0) (h5 : dp.toNatClampNeg + n.toNatClampNeg ≤ n1)
    (hel : ∀ i : Nat, i < n.toNatClampNeg → ∀ y : Nat, f (sp.toNatClampNeg + i) = some y → ∃ fs, w.1 ci y = some (.inl fs)) (hg : va_cpy f g sp.toNatClampNeg dp.toNatClampNeg n.toNatClampNeg = g') (hW : (rest.map fun v => v.category).sum ≤ 8) (hd : 1 ≤ X.d)
    (kk : WW X kc ks (pc + 3) lv rest (wPut w 37 a (.inr (n1, .inr (.inr (.inr (.inr g'))))))) : WW X kc ks pc lv (.int n :: .int dp :: .ref a :: .int sp :: .ref a0 :: rest) w := by
  subst hg
  intro p e R s m args below meth c H locs cells slots ls A hH hS hl hcc hss
  obtain ⟨r1, r2, r3, r4⟩ := A.room
  have c0 : H[a0]? = some (vp_cell (X.G.2.1 37) (n0, .inr (.inr (.inr (.inr f))))) := hH.1 37 a0 _ hc0
  have hc1 : H[a]? = some (vp_cell (X.G.2.1 37) (n1, .inr (.inr (.inr (.inr g))))) := hH.1 37 a _ hc
  have hkt : (wdTys X.G)[5]? = some (X.G.2.1 37, .object "java/lang/Object") := rfl
  obtain ⟨-, k0, hk0, cm0, hkk0⟩ := (wdArr A hkt).1 n0 (fun j => va_rf (f j))
  obtain ⟨-, k1, hk1, cm1, hkk1⟩ := (wdArr A hkt).1 n1 (fun j => va_rf (g j))
  intro T hT X0
  have hasg : ∀ comp c0 : ClassId, s.vm.findClass "java/lang/Object" = some comp → s.vm.findClass r.1 = some c0 → s.vm.assignable c0 comp = true := by
    intro comp cc hcomp hcc
    obtain ⟨c3, c4, hc3, hc4, hasg⟩ := Cond.castable_spec (va_Nw.use (A := args) rfl (A.nw hca))
    cases Option.some.inj (hc3.symm.trans hcc)
    cases Option.some.inj (hc4.symm.trans hcomp)
    exact hasg
  obtain ⟨vm', X', step⟩ := X0.arraycopy A.exec A.own (A.hts _ hL.1) (A.hts _ hL.2.1) (A.hts _ hL.2.2.1) (A.hts _ hL.2.2.2) (src := a0) (dst := a) (cs := vp_cell (X.G.2.1 37) (n0, .inr (.inr (.inr (.inr f))))) (cd := vp_cell (X.G.2.1 37) (n1, .inr (.inr (.inr (.inr g))))) (srcPos := sp) (destPos := dp) (n := n) (by rw [hT]; exact c0) (by rw [hT]; exact hc1)
    (fun _ h => by cases h) (fun _ h => by cases h) (fun h => by cases h) (fun h => by cases h) hk0 hk1 hkk0 hkk1 rfl h1 h2 h3
    (by rw [wd_nn h1, wd_nn h3]; show ¬ _ > ((arrV (X.G.2.1 37) n0 (fun j => va_rf (f j))).slots.size : Int); rw [arrV_size]; omega)
    (by rw [wd_nn h2, wd_nn h3]; show ¬ _ > ((arrV (X.G.2.1 37) n1 (fun j => va_rf (g j))).slots.size : Int); rw [arrV_size]; omega)
    (fun vm₁ hal i hi => by
      have e : (vp_cell (X.G.2.1 37) (n0, .inr (.inr (.inr (.inr f))))).slots.getD (sp.toNatClampNeg + i) .null = va_rf (f (sp.toNatClampNeg + i)) := by
        show (arrV (X.G.2.1 37) n0 (fun j => va_rf (f j))).slots.getD _ _ = _
        rw [Array.getD_eq_getD_getElem?, arrV_read _ _ (by omega)]
        rfl
      rw [e]
      cases hy : f (sp.toNatClampNeg + i) with
      | none => exact ⟨rfl, trivial⟩
      | some y =>
        obtain ⟨fs, hw1⟩ := hel i hi y hy
        obtain ⟨cellV, g1, g2, g3⟩ := wd_cls A hH hw1 hr
        obtain ⟨kA, comp, r1, r2, r3, -⟩ := (wdArr A hkt).2
        cases hk1.symm.trans r1
        cases hkk1.symm.trans r2
        obtain ⟨kC, hkC, -⟩ := Vm.findClass_spec g3
        obtain ⟨kE, hkE, -⟩ := Vm.findClass_spec r3
        obtain ⟨kC', hkC', -⟩ := hal.2.2 _ _ hkC
        obtain ⟨kE', hkE', -⟩ := hal.2.2 _ _ hkE
        refine ⟨rfl, cellV, (show T.heap[y]? = some cellV by rw [hT]; exact g1), (fun q h => by rw [h] at g2; cases g2), ⟨kC', hkC'⟩, ?_, ?_⟩
        · exact ⟨kE', hkE'⟩
        · show vm₁.assignable _ _ = true
          rw [hal.assignable]
          exact hasg _ _ r3 g3)
    (g := F0 m pc ls (.int n :: .int dp :: .ref a :: .int sp :: .ref a0 :: rest)) rfl (by rw [A.nl]; exact hl.1) (rest := rest) rfl (by rw [A.code]; exact A.tab ht) (by omega) (by
      have hnf : nativeFrameWords "java/lang/System" "arraycopy" 5 + 11 ≤ 60 := by decide +kernel
      show 2 * 0 + _ + _ ≤ _; omega)
  have e1 : copied (vp_cell (X.G.2.1 37) (n0, .inr (.inr (.inr (.inr f))))) (vp_cell (X.G.2.1 37) (n1, .inr (.inr (.inr (.inr g))))) sp dp n = vp_cell (X.G.2.1 37) (n1, .inr (.inr (.inr (.inr (va_cpy f g sp.toNatClampNeg dp.toNatClampNeg n.toNatClampNeg))))) := by
    rw [vp_cell_q, vp_cell_q, vp_cell_q]
    exact va_copied (fun z => va_rf z) (X.G.2.1 37) (X.G.2.1 37) f g h4
  rw [e1] at X' step
  have hl0 : a < H.size := (Array.getElem?_eq_some_iff.mp hc1).1
  generalize hy9 : ((n1, .inr (.inr (.inr (.inr (va_cpy f g sp.toNatClampNeg dp.toNatClampNeg n.toNatClampNeg))))) : vp_A) = y9 at X' step kk
  have hheap : ((T.setVm vm').setCell a (vp_cell (X.G.2.1 37) y9)).heap = H.setIfInBounds a (vp_cell (X.G.2.1 37) y9) := by rw [← hT]; rfl
  have oq : ∀ q : Nat, q ≠ a → (H.setIfInBounds a (vp_cell (X.G.2.1 37) y9))[q]? = H[q]? := fun q hq => by simp [Array.getElem?_setIfInBounds, Ne.symm hq]
  have hbA : wdA X.G a := (hH.2.2.1 37 a _ hc).1
  obtain ⟨t9, a1, b1⟩ := kk p e R s m args below meth c (H.setIfInBounds a (vp_cell (X.G.2.1 37) y9)) _ cells slots ls A
    (hH.put (p := .inr y9) hc (show (H.setIfInBounds a _)[a]? = some _ by simp [Array.getElem?_setIfInBounds, hl0]) oq (by simp)) ⟨by simp; exact hS.1, fun q g1 g2 => by
      rw [oq q (fun e => g2 (by rw [e]; exact hbA))]
      exact hS.2.1 q g1 g2, fun q hq => by
      rcases List.mem_append.mp hq with h | h
      · exact hS.2.2 q h
      · obtain ⟨z, -, hz⟩ := List.mem_map.mp h
        rw [← hz]
        exact hbA⟩ hl hcc hss _ hheap X'
  exact ⟨t9, step t9 a1, b1⟩
