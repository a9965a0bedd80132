set_option maxRecDepth 100000
/-! arrays: loads and stores -/
set_option maxHeartbeats 4000000 in
theorem WW.iald {X : wdX} {kc ks pc a n : Nat} {f : Nat → Int32} {i : Int32} {lv : List (Nat × Value)} {rest : List Value} {w : wdW} (ht : X.M.tab pc = some (.iaload, 1)) (hc : w.1 32 a = some (.inr (n, .inl f))) (hin : vp_in i n)
    (kk : WW X kc ks (pc + 1) lv (.int (f i.toNatClampNeg) :: rest) w) : WW X kc ks pc lv (.int i :: .ref a :: rest) w := by
  intro p e R s m args below meth c H locs cells slots ls A hH hS hl hcc hss
  have hcell : H[a]? = some (vp_cell (X.G.2.1 32) (n, .inl f)) := hH.1 32 a _ hc
  have hlt : i.toNatClampNeg < n := Nat.not_le.mp fun q => hin (Or.inr q)
  exact W.iald (v := .int (f i.toNatClampNeg)) A.exec A.code hcell ((wdArr A (t := 0) (k := 32) rfl).1 n (fun j => .int (f j))) (fun q => by cases q) (by show ¬ (i < 0 ∨ (arrV _ _ _).slots.size ≤ _); rw [arrV_size]; exact hin) (by show (arrV _ _ _).slots[_]? = _; rw [arrV_read _ _ hlt]) rfl rfl (A.tab ht) (kk p e R s m args below meth c H locs cells slots ls A hH hS hl hcc hss)
set_option maxHeartbeats 4000000 in
theorem WW.cald {X : wdX} {kc ks pc a n : Nat} {f : Nat → Int32} {i : Int32} {lv : List (Nat × Value)} {rest : List Value} {w : wdW} (ht : X.M.tab pc = some (.caload, 1)) (hc : w.1 33 a = some (.inr (n, .inl f))) (hin : vp_in i n)
    (kk : WW X kc ks (pc + 1) lv (.int (f i.toNatClampNeg) :: rest) w) : WW X kc ks pc lv (.int i :: .ref a :: rest) w := by
  intro p e R s m args below meth c H locs cells slots ls A hH hS hl hcc hss
  have hcell : H[a]? = some (vp_cell (X.G.2.1 33) (n, .inl f)) := hH.1 33 a _ hc
  have hlt : i.toNatClampNeg < n := Nat.not_le.mp fun q => hin (Or.inr q)
  exact W.cald (v := .int (f i.toNatClampNeg)) A.exec A.code hcell ((wdArr A (t := 1) (k := 33) rfl).1 n (fun j => .int (f j))) (fun q => by cases q) (by show ¬ (i < 0 ∨ (arrV _ _ _).slots.size ≤ _); rw [arrV_size]; exact hin) (by show (arrV _ _ _).slots[_]? = _; rw [arrV_read _ _ hlt]) rfl rfl (A.tab ht) (kk p e R s m args below meth c H locs cells slots ls A hH hS hl hcc hss)
set_option maxHeartbeats 4000000 in
theorem WW.bald {X : wdX} {kc ks pc a n : Nat} {f : Nat → Int32} {i : Int32} {lv : List (Nat × Value)} {rest : List Value} {w : wdW} (ht : X.M.tab pc = some (.baload, 1)) (hc : w.1 34 a = some (.inr (n, .inl f))) (hin : vp_in i n)
    (kk : WW X kc ks (pc + 1) lv (.int (f i.toNatClampNeg) :: rest) w) : WW X kc ks pc lv (.int i :: .ref a :: rest) w := by
  intro p e R s m args below meth c H locs cells slots ls A hH hS hl hcc hss
  have hcell : H[a]? = some (vp_cell (X.G.2.1 34) (n, .inl f)) := hH.1 34 a _ hc
  have hlt : i.toNatClampNeg < n := Nat.not_le.mp fun q => hin (Or.inr q)
  exact W.bald (v := .int (f i.toNatClampNeg)) A.exec A.code hcell ((wdArr A (t := 2) (k := 34) rfl).1 n (fun j => .int (f j))) (fun q => by cases q) (by show ¬ (i < 0 ∨ (arrV _ _ _).slots.size ≤ _); rw [arrV_size]; exact hin) (by show (arrV _ _ _).slots[_]? = _; rw [arrV_read _ _ hlt]) rfl rfl (A.tab ht) (kk p e R s m args below meth c H locs cells slots ls A hH hS hl hcc hss)
set_option maxHeartbeats 4000000 in
theorem WW.lald {X : wdX} {kc ks pc a n : Nat} {f : Nat → Int64} {i : Int32} {lv : List (Nat × Value)} {rest : List Value} {w : wdW} (ht : X.M.tab pc = some (.laload, 1)) (hc : w.1 35 a = some (.inr (n, .inr (.inl f)))) (hin : vp_in i n)
    (kk : WW X kc ks (pc + 1) lv (.long (f i.toNatClampNeg) :: rest) w) : WW X kc ks pc lv (.int i :: .ref a :: rest) w := by
  intro p e R s m args below meth c H locs cells slots ls A hH hS hl hcc hss
  have hcell : H[a]? = some (vp_cell (X.G.2.1 35) (n, .inr (.inl f))) := hH.1 35 a _ hc
  have hlt : i.toNatClampNeg < n := Nat.not_le.mp fun q => hin (Or.inr q)
  exact W.lald (v := .long (f i.toNatClampNeg)) A.exec A.code hcell ((wdArr A (t := 3) (k := 35) rfl).1 n (fun j => .long (f j))) (fun q => by cases q) (by show ¬ (i < 0 ∨ (arrV _ _ _).slots.size ≤ _); rw [arrV_size]; exact hin) (by show (arrV _ _ _).slots[_]? = _; rw [arrV_read _ _ hlt]) rfl rfl (A.tab ht) (kk p e R s m args below meth c H locs cells slots ls A hH hS hl hcc hss)
set_option maxHeartbeats 4000000 in
theorem WW.dald {X : wdX} {kc ks pc a n : Nat} {f : Nat → UInt64} {i : Int32} {lv : List (Nat × Value)} {rest : List Value} {w : wdW} (ht : X.M.tab pc = some (.daload, 1)) (hc : w.1 36 a = some (.inr (n, .inr (.inr (.inr (.inl f)))))) (hin : vp_in i n)
    (kk : WW X kc ks (pc + 1) lv (.double (f i.toNatClampNeg) :: rest) w) : WW X kc ks pc lv (.int i :: .ref a :: rest) w := by
  intro p e R s m args below meth c H locs cells slots ls A hH hS hl hcc hss
  have hcell : H[a]? = some (vp_cell (X.G.2.1 36) (n, .inr (.inr (.inr (.inl f))))) := hH.1 36 a _ hc
  have hlt : i.toNatClampNeg < n := Nat.not_le.mp fun q => hin (Or.inr q)
  exact W.dald (v := .double (f i.toNatClampNeg)) A.exec A.code hcell ((wdArr A (t := 4) (k := 36) rfl).1 n (fun j => .double (f j))) (fun q => by cases q) (by show ¬ (i < 0 ∨ (arrV _ _ _).slots.size ≤ _); rw [arrV_size]; exact hin) (by show (arrV _ _ _).slots[_]? = _; rw [arrV_read _ _ hlt]) rfl rfl (A.tab ht) (kk p e R s m args below meth c H locs cells slots ls A hH hS hl hcc hss)
set_option maxHeartbeats 4000000 in
theorem WW.aald {X : wdX} {kc ks pc a n : Nat} {f : Nat → Option Nat} {i : Int32} {v : Value} {lv : List (Nat × Value)} {rest : List Value} {w : wdW} (ht : X.M.tab pc = some (.aaload, 1)) (hc : w.1 37 a = some (.inr (n, .inr (.inr (.inr (.inr f)))))) (hin : vp_in i n) (hv : va_rf (f i.toNatClampNeg) = v)
    (kk : WW X kc ks (pc + 1) lv (v :: rest) w) : WW X kc ks pc lv (.int i :: .ref a :: rest) w := by
  subst hv
  intro p e R s m args below meth c H locs cells slots ls A hH hS hl hcc hss
  have hcell : H[a]? = some (vp_cell (X.G.2.1 37) (n, .inr (.inr (.inr (.inr f))))) := hH.1 37 a _ hc
  have hlt : i.toNatClampNeg < n := Nat.not_le.mp fun q => hin (Or.inr q)
  exact W.aald (v := va_rf (f i.toNatClampNeg)) (ty := .object "java/lang/Object") A.exec A.code hcell ((wdArr A (t := 5) (k := 37) rfl).1 n (fun j => va_rf (f j))) rfl (fun q => by cases q) (by show ¬ (i < 0 ∨ (arrV _ _ _).slots.size ≤ _); rw [arrV_size]; exact hin) (by show (arrV _ _ _).slots[_]? = _; rw [arrV_read _ _ hlt]) rfl rfl (A.tab ht) (kk p e R s m args below meth c H locs cells slots ls A hH hS hl hcc hss)
/-- after a store into an array -/
theorem WW.stored {X : wdX} {kc ks pc k a j : Nat} {x0 x1 : vp_A} {lv : List (Nat × Value)} {rest : List Value} {w : wdW} {p : Program} {e : Env} {R : Room} {s : State} {m : MethodId} {args : Array Value} {below : List Frame} {meth : Method} {c : Code} {H H1 : Heap} {locs : List Loc} {cells slots : Nat} {ls : Array Slot}
    (A : wdAt X p e R s m args below meth c) (hH : wdH X.G w H) (hS : va_S (wdA X.G) s.heap H locs) (hl : lv_has ls X.M.nL lv) (hcc : cells + kc ≤ X.mc) (hss : slots + ks ≤ X.ms) (hc : w.1 k a = some (.inr x0)) (e1 : H1[a]? = some (vp_cell (X.G.2.1 k) x1)) (z : H1.size = H.size) (oq : ∀ q, q ≠ a → H1[q]? = H[q]?)
    (kk : WW X kc ks pc lv rest (wPut w k a (.inr x1))) : W p X.l e R s m args below meth c H1 (locs ++ [⟨a, j⟩]) cells slots (wdEnd X args s below) (F0 m pc ls rest) :=
  kk p e R s m args below meth c H1 _ cells slots ls A (hH.put hc e1 oq (by rw [z]; exact Nat.le_refl _)) (hS.put z oq (hH.2.2.1 k a _ hc).1) hl hcc hss
set_option maxHeartbeats 4000000 in
theorem WW.iast {X : wdX} {kc ks pc a n : Nat} {f f' : Nat → Int32} {i x : Int32} {lv : List (Nat × Value)} {rest : List Value} {w : wdW} (ht : X.M.tab pc = some (.iastore, 1)) (hc : w.1 32 a = some (.inr (n, .inl f))) (hin : vp_in i n) (hf : upd f i.toNatClampNeg x = f')
    (kk : WW X kc ks (pc + 1) lv rest (wPut w 32 a (.inr (n, .inl f')))) : WW X kc ks pc lv (.int x :: .int i :: .ref a :: rest) w := by
  subst hf
  intro p e R s m args below meth c H locs cells slots ls A hH hS hl hcc hss
  have hcell : H[a]? = some (vp_cell (X.G.2.1 32) (n, .inl f)) := hH.1 32 a _ hc
  refine W.iast A.exec A.code hcell ((wdArr A (t := 0) (k := 32) rfl).1 n (fun j => .int (f j))) (fun q => by cases q) (by show ¬ (i < 0 ∨ (arrV _ _ _).slots.size ≤ _); rw [arrV_size]; exact hin) rfl rfl (A.tab ht) fun H1 e1 z oq => ?_
  refine WW.stored A hH hS hl hcc hss hc ?_ z oq kk
  rw [e1, vp_cell_i, vp_cell_i, arrV_store]
  congr 2
  funext q
  by_cases hq : q = i.toNatClampNeg
  · subst hq
    simp [updV, upd]
  · simp [updV, upd, hq]
set_option maxHeartbeats 4000000 in
theorem WW.cast_ {X : wdX} {kc ks pc a n : Nat} {f f' : Nat → Int32} {i x : Int32} {lv : List (Nat × Value)} {rest : List Value} {w : wdW} (ht : X.M.tab pc = some (.castore, 1)) (hc : w.1 33 a = some (.inr (n, .inl f))) (hin : vp_in i n) (hf : upd f i.toNatClampNeg (vp_nar .char x) = f')
    (kk : WW X kc ks (pc + 1) lv rest (wPut w 33 a (.inr (n, .inl f')))) : WW X kc ks pc lv (.int x :: .int i :: .ref a :: rest) w := by
  subst hf
  intro p e R s m args below meth c H locs cells slots ls A hH hS hl hcc hss
  have hcell : H[a]? = some (vp_cell (X.G.2.1 33) (n, .inl f)) := hH.1 33 a _ hc
  refine W.cast A.exec A.code hcell ((wdArr A (t := 1) (k := 33) rfl).1 n (fun j => .int (f j))) (fun q => by cases q) (by show ¬ (i < 0 ∨ (arrV _ _ _).slots.size ≤ _); rw [arrV_size]; exact hin) rfl rfl (A.tab ht) fun H1 e1 z oq => ?_
  refine WW.stored A hH hS hl hcc hss hc ?_ z oq kk
  rw [e1, vp_cell_i, vp_cell_i, arrV_store]
  congr 2
  funext q
  by_cases hq : q = i.toNatClampNeg
  · subst hq
    simp [updV, upd, vp_nar]
    try rfl
  · simp [updV, upd, hq]
set_option maxHeartbeats 4000000 in
theorem WW.bast {X : wdX} {kc ks pc a n : Nat} {f f' : Nat → Int32} {i x : Int32} {lv : List (Nat × Value)} {rest : List Value} {w : wdW} (ht : X.M.tab pc = some (.bastore, 1)) (hc : w.1 34 a = some (.inr (n, .inl f))) (hin : vp_in i n) (hf : upd f i.toNatClampNeg (vp_nar .byte x) = f')
    (kk : WW X kc ks (pc + 1) lv rest (wPut w 34 a (.inr (n, .inl f')))) : WW X kc ks pc lv (.int x :: .int i :: .ref a :: rest) w := by
  subst hf
  intro p e R s m args below meth c H locs cells slots ls A hH hS hl hcc hss
  have hcell : H[a]? = some (vp_cell (X.G.2.1 34) (n, .inl f)) := hH.1 34 a _ hc
  refine W.bast A.exec A.code hcell ((wdArr A (t := 2) (k := 34) rfl).1 n (fun j => .int (f j))) (fun q => by cases q) (by show ¬ (i < 0 ∨ (arrV _ _ _).slots.size ≤ _); rw [arrV_size]; exact hin) rfl rfl (A.tab ht) fun H1 e1 z oq => ?_
  refine WW.stored A hH hS hl hcc hss hc ?_ z oq kk
  rw [e1, vp_cell_i, vp_cell_i, arrV_store]
  congr 2
  funext q
  by_cases hq : q = i.toNatClampNeg
  · subst hq
    simp [updV, upd, vp_nar]
    try rfl
  · simp [updV, upd, hq]
set_option maxHeartbeats 4000000 in
theorem WW.last {X : wdX} {kc ks pc a n : Nat} {f f' : Nat → Int64} {i : Int32} {x : Int64} {lv : List (Nat × Value)} {rest : List Value} {w : wdW} (ht : X.M.tab pc = some (.lastore, 1)) (hc : w.1 35 a = some (.inr (n, .inr (.inl f)))) (hin : vp_in i n) (hf : vp_updL f i.toNatClampNeg x = f')
    (kk : WW X kc ks (pc + 1) lv rest (wPut w 35 a (.inr (n, .inr (.inl f'))))) : WW X kc ks pc lv (.long x :: .int i :: .ref a :: rest) w := by
  subst hf
  intro p e R s m args below meth c H locs cells slots ls A hH hS hl hcc hss
  have hcell : H[a]? = some (vp_cell (X.G.2.1 35) (n, .inr (.inl f))) := hH.1 35 a _ hc
  refine W.last A.exec A.code hcell ((wdArr A (t := 3) (k := 35) rfl).1 n (fun j => .long (f j))) (fun q => by cases q) (by show ¬ (i < 0 ∨ (arrV _ _ _).slots.size ≤ _); rw [arrV_size]; exact hin) rfl rfl (A.tab ht) fun H1 e1 z oq => ?_
  refine WW.stored A hH hS hl hcc hss hc ?_ z oq kk
  rw [e1, vp_cell_l, vp_cell_l, arrV_store]
  congr 2
  funext q
  by_cases hq : q = i.toNatClampNeg
  · subst hq
    simp [updV, vp_updL]
  · simp [updV, vp_updL, hq]
set_option maxHeartbeats 4000000 in
theorem WW.dast {X : wdX} {kc ks pc a n : Nat} {f f' : Nat → UInt64} {i : Int32} {x : UInt64} {lv : List (Nat × Value)} {rest : List Value} {w : wdW} (ht : X.M.tab pc = some (.dastore, 1)) (hc : w.1 36 a = some (.inr (n, .inr (.inr (.inr (.inl f)))))) (hin : vp_in i n) (hf : vf_upd f i.toNatClampNeg x = f')
    (kk : WW X kc ks (pc + 1) lv rest (wPut w 36 a (.inr (n, .inr (.inr (.inr (.inl f'))))))) : WW X kc ks pc lv (.double x :: .int i :: .ref a :: rest) w := by
  subst hf
  intro p e R s m args below meth c H locs cells slots ls A hH hS hl hcc hss
  have hcell : H[a]? = some (vp_cell (X.G.2.1 36) (n, .inr (.inr (.inr (.inl f))))) := hH.1 36 a _ hc
  refine W.dast A.exec A.code hcell ((wdArr A (t := 4) (k := 36) rfl).1 n (fun j => .double (f j))) (fun q => by cases q) (by show ¬ (i < 0 ∨ (arrV _ _ _).slots.size ≤ _); rw [arrV_size]; exact hin) rfl rfl (A.tab ht) fun H1 e1 z oq => ?_
  refine WW.stored A hH hS hl hcc hss hc ?_ z oq kk
  rw [e1, vp_cell_d, vp_cell_d, arrV_store]
  congr 2
  funext q
  by_cases hq : q = i.toNatClampNeg
  · subst hq
    simp [updV, vf_upd]
  · simp [updV, vf_upd, hq]
set_option maxHeartbeats 4000000 in
/-- a reference (an object of the world, of class number ci) into an array of Object's -/
theorem WW.aast {X : wdX} {kc ks pc a n v ci : Nat} {fs : List Value} {f f' : Nat → Option Nat} {i : Int32} {r : vw_C} {lv : List (Nat × Value)} {rest : List Value} {w : wdW} (ht : X.M.tab pc = some (.aastore, 1)) (hc : w.1 37 a = some (.inr (n, .inr (.inr (.inr (.inr f)))))) (hv : w.1 ci v = some (.inl fs)) (hr : wdCl[ci]? = some r) (hca : (Cond.castable r.1 "java/lang/Object") ∈ wdNw) (hin : vp_in i n) (hf : va_up f i.toNatClampNeg (some v) = f')
    (kk : WW X kc ks (pc + 1) lv rest (wPut w 37 a (.inr (n, .inr (.inr (.inr (.inr f'))))))) : WW X kc ks pc lv (.ref v :: .int i :: .ref a :: rest) w := by
  subst hf
  intro p e R s m args below meth c H locs cells slots ls A hH hS hl hcc hss
  have hcell : H[a]? = some (vp_cell (X.G.2.1 37) (n, .inr (.inr (.inr (.inr f))))) := hH.1 37 a _ hc
  have hlt : i.toNatClampNeg < n := Nat.not_le.mp fun q => hin (Or.inr q)
  have h0 : ¬ i < 0 := fun q => hin (Or.inl q)
  obtain ⟨r', cellV, h1, h2, h3, h4, h5, h6⟩ := hH.1 ci v _ hv
  cases h1.symm.trans hr
  obtain ⟨hS', hfc, kC, hkC, hkind⟩ := A.K.1 ci _ hr
  obtain ⟨kA, comp, k1, k2, k3, -⟩ := (wdArr A (t := 5) (k := 37) (ty := .object "java/lang/Object") rfl).2
  obtain ⟨c0, t1, f1, f2, f3⟩ := Cond.castable_spec (va_Nw.use (A := args) rfl (A.nw hca))
  cases hfc.symm.trans f1
  cases k3.symm.trans f2
  obtain ⟨kO, hkO, -⟩ := Vm.findClass_spec k3
  refine W.aast A.exec A.code hcell (fun q h => by cases h) (fun h => by cases h) k1 k2 rfl hkO ⟨h0, by show _ < (arrV _ _ _).slots.size; rw [arrV_size]; exact hlt⟩ h2 (fun q h => by rw [h4] at h; cases h) (by rw [h3]; exact hkC) (by rw [h3]; exact f3) rfl rfl (A.tab ht) fun H1 e1 z oq => ?_
  refine WW.stored A hH hS hl hcc hss hc ?_ z oq kk
  rw [e1, vp_cell_q, vp_cell_q, arrV_store]
  congr 2
  funext q
  by_cases hq : q = i.toNatClampNeg
  · subst hq
    simp [updV, va_up, va_rf]
  · simp [updV, va_up, hq]
set_option maxHeartbeats 4000000 in
theorem WW.aastN {X : wdX} {kc ks pc a n : Nat} {f f' : Nat → Option Nat} {i : Int32} {lv : List (Nat × Value)} {rest : List Value} {w : wdW} (ht : X.M.tab pc = some (.aastore, 1)) (hc : w.1 37 a = some (.inr (n, .inr (.inr (.inr (.inr f)))))) (hin : vp_in i n) (hf : va_up f i.toNatClampNeg none = f')
    (kk : WW X kc ks (pc + 1) lv rest (wPut w 37 a (.inr (n, .inr (.inr (.inr (.inr f'))))))) : WW X kc ks pc lv (.null :: .int i :: .ref a :: rest) w := by
  subst hf
  intro p e R s m args below meth c H locs cells slots ls A hH hS hl hcc hss
  have hcell : H[a]? = some (vp_cell (X.G.2.1 37) (n, .inr (.inr (.inr (.inr f))))) := hH.1 37 a _ hc
  refine va_WaastN (C := "java/lang/Object") A.exec A.code hcell ((wdArr A (t := 5) (k := 37) rfl).1 n (fun j => va_rf (f j))) (fun h => by cases h) (by show ¬ (i < 0 ∨ (arrV _ _ _).slots.size ≤ _); rw [arrV_size]; exact hin) rfl rfl (A.tab ht) fun H1 e1 z oq => ?_
  refine WW.stored A hH hS hl hcc hss hc ?_ z oq kk
  rw [e1, vp_cell_q, vp_cell_q, arrV_store]
  congr 2
  funext q
  by_cases hq : q = i.toNatClampNeg
  · subst hq
    simp [updV, va_up, va_rf]
  · simp [updV, va_up, hq]
set_option maxHeartbeats 4000000 in
/-- an array's length: its kind k, its type's place t -/
theorem WW.alen {X : wdX} {kc ks pc a : Nat} {x : vp_A} {v : Int32} {lv : List (Nat × Value)} {rest : List Value} {w : wdW} (k t : Nat) {ty : FieldType} (ht : X.M.tab pc = some (.arraylength, 1)) (hkt : (wdTys X.G)[t]? = some (X.G.2.1 k, ty)) (hc : w.1 k a = some (.inr x)) (hv : nI x.1 = v)
    (kk : WW X kc ks (pc + 1) lv (.int v :: rest) w) : WW X kc ks pc lv (.ref a :: rest) w := by
  subst hv
  intro p e R s m args below meth c H locs cells slots ls A hH hS hl hcc hss
  have hcell : H[a]? = some (vp_cell (X.G.2.1 k) x) := hH.1 k a _ hc
  have K := kk p e R s m args below meth c H locs cells slots ls A hH hS hl hcc hss
  obtain ⟨n, f | f | f | f | f⟩ := x
  · exact W.alen (n := Int32.ofNat n) A.exec A.code hcell ((wdArr A hkt).1 n (fun j => .int (f j))) (by rw [vp_cell_i, arrV_size] <;> rfl) rfl rfl (A.tab ht) K
  · exact W.alen (n := Int32.ofNat n) A.exec A.code hcell ((wdArr A hkt).1 n (fun j => .long (f j))) (by rw [vp_cell_l, arrV_size] <;> rfl) rfl rfl (A.tab ht) K
  · exact W.alen (n := Int32.ofNat n) A.exec A.code hcell ((wdArr A hkt).1 n (fun j => .float (f j))) (by rw [vp_cell_f, arrV_size] <;> rfl) rfl rfl (A.tab ht) K
  · exact W.alen (n := Int32.ofNat n) A.exec A.code hcell ((wdArr A hkt).1 n (fun j => .double (f j))) (by rw [vp_cell_d, arrV_size] <;> rfl) rfl rfl (A.tab ht) K
  · exact W.alen (n := Int32.ofNat n) A.exec A.code hcell ((wdArr A hkt).1 n (fun j => va_rf (f j))) (by rw [vp_cell_q, arrV_size] <;> rfl) rfl rfl (A.tab ht) K
/-! arrays that nobody writes -/
theorem wdK_T {X : wdX} {p e R s m args below meth c} (A : wdAt X p e R s m args below meth c) {ty : FieldType} {t N : Nat} {f : Nat → Value} (h : (ty, t, N, f) ∈ wdKs X.G) : va_T ty t N f (wdA X.G) s s.heap := A.F.2.2.2.2.2.2.2.2.2.1 _ h
theorem WW.alenT {X : wdX} {kc ks pc t N : Nat} {ty : FieldType} {f : Nat → Value} {v : Int32} {lv : List (Nat × Value)} {rest : List Value} {w : wdW} (ht : X.M.tab pc = some (.arraylength, 1)) (hq : (ty, t, N, f) ∈ wdKs X.G) (hv : nI N = v)
    (kk : WW X kc ks (pc + 1) lv (.int v :: rest) w) : WW X kc ks pc lv (.ref t :: rest) w :=
  fun p e R s m args below meth c H locs cells slots ls A hH hS hl hcc hss => va_tlen A.exec A.code (wdK_T A hq) hS hv (A.tab ht) (kk p e R s m args below meth c H locs cells slots ls A hH hS hl hcc hss)
theorem WW.ialdT {X : wdX} {kc ks pc t N : Nat} {f : Nat → Value} {v : Value} {i : Int32} {lv : List (Nat × Value)} {rest : List Value} {w : wdW} (ht : X.M.tab pc = some (.iaload, 1)) (hq : (.int, t, N, f) ∈ wdKs X.G) (hin : vp_in i N) (hv : f i.toNatClampNeg = v)
    (kk : WW X kc ks (pc + 1) lv (v :: rest) w) : WW X kc ks pc lv (.int i :: .ref t :: rest) w :=
  fun p e R s m args below meth c H locs cells slots ls A hH hS hl hcc hss => va_ti A.exec A.code (wdK_T A hq) hS hin hv (A.tab ht) (kk p e R s m args below meth c H locs cells slots ls A hH hS hl hcc hss)
theorem WW.baldT {X : wdX} {kc ks pc t N : Nat} {f : Nat → Value} {v : Value} {i : Int32} {lv : List (Nat × Value)} {rest : List Value} {w : wdW} (ht : X.M.tab pc = some (.baload, 1)) (hq : (.byte, t, N, f) ∈ wdKs X.G) (hin : vp_in i N) (hv : f i.toNatClampNeg = v)
    (kk : WW X kc ks (pc + 1) lv (v :: rest) w) : WW X kc ks pc lv (.int i :: .ref t :: rest) w :=
  fun p e R s m args below meth c H locs cells slots ls A hH hS hl hcc hss => va_tb A.exec A.code (wdK_T A hq) hS hin hv (A.tab ht) (kk p e R s m args below meth c H locs cells slots ls A hH hS hl hcc hss)
/-! string constants: string i -/
theorem wdStr {X : wdX} {p e R s m args below meth c} (A : wdAt X p e R s m args below meth c) {i : Nat} {q : String × Nat × String × Int32 × Int32 × List Nat} (h : wdSt[i]? = some q) : va_O "java/lang/String" (wdSa X.G i) (wdA X.G) s s.heap ∧ va_OF "java/lang/String" "coder" "B" (.int 0) (wdSa X.G i) (wdA X.G) s s.heap ∧ va_OF "java/lang/String" "value" "[B" (.ref (wdSv X.G i)) (wdSa X.G i) (wdA X.G) s s.heap ∧ va_OF "java/lang/String" "hash" "I" (.int q.2.2.2.1) (wdSa X.G i) (wdA X.G) s s.heap ∧ va_OF "java/lang/String" "hashIsZero" "Z" (.int q.2.2.2.2.1) (wdSa X.G i) (wdA X.G) s s.heap ∧
    va_T .byte (wdSv X.G i) q.2.2.2.2.2.length (fun j => .int (nI (q.2.2.2.2.2.getD j 0))) (wdA X.G) s s.heap ∧ vk_R q.1 q.2.1 q.2.2.1 (wdSa X.G i) s := A.F.2.2.2.2.2.2.2.2.2.2 i q h
theorem WW.ldcS {X : wdX} {kc ks pc idx i : Nat} {q : String × Nat × String × Int32 × Int32 × List Nat} {lv : List (Nat × Value)} {rest : List Value} {w : wdW} (ht : X.M.tab pc = some (.ldc idx, 2)) (hq : wdSt[i]? = some q) (ho : q.1 = X.M.y.cls ∧ q.2.1 = idx)
    (kk : WW X kc ks (pc + 2) lv (.ref (wdSa X.G i) :: rest) w) : WW X kc ks pc lv rest w :=
  fun p e R s m args below meth c H locs cells slots ls A hH hS hl hcc hss => va_ldcS (own := q.1) (tx := q.2.2.1) (index := q.2.1) A.exec A.code (by rw [ho.1]; exact A.own) (wdStr A hq).2.2.2.2.2.2 (by rw [ho.2]; exact A.tab ht) (kk p e R s m args below meth c H locs cells slots ls A hH hS hl hcc hss)
/-- a String's own field, read in String's methods -/
theorem WW.getS {X : wdX} {kc ks pc idx i : Nat} {n d : String} {v : Value} {q : String × Nat × String × Int32 × Int32 × List Nat} {lv : List (Nat × Value)} {rest : List Value} {w : wdW} (ht : X.M.tab pc = some (.getfield idx, 3)) (hq : wdSt[i]? = some q) (hl0 : (Cond.fieldLink X.M.y.cls idx "java/lang/String" n d) ∈ lw_all)
    (hw : (n, d, v) = ("coder", "B", .int 0) ∨ (n, d, v) = ("value", "[B", .ref (wdSv X.G i)) ∨ (n, d, v) = ("hash", "I", .int q.2.2.2.1) ∨ (n, d, v) = ("hashIsZero", "Z", .int q.2.2.2.2.1))
    (kk : WW X kc ks (pc + 3) lv (v :: rest) w) : WW X kc ks pc lv (.ref (wdSa X.G i) :: rest) w :=
  fun p e R s m args below meth c H locs cells slots ls A hH hS hl hcc hss => by
    have g := wdStr A hq
    have hE : va_OF "java/lang/String" n d v (wdSa X.G i) (wdA X.G) s s.heap := by
      rcases hw with h | h | h | h <;> cases h
      · exact g.2.1
      · exact g.2.2.1
      · exact g.2.2.2.1
      · exact g.2.2.2.2.1
    exact vk_getf A.exec A.code hE hS A.own (A.hts _ hl0) (fun _ h => h) (A.tab ht) (kk p e R s m args below meth c H locs cells slots ls A hH hS hl hcc hss)
theorem WW.baldS {X : wdX} {kc ks pc i : Nat} {q : String × Nat × String × Int32 × Int32 × List Nat} {v : Value} {j : Int32} {lv : List (Nat × Value)} {rest : List Value} {w : wdW} (ht : X.M.tab pc = some (.baload, 1)) (hq : wdSt[i]? = some q) (hin : vp_in j q.2.2.2.2.2.length) (hv : .int (nI (q.2.2.2.2.2.getD j.toNatClampNeg 0)) = v)
    (kk : WW X kc ks (pc + 1) lv (v :: rest) w) : WW X kc ks pc lv (.int j :: .ref (wdSv X.G i) :: rest) w :=
  fun p e R s m args below meth c H locs cells slots ls A hH hS hl hcc hss => va_tb A.exec A.code (wdStr A hq).2.2.2.2.2.1 hS hin hv (A.tab ht) (kk p e R s m args below meth c H locs cells slots ls A hH hS hl hcc hss)
theorem WW.alenS {X : wdX} {kc ks pc i : Nat} {q : String × Nat × String × Int32 × Int32 × List Nat} {v : Int32} {lv : List (Nat × Value)} {rest : List Value} {w : wdW} (ht : X.M.tab pc = some (.arraylength, 1)) (hq : wdSt[i]? = some q) (hv : nI q.2.2.2.2.2.length = v)
    (kk : WW X kc ks (pc + 1) lv (.int v :: rest) w) : WW X kc ks pc lv (.ref (wdSv X.G i) :: rest) w :=
  fun p e R s m args below meth c H locs cells slots ls A hH hS hl hcc hss => va_tlen A.exec A.code (wdStr A hq).2.2.2.2.2.1 hS hv (A.tab ht) (kk p e R s m args below meth c H locs cells slots ls A hH hS hl hcc hss)
/-! statics -/
theorem WW.gets {X : wdX} {kc ks pc idx : Nat} {C n d : String} {v : Value} {lv : List (Nat × Value)} {rest : List Value} {w : wdW} (ht : X.M.tab pc = some (.getstatic idx, 3)) (hq : (C, n, d, v) ∈ wdZs X.G) (hl0 : (Cond.fieldLink X.M.y.cls idx C n d) ∈ lw_all)
    (kk : WW X kc ks (pc + 3) lv (v :: rest) w) : WW X kc ks pc lv rest w :=
  fun p e R s m args below meth c H locs cells slots ls A hH hS hl hcc hss => va_gets A.exec A.code (A.F.2.2.2.2.2.2.2.1 _ hq) hS A.own (A.hts _ hl0) (fun _ h => h) (A.tab ht) (kk p e R s m args below meth c H locs cells slots ls A hH hS hl hcc hss)
/-- a static that holds some reference or null -/
theorem WW.getz {X : wdX} {kc ks pc idx : Nat} {C n d : String} {lv : List (Nat × Value)} {rest : List Value} {w : wdW} (ht : X.M.tab pc = some (.getstatic idx, 3)) (hz : ∀ (l : Launch) (U : State) (H : Heap), wdF l X.G U H → va_Zq C n d (wdA X.G) U H) (hl0 : (Cond.fieldLink X.M.y.cls idx C n d) ∈ lw_all)
    (kk : ∀ r : Option Nat, WW X kc ks (pc + 3) lv (va_rf r :: rest) w) : WW X kc ks pc lv rest w :=
  fun p e R s m args below meth c H locs cells slots ls A hH hS hl hcc hss => by
    rcases hz _ _ _ A.F with h | ⟨t, h⟩
    · exact va_gets A.exec A.code h hS A.own (A.hts _ hl0) (fun _ h => h) (A.tab ht) (kk none p e R s m args below meth c H locs cells slots ls A hH hS hl hcc hss)
    · exact va_gets A.exec A.code h hS A.own (A.hts _ hl0) (fun _ h => h) (A.tab ht) (kk (some t) p e R s m args below meth c H locs cells slots ls A hH hS hl hcc hss)
