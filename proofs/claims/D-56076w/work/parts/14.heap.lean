set_option maxRecDepth 100000
theorem wdA_new {G : wdG} {l : Launch} {s : State} (F : wdF l G s s.heap) : ∀ q, s.heap.size ≤ q → wdA G q := fun q h => Nat.le_trans F.2.1 h
theorem vp_V_at {fs : List Value} {k : Nat} {v : Value} (h : fs[k]? = some v) : vp_V fs k = v := by simp [vp_V, h]
set_option maxHeartbeats 4000000 in
theorem WW.get {X : wdX} {kc ks pc idx ci k a : Nat} {lv : List (Nat × Value)} {rest fs : List Value} {v : Value} {ty : FieldType} {w : wdW} (ht : X.M.tab pc = some (.getfield idx, 3)) (hf : wdFK X.M.y.cls idx ci k ty) (hc : w.1 ci a = some (.inl fs)) (hv : fs[k]? = some v)
    (kk : WW X kc ks (pc + 3) lv (v :: rest) w) : WW X kc ks pc lv (.ref a :: rest) w := by
  intro p e R s m args below meth c H locs cells slots ls A hH hS hl hcc hss
  have K := kk p e R s m args below meth c H locs cells slots ls A hH hS hl hcc hss
  obtain ⟨C, T, N, ref, hcl, hk, hlink, hsame, hty⟩ := hf
  obtain ⟨r, cell, h1, h2, h3, h4, h5, h6⟩ := hH.1 ci a _ hc
  cases h1.symm.trans hcl
  obtain ⟨hS', hfc, kC, hkC, hkind⟩ := A.K.1 ci _ hcl
  obtain ⟨cf, kf, fi, f, hi, hsl⟩ := hS' k hk
  have hin := (wdClAll _ (List.mem_of_getElem? hcl)).1
  have hst := (u_facts hfc hkC (u_lays A.hts hin hk) hi).1
  have hi2 : s.fieldFound? ref (T k).2.1 (T k).2.2.1 = some (cf, kf, fi, f) := by
    rcases hsame with e | e
    · rw [e]; exact hi
    · exact u_same (A.hts _ e) _ hi
  have hslot : cell.slots[f.slot]? = some v := by rw [hsl, h5 k hk, vp_V_at hv]
  rcases hlink with e | ⟨host, e⟩
  · exact W.getf A.exec A.code A.own (A.hts _ e) hi2 hst h2 (by rw [h4]; exact fun h => by cases h) hslot rfl rfl (A.tab ht) K
  · exact va_Wgetf A.exec A.code A.own (va_Nw.use rfl (A.nw e)) hi2 hst h2 (by rw [h4]; exact fun h => by cases h) hslot rfl rfl (A.tab ht) K
theorem wdCell.set {G : wdG} {ci k a : Nat} {fs : List Value} {v : Value} {H1 : Heap} {r : vw_C} {cell : Cell} (hr : wdCl[ci]? = some r) (h3 : cell.cls = G.1.1 ci) (h4 : cell.vm = .none) (h5 : ∀ j, j < r.2.2 → cell.slots[G.1.2 ci j]? = some (vp_V fs j)) (h6 : ci = 8 ∨ ci = 9 → cell.monitor.owner = none ∧ cell.monitor.count = 0)
    (hap : ∀ x y, x < r.2.2 → y < r.2.2 → x ≠ y → G.1.2 ci x ≠ G.1.2 ci y) (hk : k < r.2.2) (hl : k < fs.length) (e1 : H1[a]? = some (cell.setSlot (G.1.2 ci k) v)) : wdCell G ci a (.inl (fs.set k v)) H1 :=
  ⟨r, _, hr, e1, h3, h4, fun j hj => by rw [t_set h5 hap hk v j hj, vp_updV_set hl v], h6⟩
set_option maxHeartbeats 4000000 in
theorem WW.put {X : wdX} {kc ks pc idx ci k a : Nat} {lv : List (Nat × Value)} {rest fs : List Value} {v : Value} {ty : FieldType} {w : wdW} (fs' : List Value) (ht : X.M.tab pc = some (.putfield idx, 3)) (hf : wdFP X.M.y.cls idx ci k ty) (hc : w.1 ci a = some (.inl fs)) (hl0 : k < fs.length) (hn : narrow ty v = v) (hfit : fits ty v = true) (hfs : fs.set k v = fs')
    (kk : WW X kc ks (pc + 3) lv rest (wPut w ci a (.inl fs'))) : WW X kc ks pc lv (v :: .ref a :: rest) w := by
  subst hfs
  intro p e R s m args below meth c H locs cells slots ls A hH hS hl hcc hss
  obtain ⟨⟨C, T, N, ref, hcl, hk, hlink, hsame, hty⟩, hfin⟩ := hf
  obtain ⟨r, cell, h1, h2, h3, h4, h5, h6⟩ := hH.1 ci a _ hc
  cases h1.symm.trans hcl
  obtain ⟨hS', hfc, kC, hkC, hkind⟩ := A.K.1 ci _ hcl
  obtain ⟨cf, kf, fi, f, hi, hsl⟩ := hS' k hk
  obtain ⟨hin, ⟨ty0, hty0⟩, hnm⟩ := wdClAll _ (List.mem_of_getElem? hcl)
  have hap := va_apart (own := C) A.hts hin ty0 hty0 hnm A.K hcl
  have hst := (u_facts hfc hkC (u_lays A.hts hin hk) hi).1
  have hi2 : s.fieldFound? ref (T k).2.1 (T k).2.2.1 = some (cf, kf, fi, f) := by
    rcases hsame with e | e
    · rw [e]; exact hi
    · exact u_same (A.hts _ e) _ hi
  have hlay := A.hts _ (hin _ (u_in_lay hk))
  unfold u_lay at hlay
  rw [if_neg (by rw [hfin _ hcl]; decide)] at hlay
  have h7 := u_store hfc hkC hkind hlay hi hty hn hfit
  have hb : wdA X.G a := (hH.2.2.1 ci a _ hc).1
  have fin : ∀ H' : Heap, H'[a]? = some (cell.setSlot f.slot v) → H'.size = H.size → (∀ q, q ≠ a → H'[q]? = H[q]?) → W p X.l e R s m args below meth c H' (locs ++ [⟨a, f.slot⟩]) cells slots (wdEnd X args s below) (F0 m (pc + 3) ls rest) := by
    intro H' e1 e2 e3
    rw [hsl] at e1
    exact kk p e R s m args below meth c H' _ cells slots ls A (hH.put hc (wdCell.set h1 h3 h4 h5 h6 hap hk hl0 e1) e3 (by rw [e2]; exact Nat.le_refl _)) (hS.put e2 e3 hb) hl hcc hss
  rcases hlink with e | ⟨host, e⟩
  · exact W.putK A.exec A.code (f := f) ⟨A.own, A.hts _ e, ⟨_, _, _, hi2⟩, hst⟩ (by rw [h3]; exact h7) h2 h4 (by rw [hsl]; exact k2_hasslot (h5 k hk)) rfl rfl (A.tab ht) fin
  · exact va_WputK A.exec A.code (f := f) A.own (va_Nw.use rfl (A.nw e)) hi2 hst (by rw [h3]; exact h7) h2 h4 (by rw [hsl]; exact k2_hasslot (h5 k hk)) rfl rfl (A.tab ht) fin
set_option maxHeartbeats 4000000 in
/-- a final field, in the class's own constructor -/
theorem WW.putF {X : wdX} {kc ks pc idx ci k a : Nat} {lv : List (Nat × Value)} {rest fs : List Value} {v : Value} {ty : FieldType} {w : wdW} (fs' : List Value) (ht : X.M.tab pc = some (.putfield idx, 3)) (hf : wdFF X.M.y.cls idx ci k ty) (hin2 : X.M.y.name = "<init>") (hc : w.1 ci a = some (.inl fs)) (hl0 : k < fs.length) (hn : narrow ty v = v) (hfit : fits ty v = true) (hfs : fs.set k v = fs')
    (kk : WW X kc ks (pc + 3) lv rest (wPut w ci a (.inl fs'))) : WW X kc ks pc lv (v :: .ref a :: rest) w := by
  subst hfs
  intro p e R s m args below meth c H locs cells slots ls A hH hS hl hcc hss
  obtain ⟨⟨C, T, N, ref, hcl, hk, hlink, hsame, hty⟩, hfin, hlk⟩ := hf
  obtain ⟨r, cell, h1, h2, h3, h4, h5, h6⟩ := hH.1 ci a _ hc
  cases h1.symm.trans hcl
  obtain ⟨hS', hfc, kC, hkC, hkind⟩ := A.K.1 ci _ hcl
  obtain ⟨cf, kf, fi, f, hi, hsl⟩ := hS' k hk
  obtain ⟨hin, ⟨ty0, hty0⟩, hnm⟩ := wdClAll _ (List.mem_of_getElem? hcl)
  have hap := va_apart (own := C) A.hts hin ty0 hty0 hnm A.K hcl
  have hst := (u_facts hfc hkC (u_lays A.hts hin hk) hi).1
  have hlay := A.hts _ (hin _ (u_in_lay hk))
  unfold u_lay at hlay
  rw [if_pos (hfin _ hcl).1] at hlay
  have hcf : m.cls = cf := by
    obtain ⟨_, _, c', _, _, _, -, -, hf', -, -, -, hown2, -⟩ := Cond.laysFinal_spec hlay
    have e1 : c' = cf := by have := hi.symm.trans hf'; simp at this; exact this.1.symm
    have e2 : (T k).1 = X.M.y.cls := (hfin _ hcl).2
    rw [e2] at hown2
    rw [← e1]; exact Option.some.inj (A.own.symm.trans hown2)
  have h7 := u_fits hfc hkC hkind (Or.inr hlay) hi hty hn hfit
  have hb : wdA X.G a := (hH.2.2.1 ci a _ hc).1
  refine W.putFinK A.exec A.code A.own (A.hts _ (hlk _ hcl)) hi hst hcf (A.name.trans hin2) (by rw [h3]; exact h7) h2 h4 (by rw [hsl]; exact k2_hasslot (h5 k hk)) rfl rfl (A.tab ht) fun H' e1 e2 e3 => ?_
  rw [hsl] at e1 ⊢
  exact kk p e R s m args below meth c H' _ cells slots ls A (hH.put hc (wdCell.set h1 h3 h4 h5 h6 hap hk hl0 e1) e3 (by rw [e2]; exact Nat.le_refl _)) (hS.put e2 e3 hb) hl hcc hss
/-- a new object's fields -/
def wdBlank (ci : Nat) (fs : List Value) : Prop := ∀ r, wdCl[ci]? = some r → ∀ j, j < r.2.2 → ∃ t, parseFieldDescriptor (r.2.1 j).2.2.1 = some t ∧ defaultValue t = vp_V fs j
set_option maxHeartbeats 4000000 in
theorem WW.new {X : wdX} {kc ks pc idx ci N : Nat} {lv : List (Nat × Value)} {rest fs : List Value} {w : wdW} (ht : X.M.tab pc = some (.new idx, 3)) (hk : wdCK X.M.y.cls idx ci N) (hfs : wdBlank ci fs) (hc1 : 1 ≤ kc) (hs1 : N ≤ ks)
    (kk : ∀ q : Nat, w.2 ≤ q → WW X (kc - 1) (ks - N) (pc + 3) lv (.ref q :: rest) (wNew w ci q (.inl fs))) : WW X kc ks pc lv rest w := by
  intro p e R s m args below meth c H locs cells slots ls A hH hS hl hcc hss
  obtain ⟨C, T, hcl, w1, w2, w3⟩ := hk
  obtain ⟨hS', hfc, kC', hkC', hkind⟩ := A.K.1 ci _ hcl
  obtain ⟨hin, -, -⟩ := wdClAll _ (List.mem_of_getElem? hcl)
  obtain ⟨r1, r2, r3, r4⟩ := A.room
  refine W.newcK A.exec A.code A.own (A.hts _ w1) (A.hts _ w2) (A.hts _ w3) rfl (A.tab ht) (by omega) (by omega) hfc rfl fun H1 kC hkC e1 z1 o1 => ?_
  have hcell : wdCell X.G ci H.size (.inl fs) H1 := by
    refine ⟨_, _, hcl, e1, rfl, rfl, fun j hj => ?_, fun _ => ⟨rfl, rfl⟩⟩
    obtain ⟨cf, kf, fi, f, hi, hsl⟩ := hS' j hj
    obtain ⟨t, ht1, ht2⟩ := hfs _ hcl j hj
    have h3 := (u_facts hfc hkC (u_lays A.hts hin hj) hi).2.2
    rw [(State.fieldFound?_type hi ht1).2] at h3
    rw [← hsl, ← ht2]
    exact k2_blank h3
  have hbase : X.G.2.2.1 ≤ H.size := Nat.le_trans A.F.2.1 hS.1
  exact kk H.size hH.2.2.2 p e R s m args below meth c H1 locs _ _ ls A (hH.new rfl hbase hcell o1) ⟨Nat.le_trans hS.1 (by omega), fun x h1 h2 => (o1 x (Nat.lt_of_lt_of_le h1 hS.1)).trans (hS.2.1 x h1 h2), hS.2.2⟩ hl (by omega) (by omega)
theorem wdArr {X : wdX} {p e R s m args below meth c} (A : wdAt X p e R s m args below meth c) {t k : Nat} {ty : FieldType} (h : (wdTys X.G)[t]? = some (X.G.2.1 k, ty)) : ArrOfT s (X.G.2.1 k) ty ∧ va_RA s (X.G.2.1 k) ty := A.K.2 t _ h
set_option maxHeartbeats 4000000 in
/-- a new array of numbers: its kind k, its type's place t -/
theorem WW.newa {X : wdX} {kc ks pc N : Nat} {atype : ArrayType} {n : Int32} {lv : List (Nat × Value)} {rest : List Value} {w : wdW} (k t : Nat) (ty : FieldType) (a0 : vp_A) (ht : X.M.tab pc = some (.newarray atype, 2)) (hty : newarray.typeOf atype = ty) (hkt : (wdTys X.G)[t]? = some (X.G.2.1 k, ty)) (hprim : ∀ (U : State) (cA : ClassId), va_RA U cA ty → U.vm.findClass ("[" ++ ty.toString) = some cA) (harr : (Cond.arrayClass ty) ∈ lw_all) (ha : ∀ cA : ClassId, vp_cell cA a0 = arrV cA N (fun _ => defaultValue ty))
    (hn : ¬ n < 0) (hN : n.toNatClampNeg = N) (hbytes : N * componentBytes ty ≤ 536870912) (hc1 : 1 ≤ kc) (hs1 : N ≤ ks)
    (kk : ∀ q : Nat, w.2 ≤ q → WW X (kc - 1) (ks - N) (pc + 2) lv (.ref q :: rest) (wNew w k q (.inr a0))) : WW X kc ks pc lv (.int n :: rest) w := by
  subst hty
  intro p e R s m args below meth c H locs cells slots ls A hH hS hl hcc hss
  obtain ⟨r1, r2, r3, r4⟩ := A.room
  refine va_newaK A.exec A.code (A.hts _ harr) rfl (A.tab ht) rfl hn hN hbytes (by omega) (by omega) rfl fun H1 cA e1 z1 o1 hAr hNm => ?_
  have hcA : cA = X.G.2.1 k := Option.some.inj (hNm.symm.trans (hprim _ _ (wdArr A hkt).2))
  subst hcA
  have hcell : wdCell X.G k H.size (.inr a0) H1 := by
    show H1[H.size]? = some (vp_cell _ _)
    rw [ha]; exact e1
  have hbase : X.G.2.2.1 ≤ H.size := Nat.le_trans A.F.2.1 hS.1
  exact kk H.size hH.2.2.2 p e R s m args below meth c H1 locs _ _ ls A (hH.new rfl hbase hcell o1) ⟨Nat.le_trans hS.1 (by omega), fun x h1 h2 => (o1 x (Nat.lt_of_lt_of_le h1 hS.1)).trans (hS.2.1 x h1 h2), hS.2.2⟩ hl (by omega) (by omega)
set_option maxHeartbeats 4000000 in
/-- a new array of references to Object -/
theorem WW.newq {X : wdX} {kc ks pc N idx : Nat} {n : Int32} {lv : List (Nat × Value)} {rest : List Value} {w : wdW} (ht : X.M.tab pc = some (.anewarray idx, 3)) (hl0 : (Cond.classLink X.M.y.cls idx "java/lang/Object") ∈ lw_all)
    (hn : ¬ n < 0) (hN : n.toNatClampNeg = N) (hbytes : N * 4 ≤ 536870912) (hc1 : 1 ≤ kc) (hs1 : N ≤ ks)
    (kk : ∀ q : Nat, w.2 ≤ q → WW X (kc - 1) (ks - N) (pc + 3) lv (.ref q :: rest) (wNew w 37 q (.inr (N, .inr (.inr (.inr (.inr (fun _ => none)))))))) : WW X kc ks pc lv (.int n :: rest) w := by
  subst hN
  intro p e R s m args below meth c H locs cells slots ls A hH hS hl hcc hss
  obtain ⟨r1, r2, r3, r4⟩ := A.room
  refine W.anew A.exec A.code A.own (A.hts _ hl0) (va_AO.use A.F.2.2.2.2.2.1.1) rfl (A.tab ht) rfl hn hbytes (by omega) (by omega) fun cA kA comp f1 f2 f3 f4 => ?_
  generalize hH1 : H.push ({ cls := cA, slots := Array.replicate n.toNatClampNeg .null, vm := .none } : Cell) = H1
  have z1 : H1.size = H.size + 1 := by rw [← hH1, Array.size_push]
  have e1 : H1[H.size]? = some (arrV cA n.toNatClampNeg (fun _ => .null)) := by rw [← hH1, Array.getElem?_push_size, ← arrV_new]
  have o1 : ∀ q : Nat, q < H.size → H1[q]? = H[q]? := fun q hq => by rw [← hH1, Array.getElem?_push, if_neg (Nat.ne_of_lt hq)]
  have hcA : cA = X.G.2.1 37 := by
    obtain ⟨kA', comp', g1, g2, g3, g4⟩ := (wdArr A (t := 5) (k := 37) (ty := .object "java/lang/Object") rfl).2
    exact Option.some.inj (f1.symm.trans g4)
  subst hcA
  have hcell : wdCell X.G 37 H.size (.inr (n.toNatClampNeg, .inr (.inr (.inr (.inr (fun _ => none)))))) H1 := by
    show H1[H.size]? = some (vp_cell _ _)
    rw [vp_cell_q]
    exact e1
  have hbase : X.G.2.2.1 ≤ H.size := Nat.le_trans A.F.2.1 hS.1
  exact kk H.size hH.2.2.2 p e R s m args below meth c H1 locs _ _ ls A (hH.new rfl hbase hcell o1) ⟨Nat.le_trans hS.1 (by omega), fun x h1 h2 => (o1 x (Nat.lt_of_lt_of_le h1 hS.1)).trans (hS.2.1 x h1 h2), hS.2.2⟩ hl (by omega) (by omega)
