set_option maxRecDepth 100000
/-! CONTRACTS AND CALLS -/
def wdR (d mc ms : Nat) : Room := { frames := d, cells := mc, slots := ms, locals := 80 * d }
def wdCw (M : wdM) : Cond := match M.2.2.2.2.1 with
  | [] => .code M.1 M.2.1 M.2.2.1 M.2.2.2.1
  | q :: h => .codeWith M.1 M.2.1 M.2.2.1 M.2.2.2.1 (q :: h)
abbrev wdWs (M : wdM) : List Cond := wdCw M :: lw_all
abbrev wdPc (l : Launch) (G : wdG) (as : List Value) (w : wdW) : Array Value → State → Prop := va_Pc as (fun U => wdF l G U U.heap ∧ wdH G w U.heap)
/-- M'S CONTRACT: called at depth d with these arguments in this world it comes to an end with Q, with at most mc cells of ms slots made -/
def Sp (l : Launch) (G : wdG) (M : wdM) (d mc ms : Nat) (as : List Value) (w : wdW) (Q : wdO → wdW → Prop) : Prop :=
  wx_Met l M.1 (wdWs M) (wdR d mc ms) (wdPc l G as w) (wdQc G Q) (wdXC G Q) mc ms (wdA G)
theorem wdPc_blind (l : Launch) (G : wdG) (as : List Value) (w : wdW) : FrameBlind (wdPc l G as w) := by
  intro a U g mk h
  obtain ⟨h1, h2, h3⟩ := h
  exact ⟨h1, h2.step (s := U) (U := U.calling g mk a) (State.WarmedH.refl U) (Nat.le_refl _) (fun _ _ _ => rfl), h3⟩
set_option maxHeartbeats 4000000 in
theorem Sp.of {l : Launch} {G : wdG} {M : wdM} {d mc ms : Nat} {as : List Value} {w : wdW} {Q : wdO → wdW → Prop} (hh : M.hh = []) (hy : plainName M.y.cls = true) (hok : ∀ pc x, M.tab pc = some x → decode M.cc pc = .ok x) (hL : (lg_sl as).length ≤ M.nL)
    (k : WW (l, G, M, d, mc, ms, Q) mc ms 0 (lv_args 0 as) [] w) : Sp l G M d mc ms as w Q := by
  have hw : wdWs M = Cond.code M.y M.cc M.nL M.ret :: lw_all := by
    show wdCw M :: lw_all = _
    unfold wdCw
    rw [show M.2.2.2.2.1 = [] from hh]
  refine wx_ofW (cc := M.cc) (maxL := M.nL) (ret := M.ret) hy hw ?_
  intro p e s m args below meth c s₁ B hml htab hv
  obtain ⟨rfl, hF, hH⟩ := hv
  have hts := atoms_spec (ws := wdWs M) B.pre
  have hl := lv_entry as (n := M.nL) hL
  rw [lg_entry_eq]
  have hexc : c.exceptionTable.toList = tableOf M.hh := by
    rw [hh]
    show c.exceptionTable.toList = []
    cases hx : c.exceptionTable.toList with
    | nil => rfl
    | cons x xs => exact absurd (htab x (by rw [hx]; exact List.mem_cons_self)) (fun h => h)
  exact k p e _ s m _ below meth c s.heap [] 0 0 _ ⟨B.exec, B.bytes, hml, B.returns, B.notSynchronized, (name_of_methodNamed B.named B.method).1, findClass_of_methodNamed B.named, fun w h => hts w (List.mem_cons_of_mem _ h), hok, hexc, ⟨Nat.le_refl _, Nat.le_refl _, rfl, rfl⟩, hF⟩ hH va_S.rf hl (by show 0 + mc ≤ mc; omega) (by show 0 + ms ≤ ms; omega)
set_option maxHeartbeats 4000000 in
/-- .. of a method with handlers -/
theorem Sp.ofH {l : Launch} {G : wdG} {M : wdM} {d mc ms : Nat} {as : List Value} {w : wdW} {Q : wdO → wdW → Prop} {q0 : Nat × Nat × Nat × Nat} {h0 : List (Nat × Nat × Nat × Nat)} (hh : M.hh = q0 :: h0) (hy : plainName M.y.cls = true) (hok : ∀ pc x, M.tab pc = some x → decode M.cc pc = .ok x) (hL : (lg_sl as).length ≤ M.nL)
    (k : WW (l, G, M, d, mc, ms, Q) mc ms 0 (lv_args 0 as) [] w) : Sp l G M d mc ms as w Q := by
  have hw : wdWs M = Cond.codeWith M.y M.cc M.nL M.ret M.hh :: lw_all := by
    show wdCw M :: lw_all = _
    unfold wdCw
    rw [show M.hh = M.2.2.2.2.1 from rfl, show M.2.2.2.2.1 = q0 :: h0 from hh]
  refine wx_ofWH (cc := M.cc) (maxL := M.nL) (ret := M.ret) (hh := M.hh) hy hw ?_
  intro p e s m args below meth c s₁ B hml hv
  obtain ⟨rfl, hF, hH⟩ := hv
  have hts := atoms_spec (ws := wdWs M) B.pre
  have hl := lv_entry as (n := M.nL) hL
  have hexc : c.exceptionTable.toList = tableOf M.hh := wx_table (x := M.y) (y := M.y) (bytes := M.cc) (maxL' := M.nL) (ret' := M.ret) (hh := M.hh) B (hts _ (by rw [hw]; exact List.mem_cons_self))
  rw [lg_entry_eq]
  exact k p e _ s m _ below meth c s.heap [] 0 0 _ ⟨B.exec, B.bytes, hml, B.returns, B.notSynchronized, (name_of_methodNamed B.named B.method).1, findClass_of_methodNamed B.named, fun w h => hts w (List.mem_cons_of_mem _ h), hok, hexc, ⟨Nat.le_refl _, Nat.le_refl _, rfl, rfl⟩, hF⟩ hH va_S.rf hl (by show 0 + mc ≤ mc; omega) (by show 0 + ms ≤ ms; omega)
/-- where a call leads: on behind it, or to a handler or out -/
def wdNext (X : wdX) (kc ks pc len : Nat) (lv : List (Nat × Value)) (rest : List Value) (o : wdO) (w : wdW) : Prop := match o with
  | .inl v => WW X kc ks (pc + len) lv (v.toList ++ rest) w
  | .inr x => WX X kc ks pc lv rest w x.1 x.2
theorem wd_keep {G : wdG} {st₀ t T' s : State} {H : Heap} {L locs : List Loc} (h0 : st₀.heap = H) (e1 : T'.heap = t.heap) (hS : va_S (wdA G) s.heap H locs) (hL : ∀ q ∈ L, wdA G q.base) (hF : va_F (wdA G) st₀ t) : va_S (wdA G) s.heap T'.heap (locs ++ L) := by
  obtain ⟨hz, hk⟩ := hF
  rw [h0] at hz hk
  exact ⟨Nat.le_trans hS.1 (by rw [e1]; exact hz), fun q h1 h2 => by rw [e1, hk q (Nat.lt_of_lt_of_le h1 hS.1) h2]; exact hS.2.1 q h1 h2, fun q hq => by
    rcases List.mem_append.mp hq with h | h
    · exact hS.2.2 q h
    · exact hL q h⟩
set_option maxHeartbeats 4000000 in
theorem WW.after {X : wdX} {kc ks pc mc' ms' : Nat} {lv : List (Nat × Value)} {st rest : List Value} {w : wdW} {Q' : wdO → wdW → Prop} {a : Array Value} {p : Program} {e : Env} {R : Room} {s : State} {m : MethodId} {args : Array Value} {below : List Frame} {meth : Method} {c : Code} {H : Heap} {locs : List Loc} {cells slots : Nat} {ls : Array Slot}
    (A : wdAt X p e R s m args below meth c) (hS : va_S (wdA X.G) s.heap H locs) (hl : lv_has ls X.M.nL lv) (hcc : cells + kc ≤ X.mc) (hss : slots + ks ≤ X.ms) (hc : mc' ≤ kc) (hs : ms' ≤ ks)
    (hr : wx_Run p X.l e R s m args below meth c H locs cells slots mc' ms' (F0 m pc ls st) rest (wdQc X.G Q' a) (wdXC X.G Q') (wdA X.G))
    (kk : ∀ (o : wdO) (w' : wdW), Q' o w' → wdNext X (kc - mc') (ks - ms') pc 3 lv rest o w') : W p X.l e R s m args below meth c H locs cells slots (wdEnd X args s below) (F0 m pc ls st) := by
  intro T hT X0
  rcases hr T hT X0 with ⟨v, st₀, t, T', L, h0, X', hL, e1, e2, ⟨⟨v', w', hv, hq, hw⟩, hF⟩, stp⟩ | ⟨q, st₀, t, T', L, E, ce, h0, X', hL, e1, e2, ⟨⟨w', hq, hw⟩, hF⟩, hce, hcv, hcl, stp⟩
  · cases hv
    obtain ⟨t2, a1, b1⟩ := kk (.inl v) w' hq p e R s m args below meth c T'.heap (locs ++ L) (cells + mc') (slots + ms') ls A (by rw [e1]; exact hw) (wd_keep h0 e1 hS hL hF) hl (by omega) (by omega) T' rfl X'
    exact ⟨t2, stp t2 a1, b1⟩
  · obtain ⟨t2, a1, b1⟩ := kk (.inr (E, q)) w' hq p e R s m args below meth c T'.heap (locs ++ L) (cells + mc') (slots + ms') ls A (by rw [e1]; exact hw) (wd_keep h0 e1 hS hL hF) hl (by omega) (by omega) ⟨ce, by rw [e1]; exact hce, hcv, hcl⟩ T' rfl X'
    exact ⟨t2, stp.trans a1, b1⟩
set_option maxHeartbeats 4000000 in
theorem WW.after5 {X : wdX} {kc ks pc mc' ms' : Nat} {lv : List (Nat × Value)} {st rest : List Value} {w : wdW} {Q' : wdO → wdW → Prop} {a : Array Value} {p : Program} {e : Env} {R : Room} {s : State} {m : MethodId} {args : Array Value} {below : List Frame} {meth : Method} {c : Code} {H : Heap} {locs : List Loc} {cells slots : Nat} {ls : Array Slot}
    (A : wdAt X p e R s m args below meth c) (hS : va_S (wdA X.G) s.heap H locs) (hl : lv_has ls X.M.nL lv) (hcc : cells + kc ≤ X.mc) (hss : slots + ks ≤ X.ms) (hc : mc' ≤ kc) (hs : ms' ≤ ks)
    (hr : wx_Run5 p X.l e R s m args below meth c H locs cells slots mc' ms' (F0 m pc ls st) rest (wdQc X.G Q' a) (wdXC X.G Q') (wdA X.G))
    (kk : ∀ (o : wdO) (w' : wdW), Q' o w' → wdNext X (kc - mc') (ks - ms') pc 5 lv rest o w') : W p X.l e R s m args below meth c H locs cells slots (wdEnd X args s below) (F0 m pc ls st) := by
  intro T hT X0
  rcases hr T hT X0 with ⟨v, st₀, t, T', L, h0, X', hL, e1, e2, ⟨⟨v', w', hv, hq, hw⟩, hF⟩, stp⟩ | ⟨q, st₀, t, T', L, E, ce, h0, X', hL, e1, e2, ⟨⟨w', hq, hw⟩, hF⟩, hce, hcv, hcl, stp⟩
  · cases hv
    obtain ⟨t2, a1, b1⟩ := kk (.inl v) w' hq p e R s m args below meth c T'.heap (locs ++ L) (cells + mc') (slots + ms') ls A (by rw [e1]; exact hw) (wd_keep h0 e1 hS hL hF) hl (by omega) (by omega) T' rfl X'
    exact ⟨t2, stp t2 a1, b1⟩
  · obtain ⟨t2, a1, b1⟩ := kk (.inr (E, q)) w' hq p e R s m args below meth c T'.heap (locs ++ L) (cells + mc') (slots + ms') ls A (by rw [e1]; exact hw) (wd_keep h0 e1 hS hL hF) hl (by omega) (by omega) ⟨ce, by rw [e1]; exact hce, hcv, hcl⟩ T' rfl X'
    exact ⟨t2, stp.trans a1, b1⟩
/-- the receiver: an object of the world, or a string constant -/
def wdRecv (G : wdG) (w : wdW) (b : Nat) (C : String) : Prop := (∃ (ci : Nat) (fs : List Value) (r : vw_C), w.1 ci b = some (.inl fs) ∧ wdCl[ci]? = some r ∧ r.1 = C) ∨ ∃ (i : Nat) (q : String × Nat × String × Int32 × Int32 × List Nat), wdSt[i]? = some q ∧ b = wdSa G i ∧ C = "java/lang/String"
theorem wdRecv.obj {G : wdG} {w : wdW} {b ci : Nat} {fs : List Value} {r : vw_C} (h : w.1 ci b = some (.inl fs)) (hr : wdCl[ci]? = some r) : wdRecv G w b r.1 := Or.inl ⟨ci, fs, r, h, hr, rfl⟩
theorem wdRecv.str {G : wdG} {w : wdW} {i : Nat} {q : String × Nat × String × Int32 × Int32 × List Nat} (h : wdSt[i]? = some q) : wdRecv G w (wdSa G i) "java/lang/String" := Or.inr ⟨i, q, h, rfl, rfl⟩
theorem wdRecv.cell {X : wdX} {p e R s m args below meth c} (A : wdAt X p e R s m args below meth c) {w : wdW} {H : Heap} {locs : List Loc} (hH : wdH X.G w H) (hS : va_S (wdA X.G) s.heap H locs) {b : Nat} {C : String} (h : wdRecv X.G w b C) : ∃ cell : Cell, H[b]? = some cell ∧ cell.vm.isStatics = false ∧ s.vm.findClass C = some cell.cls := by
  rcases h with ⟨ci, fs, r, h1, h2, rfl⟩ | ⟨i, q, h1, rfl, rfl⟩
  · exact wd_cls A hH h1 h2
  · obtain ⟨cell, g1, g2, g3, -⟩ := (wdStr A h1).1.kept hS.2.1
    exact ⟨cell, g1, g2, g3⟩
theorem wdPc_at {X : wdX} {p e R s m args below meth c} (A : wdAt X p e R s m args below meth c) {w : wdW} {H : Heap} {locs : List Loc} (hH : wdH X.G w H) (hS : va_S (wdA X.G) s.heap H locs) (as : List Value) : ∀ U : State, U.heap = H → s.WarmedH U.vm → wdPc X.l X.G as w as.toArray U :=
  fun U hU hW => ⟨rfl, by rw [hU]; exact A.F.step hW hS.1 hS.2.1, by rw [hU]; exact hH⟩
/-! links of methods -/
def wdMn (y : MethodName) (nL n : Nat) : Prop := (y.cls ≠ "java/lang/invoke/MethodHandle" ∧ y.cls ≠ "java/lang/invoke/VarHandle" ∧ (parseMethodDescriptor y.desc).map (fun d => d.parameters.length) = some n) ∧ nL ≤ 60
/-- through an object: class own's entry idx is M, with n arguments -/
def wdLV (own : String) (idx : Nat) (M : wdM) (n : Nat) : Prop := M.hh = [] ∧ GoodIn lw_all (wsV own idx M.y.cls M.y (ws_ M.y M.cc M.nL M.ret)) ∧ wdMn M.y M.nL n
def wdLVH (own : String) (idx : Nat) (M : wdM) (n : Nat) : Prop := (∃ q h, M.hh = q :: h) ∧ GoodIn lw_all (wsV own idx M.y.cls M.y (wsW_ M.y M.cc M.nL M.ret M.hh)) ∧ wdMn M.y M.nL n
def wdLS (own : String) (idx : Nat) (M : wdM) (n : Nat) : Prop := M.hh = [] ∧ GoodIn lw_all (va_wsS own idx M.y (ws_ M.y M.cc M.nL M.ret)) ∧ wdMn M.y M.nL n
def wdLSH (own : String) (idx : Nat) (M : wdM) (n : Nat) : Prop := (∃ q h, M.hh = q :: h) ∧ GoodIn lw_all (va_wsS own idx M.y (wsW_ M.y M.cc M.nL M.ret M.hh)) ∧ wdMn M.y M.nL n
def wdLI (own : String) (idx : Nat) (M : wdM) (n : Nat) : Prop := M.hh = [] ∧ M.ret = none ∧ M.y.name = "<init>" ∧ (Cond.methodLink own idx M.y) ∈ lw_all ∧ (Cond.instanceMethod M.y) ∈ lw_all ∧ (Cond.initialized M.y.cls) ∈ lw_all ∧ GoodIn lw_all (ws_ M.y M.cc M.nL none) ∧ wdMn M.y M.nL n
def wdLN (own : String) (idx : Nat) (M : wdM) (n : Nat) : Prop := M.hh = [] ∧ (∃ host, (Cond.methodLinkNest own idx M.y host) ∈ wdNw) ∧ (Cond.initialized M.y.cls) ∈ lw_all ∧ GoodIn lw_all (ws_ M.y M.cc M.nL M.ret) ∧ wdMn M.y M.nL n
theorem wdWs0 {M : wdM} (hh : M.hh = []) : wdWs M = ws_ M.y M.cc M.nL M.ret := by
  show wdCw M :: lw_all = _
  unfold wdCw
  rw [show M.2.2.2.2.1 = [] from hh]
theorem wdWsH {M : wdM} {q : Nat × Nat × Nat × Nat} {h : List (Nat × Nat × Nat × Nat)} (hh : M.hh = q :: h) : wdWs M = wsW_ M.y M.cc M.nL M.ret M.hh := by
  show wdCw M :: lw_all = _
  unfold wdCw
  unfold wsW_
  rw [show M.hh = M.2.2.2.2.1 from rfl, show M.2.2.2.2.1 = q :: h from hh]
set_option maxHeartbeats 4000000 in
theorem WW.callV {X : wdX} {kc ks pc idx n d' mc' ms' : Nat} {M : wdM} {lv : List (Nat × Value)} {st : List Value} {w : wdW} {Q' : wdO → wdW → Prop} (As : List Value) (b : Nat) (rest : List Value) (ht : X.M.tab pc = some (.invokevirtual idx, 3)) (hM : wdLV X.M.y.cls idx M n) (sp : Sp X.l X.G M d' mc' ms' (.ref b :: As) w Q') (hb : wdRecv X.G w b M.y.cls) (hst : st = As.reverse ++ .ref b :: rest) (hn : As.length = n) (hW : (rest.map fun v => v.category).sum ≤ 8) (hd : d' + 1 ≤ X.d) (hc : mc' ≤ kc) (hs : ms' ≤ ks)
    (kk : ∀ (o : wdO) (w' : wdW), Q' o w' → wdNext X (kc - mc') (ks - ms') pc 3 lv rest o w') : WW X kc ks pc lv st w := by
  intro p e R s m args below meth c H locs cells slots ls A hH hS hl hcc hss
  subst hst
  obtain ⟨hh, hg, hmn, hnl⟩ := hM
  obtain ⟨r1, r2, r3, r4⟩ := A.room
  have sp' : wx_Met X.l M.y (ws_ M.y M.cc M.nL M.ret) (wdR d' mc' ms') (wdPc X.l X.G (.ref b :: As) w) (wdQc X.G Q') (wdXC X.G Q') mc' ms' (wdA X.G) := by rw [← wdWs0 hh]; exact sp
  exact WW.after (w := w) A hS hl hcc hss hc hs (wx_runV (C := M.y.cls) ⟨A.exec, A.code, A.nl, A.own, A.hts⟩ sp' (cwV n A.hts hg rfl rfl rfl ⟨rfl, hmn⟩ ⟨by show d' + 1 ≤ _; omega, by show 8 + (M.nL + 11) + 80 * d' ≤ _; omega⟩) ⟨wdPc_blind _ _ _ _, hb.cell A hH hS, wdPc_at A hH hS _⟩ rfl hn hl.1 rfl (lv_room hW) (A.tab ht) ⟨by omega, by omega⟩) kk
set_option maxHeartbeats 4000000 in
theorem WW.callVH {X : wdX} {kc ks pc idx n d' mc' ms' : Nat} {M : wdM} {lv : List (Nat × Value)} {st : List Value} {w : wdW} {Q' : wdO → wdW → Prop} (As : List Value) (b : Nat) (rest : List Value) (ht : X.M.tab pc = some (.invokevirtual idx, 3)) (hM : wdLVH X.M.y.cls idx M n) (sp : Sp X.l X.G M d' mc' ms' (.ref b :: As) w Q') (hb : wdRecv X.G w b M.y.cls) (hst : st = As.reverse ++ .ref b :: rest) (hn : As.length = n) (hW : (rest.map fun v => v.category).sum ≤ 8) (hd : d' + 1 ≤ X.d) (hc : mc' ≤ kc) (hs : ms' ≤ ks)
    (kk : ∀ (o : wdO) (w' : wdW), Q' o w' → wdNext X (kc - mc') (ks - ms') pc 3 lv rest o w') : WW X kc ks pc lv st w := by
  intro p e R s m args below meth c H locs cells slots ls A hH hS hl hcc hss
  subst hst
  obtain ⟨⟨q0, h0, hh⟩, hg, hmn, hnl⟩ := hM
  obtain ⟨r1, r2, r3, r4⟩ := A.room
  have sp' : wx_Met X.l M.y (wsW_ M.y M.cc M.nL M.ret M.hh) (wdR d' mc' ms') (wdPc X.l X.G (.ref b :: As) w) (wdQc X.G Q') (wdXC X.G Q') mc' ms' (wdA X.G) := by rw [← wdWsH hh]; exact sp
  exact WW.after (w := w) A hS hl hcc hss hc hs (wx_runVX (C := M.y.cls) ⟨A.exec, A.code, A.nl, A.own, A.hts⟩ sp' (wx_cwVW n A.hts hg rfl rfl rfl ⟨rfl, hmn⟩ ⟨by show d' + 1 ≤ _; omega, by show 8 + (M.nL + 11) + 80 * d' ≤ _; omega⟩) ⟨wdPc_blind _ _ _ _, hb.cell A hH hS, wdPc_at A hH hS _⟩ rfl hn hl.1 rfl (lv_room hW) (A.tab ht) ⟨by omega, by omega⟩) kk
set_option maxHeartbeats 4000000 in
theorem WW.callS {X : wdX} {kc ks pc idx n d' mc' ms' : Nat} {M : wdM} {lv : List (Nat × Value)} {st : List Value} {w : wdW} {Q' : wdO → wdW → Prop} (As : List Value) (rest : List Value) (ht : X.M.tab pc = some (.invokestatic idx, 3)) (hM : wdLS X.M.y.cls idx M n) (sp : Sp X.l X.G M d' mc' ms' As w Q') (hst : st = As.reverse ++ rest) (hn : As.length = n) (hW : (rest.map fun v => v.category).sum ≤ 8) (hd : d' + 1 ≤ X.d) (hc : mc' ≤ kc) (hs : ms' ≤ ks)
    (kk : ∀ (o : wdO) (w' : wdW), Q' o w' → wdNext X (kc - mc') (ks - ms') pc 3 lv rest o w') : WW X kc ks pc lv st w := by
  intro p e R s m args below meth c H locs cells slots ls A hH hS hl hcc hss
  subst hst
  obtain ⟨hh, hg, hmn, hnl⟩ := hM
  obtain ⟨r1, r2, r3, r4⟩ := A.room
  have sp' : wx_Met X.l M.y (ws_ M.y M.cc M.nL M.ret) (wdR d' mc' ms') (wdPc X.l X.G As w) (wdQc X.G Q') (wdXC X.G Q') mc' ms' (wdA X.G) := by rw [← wdWs0 hh]; exact sp
  exact WW.after (w := w) A hS hl hcc hss hc hs (wx_runS ⟨A.exec, A.code, A.nl, A.own, A.hts⟩ sp' (va_cwS n A.hts hg rfl rfl rfl hmn ⟨by show d' + 1 ≤ _; omega, by show 8 + (M.nL + 11) + 80 * d' ≤ _; omega⟩) ⟨wdPc_blind _ _ _ _, wdPc_at A hH hS _⟩ rfl hn hl.1 rfl (lv_room hW) (A.tab ht) ⟨by omega, by omega⟩) kk
set_option maxHeartbeats 4000000 in
theorem WW.callSH {X : wdX} {kc ks pc idx n d' mc' ms' : Nat} {M : wdM} {lv : List (Nat × Value)} {st : List Value} {w : wdW} {Q' : wdO → wdW → Prop} (As : List Value) (rest : List Value) (ht : X.M.tab pc = some (.invokestatic idx, 3)) (hM : wdLSH X.M.y.cls idx M n) (sp : Sp X.l X.G M d' mc' ms' As w Q') (hst : st = As.reverse ++ rest) (hn : As.length = n) (hW : (rest.map fun v => v.category).sum ≤ 8) (hd : d' + 1 ≤ X.d) (hc : mc' ≤ kc) (hs : ms' ≤ ks)
    (kk : ∀ (o : wdO) (w' : wdW), Q' o w' → wdNext X (kc - mc') (ks - ms') pc 3 lv rest o w') : WW X kc ks pc lv st w := by
  intro p e R s m args below meth c H locs cells slots ls A hH hS hl hcc hss
  subst hst
  obtain ⟨⟨q0, h0, hh⟩, hg, hmn, hnl⟩ := hM
  obtain ⟨r1, r2, r3, r4⟩ := A.room
  have sp' : wx_Met X.l M.y (wsW_ M.y M.cc M.nL M.ret M.hh) (wdR d' mc' ms') (wdPc X.l X.G As w) (wdQc X.G Q') (wdXC X.G Q') mc' ms' (wdA X.G) := by rw [← wdWsH hh]; exact sp
  exact WW.after (w := w) A hS hl hcc hss hc hs (wx_runSX ⟨A.exec, A.code, A.nl, A.own, A.hts⟩ sp' (wx_cwSW n A.hts hg rfl rfl rfl hmn ⟨by show d' + 1 ≤ _; omega, by show 8 + (M.nL + 11) + 80 * d' ≤ _; omega⟩) ⟨wdPc_blind _ _ _ _, wdPc_at A hH hS _⟩ rfl hn hl.1 rfl (lv_room hW) (A.tab ht) ⟨by omega, by omega⟩) kk
