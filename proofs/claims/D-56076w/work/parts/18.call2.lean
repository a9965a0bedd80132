set_option maxRecDepth 100000
/-! constructors -/
set_option maxHeartbeats 4000000 in
theorem WW.callI {X : wdX} {kc ks pc idx n d' mc' ms' : Nat} {M : wdM} {lv : List (Nat × Value)} {st : List Value} {w : wdW} {Q' : wdO → wdW → Prop} (As : List Value) (b : Nat) (rest : List Value) (ht : X.M.tab pc = some (.invokespecial idx, 3)) (hM : wdLI X.M.y.cls idx M n) (sp : Sp X.l X.G M d' mc' ms' (.ref b :: As) w Q') (hst : st = As.reverse ++ .ref b :: rest) (hn : As.length = n) (hW : (rest.map fun v => v.category).sum ≤ 8) (hd : d' + 1 ≤ X.d) (hc : mc' ≤ kc) (hs : ms' ≤ ks)
    (kk : ∀ (o : wdO) (w' : wdW), Q' o w' → wdNext X (kc - mc') (ks - ms') pc 3 lv rest o w') : WW X kc ks pc lv st w := by
  intro p e R s m args below meth c H locs cells slots ls A hH hS hl hcc hss
  subst hst
  obtain ⟨hh, hr, hi, hl1, hl2, hl3, hg, hmn, hnl⟩ := hM
  obtain ⟨r1, r2, r3, r4⟩ := A.room
  have sp' : wx_Met X.l M.y (ws_ M.y M.cc M.nL none) (wdR d' mc' ms') (wdPc X.l X.G (.ref b :: As) w) (wdQc X.G Q') (wdXC X.G Q') mc' ms' (wdA X.G) := by rw [← hr, ← wdWs0 hh]; exact sp
  exact WW.after (w := w) A hS hl hcc hss hc hs (wx_runI ⟨A.exec, A.code, A.nl, A.own, A.hts⟩ sp' ⟨callB_of n A.hts hg rfl rfl rfl (A.hts _ hl3) (A.hts _ hl1) hmn ⟨by show d' + 1 ≤ _; omega, by show 8 + (M.nL + 11) + 80 * d' ≤ _; omega⟩, hi, A.hts _ hl2⟩ ⟨wdPc_blind _ _ _ _, wdPc_at A hH hS _⟩ rfl hn hl.1 rfl (lv_room hW) (A.tab ht) ⟨by omega, by omega⟩) kk
/-! nest mates -/
def wdLIN (own : String) (idx : Nat) (M : wdM) (n : Nat) : Prop := M.hh = [] ∧ M.ret = none ∧ M.y.name = "<init>" ∧ (∃ host, (Cond.methodLinkNest own idx M.y host) ∈ wdNw) ∧ (Cond.instanceMethod M.y) ∈ lw_all ∧ (Cond.initialized M.y.cls) ∈ lw_all ∧ GoodIn lw_all (ws_ M.y M.cc M.nL none) ∧ wdMn M.y M.nL n
def wdLVN (own : String) (idx : Nat) (M : wdM) (n : Nat) : Prop := wdLN own idx M n ∧ (Cond.instanceMethod M.y) ∈ lw_all ∧ (Cond.selects M.y.cls M.y M.y) ∈ lw_all
def wdLSN (own : String) (idx : Nat) (M : wdM) (n : Nat) : Prop := wdLN own idx M n ∧ (Cond.static M.y) ∈ lw_all
set_option maxHeartbeats 4000000 in
theorem WW.callIN {X : wdX} {kc ks pc idx n d' mc' ms' : Nat} {M : wdM} {lv : List (Nat × Value)} {st : List Value} {w : wdW} {Q' : wdO → wdW → Prop} (As : List Value) (b : Nat) (rest : List Value) (ht : X.M.tab pc = some (.invokespecial idx, 3)) (hM : wdLIN X.M.y.cls idx M n) (sp : Sp X.l X.G M d' mc' ms' (.ref b :: As) w Q') (hst : st = As.reverse ++ .ref b :: rest) (hn : As.length = n) (hW : (rest.map fun v => v.category).sum ≤ 8) (hd : d' + 1 ≤ X.d) (hc : mc' ≤ kc) (hs : ms' ≤ ks)
    (kk : ∀ (o : wdO) (w' : wdW), Q' o w' → wdNext X (kc - mc') (ks - ms') pc 3 lv rest o w') : WW X kc ks pc lv st w := by
  intro p e R s m args below meth c H locs cells slots ls A hH hS hl hcc hss
  subst hst
  obtain ⟨hh, hr, hi, ⟨host, hl1⟩, hl2, hl3, hg, hmn, hnl⟩ := hM
  obtain ⟨r1, r2, r3, r4⟩ := A.room
  have sp' : wx_Met X.l M.y (ws_ M.y M.cc M.nL none) (wdR d' mc' ms') (wdPc X.l X.G (.ref b :: As) w) (wdQc X.G Q') (wdXC X.G Q') mc' ms' (wdA X.G) := by rw [← hr, ← wdWs0 hh]; exact sp
  exact WW.after (w := w) A hS hl hcc hss hc hs (wx_runIN ⟨A.exec, A.code, A.nl, A.own, A.hts⟩ sp' ⟨va_cnB n A.hts hg rfl rfl rfl (A.nw hl1) (A.hts _ hl3) hmn ⟨by show d' + 1 ≤ _; omega, by show 8 + (M.nL + 11) + 80 * d' ≤ _; omega⟩, hi, A.hts _ hl2⟩ ⟨wdPc_blind _ _ _ _, wdPc_at A hH hS _⟩ rfl hn hl.1 rfl (lv_room hW) (A.tab ht) ⟨by omega, by omega⟩) kk
set_option maxHeartbeats 4000000 in
theorem WW.callVN {X : wdX} {kc ks pc idx n d' mc' ms' : Nat} {M : wdM} {lv : List (Nat × Value)} {st : List Value} {w : wdW} {Q' : wdO → wdW → Prop} (As : List Value) (b : Nat) (rest : List Value) (ht : X.M.tab pc = some (.invokevirtual idx, 3)) (hM : wdLVN X.M.y.cls idx M n) (sp : Sp X.l X.G M d' mc' ms' (.ref b :: As) w Q') (hb : wdRecv X.G w b M.y.cls) (hst : st = As.reverse ++ .ref b :: rest) (hn : As.length = n) (hW : (rest.map fun v => v.category).sum ≤ 8) (hd : d' + 1 ≤ X.d) (hc : mc' ≤ kc) (hs : ms' ≤ ks)
    (kk : ∀ (o : wdO) (w' : wdW), Q' o w' → wdNext X (kc - mc') (ks - ms') pc 3 lv rest o w') : WW X kc ks pc lv st w := by
  intro p e R s m args below meth c H locs cells slots ls A hH hS hl hcc hss
  subst hst
  obtain ⟨⟨hh, ⟨host, hl1⟩, hl3, hg, hmn, hnl⟩, hl2, hl4⟩ := hM
  obtain ⟨r1, r2, r3, r4⟩ := A.room
  have sp' : wx_Met X.l M.y (ws_ M.y M.cc M.nL M.ret) (wdR d' mc' ms') (wdPc X.l X.G (.ref b :: As) w) (wdQc X.G Q') (wdXC X.G Q') mc' ms' (wdA X.G) := by rw [← wdWs0 hh]; exact sp
  exact WW.after (w := w) A hS hl hcc hss hc hs (wx_runVN (C := M.y.cls) ⟨A.exec, A.code, A.nl, A.own, A.hts⟩ sp' ⟨va_cnB n A.hts hg rfl rfl rfl (A.nw hl1) (A.hts _ hl3) hmn ⟨by show d' + 1 ≤ _; omega, by show 8 + (M.nL + 11) + 80 * d' ≤ _; omega⟩, A.hts _ hl2, A.hts _ hl4⟩ ⟨wdPc_blind _ _ _ _, hb.cell A hH hS, wdPc_at A hH hS _⟩ rfl hn hl.1 rfl (lv_room hW) (A.tab ht) ⟨by omega, by omega⟩) kk
set_option maxHeartbeats 4000000 in
theorem WW.callSN {X : wdX} {kc ks pc idx n d' mc' ms' : Nat} {M : wdM} {lv : List (Nat × Value)} {st : List Value} {w : wdW} {Q' : wdO → wdW → Prop} (As : List Value) (rest : List Value) (ht : X.M.tab pc = some (.invokestatic idx, 3)) (hM : wdLSN X.M.y.cls idx M n) (sp : Sp X.l X.G M d' mc' ms' As w Q') (hst : st = As.reverse ++ rest) (hn : As.length = n) (hW : (rest.map fun v => v.category).sum ≤ 8) (hd : d' + 1 ≤ X.d) (hc : mc' ≤ kc) (hs : ms' ≤ ks)
    (kk : ∀ (o : wdO) (w' : wdW), Q' o w' → wdNext X (kc - mc') (ks - ms') pc 3 lv rest o w') : WW X kc ks pc lv st w := by
  intro p e R s m args below meth c H locs cells slots ls A hH hS hl hcc hss
  subst hst
  obtain ⟨⟨hh, ⟨host, hl1⟩, hl3, hg, hmn, hnl⟩, hl2⟩ := hM
  obtain ⟨r1, r2, r3, r4⟩ := A.room
  have sp' : wx_Met X.l M.y (ws_ M.y M.cc M.nL M.ret) (wdR d' mc' ms') (wdPc X.l X.G As w) (wdQc X.G Q') (wdXC X.G Q') mc' ms' (wdA X.G) := by rw [← wdWs0 hh]; exact sp
  exact WW.after (w := w) A hS hl hcc hss hc hs (wx_runSN ⟨A.exec, A.code, A.nl, A.own, A.hts⟩ sp' ⟨va_cnB n A.hts hg rfl rfl rfl (A.nw hl1) (A.hts _ hl3) hmn ⟨by show d' + 1 ≤ _; omega, by show 8 + (M.nL + 11) + 80 * d' ≤ _; omega⟩, A.hts _ hl2, trivial⟩ ⟨wdPc_blind _ _ _ _, wdPc_at A hH hS _⟩ rfl hn hl.1 rfl (lv_room hW) (A.tab ht) ⟨by omega, by omega⟩) kk
/-! inherited: the reference names x, of class C the method M runs -/
def wdLU (own C : String) (idx : Nat) (x : MethodName) (M : wdM) (n : Nat) : Prop := M.hh = [] ∧ GoodIn lw_all (va_wsU own idx C M.y.cls x M.y (ws_ M.y M.cc M.nL M.ret)) ∧ M.y = ⟨M.y.cls, x.name, x.desc⟩ ∧ (M.y.cls ≠ "java/lang/invoke/MethodHandle" ∧ M.y.cls ≠ "java/lang/invoke/VarHandle" ∧ (parseMethodDescriptor x.desc).map (fun d => d.parameters.length) = some n) ∧ M.nL ≤ 60
set_option maxHeartbeats 4000000 in
theorem WW.callU {X : wdX} {kc ks pc idx n d' mc' ms' : Nat} {M : wdM} {lv : List (Nat × Value)} {st : List Value} {w : wdW} {Q' : wdO → wdW → Prop} {C : String} {x : MethodName} (As : List Value) (b : Nat) (rest : List Value) (ht : X.M.tab pc = some (.invokevirtual idx, 3)) (hM : wdLU X.M.y.cls C idx x M n) (sp : Sp X.l X.G M d' mc' ms' (.ref b :: As) w Q') (hb : wdRecv X.G w b C) (hst : st = As.reverse ++ .ref b :: rest) (hn : As.length = n) (hW : (rest.map fun v => v.category).sum ≤ 8) (hd : d' + 1 ≤ X.d) (hc : mc' ≤ kc) (hs : ms' ≤ ks)
    (kk : ∀ (o : wdO) (w' : wdW), Q' o w' → wdNext X (kc - mc') (ks - ms') pc 3 lv rest o w') : WW X kc ks pc lv st w := by
  intro p e R s m args below meth c H locs cells slots ls A hH hS hl hcc hss
  subst hst
  obtain ⟨hh, hg, hyx, hmn, hnl⟩ := hM
  obtain ⟨r1, r2, r3, r4⟩ := A.room
  have sp' : wx_Met X.l M.y (ws_ M.y M.cc M.nL M.ret) (wdR d' mc' ms') (wdPc X.l X.G (.ref b :: As) w) (wdQc X.G Q') (wdXC X.G Q') mc' ms' (wdA X.G) := by rw [← wdWs0 hh]; exact sp
  exact WW.after (w := w) A hS hl hcc hss hc hs (wx_runU (C := C) (owner := M.y.cls) (x := x) ⟨A.exec, A.code, A.nl, A.own, A.hts⟩ sp' (va_cwU n A.hts hg rfl rfl rfl hyx hmn ⟨by show d' + 1 ≤ _; omega, by show 8 + (M.nL + 11) + 80 * d' ≤ _; omega⟩) ⟨wdPc_blind _ _ _ _, hb.cell A hH hS, wdPc_at A hH hS _⟩ rfl hn hl.1 rfl (lv_room hW) (A.tab ht) ⟨by omega, by omega⟩) kk
/-! inherited, private -/
def wdLP (own C : String) (idx : Nat) (M : wdM) (n : Nat) : Prop := M.hh = [] ∧ ((Cond.methodLink own idx M.y) ∈ lw_all ∧ (Cond.sameMethod M.y.cls M.y.cls M.y.name M.y.desc) ∈ lw_all ∧ (Cond.instanceMethod M.y) ∈ lw_all ∧ (Cond.initialized M.y.cls) ∈ lw_all) ∧ GoodIn lw_all (ws_ M.y M.cc M.nL M.ret) ∧ (C, M.y) ∈ wdSx ∧ (M.y.cls ≠ "java/lang/invoke/MethodHandle" ∧ M.y.cls ≠ "java/lang/invoke/VarHandle" ∧ (parseMethodDescriptor M.y.desc).map (fun d => d.parameters.length) = some n) ∧ M.nL ≤ 60
theorem wd_cwP {own C : String} {index maxL mc ms : Nat} {y : MethodName} {bytes : ByteArray} {ret : Option FieldType} {ws ws' : List Cond} {rm R : Room} {s : State} {args : Array Value} (n : Nat) (ht : ∀ w ∈ lw_all, w.before args s = true) (h1 : (Cond.methodLink own index y) ∈ lw_all) (h2 : (Cond.sameMethod y.cls y.cls y.name y.desc) ∈ lw_all) (h3 : (Cond.instanceMethod y) ∈ lw_all) (h4 : (Cond.initialized y.cls) ∈ lw_all) (hG : GoodIn lw_all ws) (hw : ws = Cond.code y bytes maxL ret :: ws') (hrc : rm.cells = mc) (hrs : rm.slots = ms)
    (hs : (Cond.selects C y y).before #[] s = true) (hd : y.cls ≠ "java/lang/invoke/MethodHandle" ∧ y.cls ≠ "java/lang/invoke/VarHandle" ∧ (parseMethodDescriptor y.desc).map (fun d => d.parameters.length) = some n) (hR : rm.frames + 1 ≤ R.frames ∧ 8 + (maxL + 11) + rm.locals ≤ R.locals) : va_CU R s args own C y.cls index y y bytes maxL ret ws rm mc ms n := by
  have hc : Cond.code y bytes maxL ret ∈ ws := by rw [hw]; exact List.mem_cons_self
  refine ⟨⟨hrc, hrs, hR.1, hR.2, pay_in ht hG, hc⟩, ht _ (hG _ hc).1, ht _ h4, ⟨hd.1, hd.2.1⟩, fun sig h => ?_, ht _ h1, ht _ h2, va_Decl.of (ht _ h3) (ht _ (hG _ hc).1), va_any rfl hs, ht _ h3⟩
  have h2 := hd.2.2
  rw [h] at h2
  exact (Option.some.inj h2).symm
set_option maxHeartbeats 4000000 in
theorem WW.callP {X : wdX} {kc ks pc idx n d' mc' ms' : Nat} {M : wdM} {lv : List (Nat × Value)} {st : List Value} {w : wdW} {Q' : wdO → wdW → Prop} {C : String} (As : List Value) (b : Nat) (rest : List Value) (ht : X.M.tab pc = some (.invokevirtual idx, 3)) (hM : wdLP X.M.y.cls C idx M n) (sp : Sp X.l X.G M d' mc' ms' (.ref b :: As) w Q') (hb : wdRecv X.G w b C) (hst : st = As.reverse ++ .ref b :: rest) (hn : As.length = n) (hW : (rest.map fun v => v.category).sum ≤ 8) (hd : d' + 1 ≤ X.d) (hc : mc' ≤ kc) (hs : ms' ≤ ks)
    (kk : ∀ (o : wdO) (w' : wdW), Q' o w' → wdNext X (kc - mc') (ks - ms') pc 3 lv rest o w') : WW X kc ks pc lv st w := by
  intro p e R s m args below meth c H locs cells slots ls A hH hS hl hcc hss
  subst hst
  obtain ⟨hh, ⟨hl1, hl2, hl3, hl4⟩, hg, hsx, hmn, hnl⟩ := hM
  obtain ⟨r1, r2, r3, r4⟩ := A.room
  have sp' : wx_Met X.l M.y (ws_ M.y M.cc M.nL M.ret) (wdR d' mc' ms') (wdPc X.l X.G (.ref b :: As) w) (wdQc X.G Q') (wdXC X.G Q') mc' ms' (wdA X.G) := by rw [← wdWs0 hh]; exact sp
  exact WW.after (w := w) A hS hl hcc hss hc hs (wx_runU (C := C) (owner := M.y.cls) (x := M.y) ⟨A.exec, A.code, A.nl, A.own, A.hts⟩ sp' (wd_cwP n A.hts hl1 hl2 hl3 hl4 hg rfl rfl rfl (A.F.2.2.2.2.2.1.2 _ hsx) hmn ⟨by show d' + 1 ≤ _; omega, by show 8 + (M.nL + 11) + 80 * d' ≤ _; omega⟩) ⟨wdPc_blind _ _ _ _, hb.cell A hH hS, wdPc_at A hH hS _⟩ rfl hn hl.1 rfl (lv_room hW) (A.tab ht) ⟨by omega, by omega⟩) kk
/-! super's -/
def wdLSU (own : String) (idx : Nat) (M : wdM) (n : Nat) : Prop := M.hh = [] ∧ GoodIn lw_all (va_wsSU own idx M.y (ws_ M.y M.cc M.nL M.ret)) ∧ (M.y.name ≠ "<init>" ∧ (parseMethodDescriptor M.y.desc).map (fun d => d.parameters.length) = some n) ∧ M.nL ≤ 60
theorem wdRecv.at {X : wdX} {p e R s m args below meth c} (A : wdAt X p e R s m args below meth c) {w : wdW} {b ci : Nat} {fs : List Value} {r : vw_C} (h : w.1 ci b = some (.inl fs)) (hr : wdCl[ci]? = some r) : ClassAt s r.1 (X.G.1.1 ci) := (A.K.1 ci r hr).2
set_option maxHeartbeats 4000000 in
theorem WW.callSU {X : wdX} {kc ks pc idx n d' mc' ms' : Nat} {M : wdM} {lv : List (Nat × Value)} {st : List Value} {w : wdW} {Q' : wdO → wdW → Prop} {ci : Nat} {fs : List Value} {r : vw_C} (As : List Value) (b : Nat) (rest : List Value) (ht : X.M.tab pc = some (.invokespecial idx, 3)) (hM : wdLSU X.M.y.cls idx M n) (sp : Sp X.l X.G M d' mc' ms' (.ref b :: As) w Q') (hb0 : w.1 ci b = some (.inl fs)) (hr : wdCl[ci]? = some r) (hst : st = As.reverse ++ .ref b :: rest) (hn : As.length = n) (hW : (rest.map fun v => v.category).sum ≤ 8) (hd : d' + 1 ≤ X.d) (hc : mc' ≤ kc) (hs : ms' ≤ ks)
    (kk : ∀ (o : wdO) (w' : wdW), Q' o w' → wdNext X (kc - mc') (ks - ms') pc 3 lv rest o w') : WW X kc ks pc lv st w := by
  intro p e R s m args below meth c H locs cells slots ls A hH hS hl hcc hss
  subst hst
  obtain ⟨hh, hg, hmn, hnl⟩ := hM
  obtain ⟨r1, r2, r3, r4⟩ := A.room
  have sp' : wx_Met X.l M.y (ws_ M.y M.cc M.nL M.ret) (wdR d' mc' ms') (wdPc X.l X.G (.ref b :: As) w) (wdQc X.G Q') (wdXC X.G Q') mc' ms' (wdA X.G) := by rw [← wdWs0 hh]; exact sp
  exact WW.after (w := w) A hS hl hcc hss hc hs (wx_runSU (C := r.1) (wdRecv.at A hb0 hr) ⟨A.exec, A.code, A.nl, A.own, A.hts⟩ sp' (va_cwSU n A.hts hg rfl rfl rfl hmn ⟨by show d' + 1 ≤ _; omega, by show 8 + (M.nL + 11) + 80 * d' ≤ _; omega⟩) ⟨wdPc_blind _ _ _ _, (wdRecv.obj hb0 hr).cell A hH hS, wdPc_at A hH hS _⟩ rfl hn hl.1 rfl (lv_room hW) (A.tab ht) ⟨by omega, by omega⟩) kk
/-! an interface's -/
def wdLF (own C : String) (idx : Nat) (x : MethodName) (M : wdM) (n : Nat) : Prop := M.hh = [] ∧ GoodIn lw_all (va_wsF own idx C x M.y (ws_ M.y M.cc M.nL M.ret)) ∧ (C, x, M.y) ∈ wdIt ∧ (x.cls ≠ "java/lang/invoke/MethodHandle" ∧ x.cls ≠ "java/lang/invoke/VarHandle" ∧ (parseMethodDescriptor x.desc).map (fun d => d.parameters.length) = some n) ∧ M.nL ≤ 60
set_option maxHeartbeats 4000000 in
theorem WW.callF {X : wdX} {kc ks pc idx n d' mc' ms' : Nat} {M : wdM} {lv : List (Nat × Value)} {st : List Value} {w : wdW} {Q' : wdO → wdW → Prop} {ci cnt : Nat} {fs : List Value} {r : vw_C} {x : MethodName} (As : List Value) (b : Nat) (rest : List Value) (ht : X.M.tab pc = some (.invokeinterface idx cnt, 5)) (hM : wdLF X.M.y.cls r.1 idx x M n) (sp : Sp X.l X.G M d' mc' ms' (.ref b :: As) w Q') (hb0 : w.1 ci b = some (.inl fs)) (hr : wdCl[ci]? = some r) (hst : st = As.reverse ++ .ref b :: rest) (hn : As.length = n) (hW : (rest.map fun v => v.category).sum ≤ 8) (hd : d' + 1 ≤ X.d) (hc : mc' ≤ kc) (hs : ms' ≤ ks)
    (kk : ∀ (o : wdO) (w' : wdW), Q' o w' → wdNext X (kc - mc') (ks - ms') pc 5 lv rest o w') : WW X kc ks pc lv st w := by
  intro p e R s m args below meth c H locs cells slots ls A hH hS hl hcc hss
  subst hst
  obtain ⟨hh, hg, hit, hmn, hnl⟩ := hM
  obtain ⟨r1, r2, r3, r4⟩ := A.room
  have sp' : wx_Met X.l M.y (ws_ M.y M.cc M.nL M.ret) (wdR d' mc' ms') (wdPc X.l X.G (.ref b :: As) w) (wdQc X.G Q') (wdXC X.G Q') mc' ms' (wdA X.G) := by rw [← wdWs0 hh]; exact sp
  exact WW.after5 (w := w) A hS hl hcc hss hc hs (wx_runF (C := r.1) (x := x) (wdRecv.at A hb0 hr) ⟨A.exec, A.code, A.nl, A.own, A.hts⟩ sp' (va_cwF n A.hts hg rfl rfl rfl (A.F.2.2.2.2.2.2.1 _ hit) hmn ⟨by show d' + 1 ≤ _; omega, by show 8 + (M.nL + 11) + 80 * d' ≤ _; omega⟩) ⟨wdPc_blind _ _ _ _, (wdRecv.obj hb0 hr).cell A hH hS, wdPc_at A hH hS _⟩ rfl hn hl.1 rfl (lv_room hW) (A.tab ht) ⟨by omega, by omega⟩) kk
