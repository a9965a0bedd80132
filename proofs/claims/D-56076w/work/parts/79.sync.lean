set_option maxRecDepth 100000
/-! synchronized methods of Throwable -/
abbrev wx_o9 : List Cond := Bundle.ownAtoms0 "LampLeaseOffice" 43 "java/lang/IndexOutOfBoundsException" ["java/lang/RuntimeException", "java/lang/Exception"]
theorem wx_thr {X : wdX} {p e R s m args below meth c} (A : wdAt X p e R s m args below meth c) : ∀ w ∈ wx_o9, w.before args s = true := by
  have hU := A.F.2.2.2.2.2.2.2.2.1.1
  have hN := A.F.2.2.2.2.2.2.2.2.1.2.1
  refine wx_own (L := wx_o9) (fun w hw => ?_) (wx_isRefq hU.1) (wx_isRefq hN.1) hU.2.word hN.2.word
  have hw3 : w ∈ Cond.classLink "LampLeaseOffice" 41 "java/lang/IndexOutOfBoundsException" :: Cond.initialized "java/lang/IndexOutOfBoundsException" :: wx_at0 "LampLeaseOffice" 43 "java/lang/IndexOutOfBoundsException" ["java/lang/RuntimeException", "java/lang/Exception"] := List.mem_cons_of_mem _ (List.mem_cons_of_mem _ hw)
  rcases mkX1_43.2.2 w hw3 with h | h
  · exact A.hts w h
  · have ho := moX1_43 w hw3
    simp only [wx_ot, Bool.or_eq_true] at ho
    rcases ho with ho | ho
    · exact va_Nw.use ho (A.nw h)
    · exact A.hts w (lw_g (wdNw_tbl w h) ho)
/-- what the two exceptions' classes have: Throwable's own fields, its own methods chosen -/
def wdTh (ci : Nat) (C : String) (T : u_T) : Prop := wdCl[ci]? = some (C, T, 7) ∧ (T 0 = (Bundle.tN, "cause", "Ljava/lang/Throwable;", false) ∧ T 1 = (Bundle.tN, "stackTrace", Bundle.steD, false) ∧ T 4 = (Bundle.tN, "backtrace", "Ljava/lang/Object;", false)) ∧ ((Cond.selects C Bundle.tFill0 Bundle.tFill0) ∈ lw_all ∧ (Cond.selects C Bundle.tFill Bundle.tFill) ∈ lw_all) ∧ (Cond.lays C Bundle.tN "stackTrace" Bundle.steD) ∈ lw_all
theorem wdTh10 : wdTh 8 RX10 TX10 := ⟨rfl, ⟨rfl, rfl, rfl⟩, ⟨q1530, q346⟩, in_X10 _ (u_in_lay (k := 1) (by decide))⟩
theorem wdTh11 : wdTh 9 RX11 TX11 := ⟨rfl, ⟨rfl, rfl, rfl⟩, ⟨q1641, q345⟩, in_X11 _ (u_in_lay (k := 1) (by decide))⟩
theorem wd_steD : parseFieldDescriptor Bundle.steD = some (.array (.object "java/lang/StackTraceElement")) := by decide +kernel
set_option maxHeartbeats 8000000 in
theorem WW.fill {X : wdX} {kc ks pc q ci : Nat} {C : String} {T0 : u_T} {lv : List (Nat × Value)} {rest fs : List Value} {w : wdW} (hy : X.M.y.cls = Bundle.tN) (ht : X.M.tab pc = some (.invokevirtual 27, 3)) (hth : wdTh ci C T0) (hci : ci = 8 ∨ ci = 9) (hc : w.1 ci q = some (.inl fs))
    (h1 : fs[1]? = some (wdU X.G 4)) (h4 : fs[4]? = some .null) (hd : 3 ≤ X.d) (hW : (rest.map fun v => v.category).sum ≤ 8)
    (kk : WW X kc ks (pc + 3) lv (.ref q :: rest) w) : WW X kc ks pc lv (.ref q :: rest) w := by
  intro p e R s m args below meth c H locs cells slots ls A hH hS hl hcc hss
  have K := kk p e R s m args below meth c H locs cells slots ls A hH hS hl hcc hss
  intro T' hT X₀
  obtain ⟨r1, r2, r3, r4⟩ := A.room
  obtain ⟨hcl, ⟨ht0, ht1, ht4⟩, ⟨hs0, hs1⟩, hly⟩ := hth
  have htr : e.platform.stackTraces = false := (show e.platform.stackTraces = X.l.stackTraces by rw [X₀.admits.platform]).trans A.F.1
  have howns : e.platform.frameOwnsMonitors = true := by rw [X₀.admits.platform]
  have hfin : e.platform.finalization = false := by rw [X₀.admits.platform]
  have hpl : e.platform.magicAccessors = ({} : Platform).magicAccessors := by rw [X₀.admits.platform]
  obtain ⟨T, Z0, L, -, Y⟩ := ThrowableC.of_atoms (args := args) howns hfin hpl (fun x hx => wx_thr A x (by simp [Bundle.ownAtoms0, hx]))
  obtain ⟨r, cell, g1, g2, g3, g4, g5, g6⟩ := hH.1 ci q _ hc
  cases g1.symm.trans hcl
  obtain ⟨hfree, hcount⟩ := g6 hci
  have hcellT : T'.heap[q]? = some cell := by rw [hT]; exact g2
  obtain ⟨hS', hfc, kC, hkC, hkind⟩ := A.K.1 ci _ hcl
  -- the two fields
  have hSt := hS' 1 (show (1 : Nat) < 7 by decide)
  dsimp only at hSt
  rw [ht1] at hSt
  obtain ⟨cf, kf, fi, f, hi, hsl⟩ := hSt
  cases hi.symm.trans Y.stack
  have hvS : cell.slots[T.fStack.slot]? = some (wdU X.G 4) := by rw [hsl, g5 1 (show (1 : Nat) < 7 by decide), vp_V_at h1]
  have hBk := hS' 4 (show (4 : Nat) < 7 by decide)
  dsimp only at hBk
  rw [ht4] at hBk
  obtain ⟨cf4, kf4, fi4, f4, hi4, hsl4⟩ := hBk
  obtain ⟨ci198, i198, fB, hk198, hg198, ha198, hsB, -, hnB, htB, hffB⟩ := Cond.ownField (t := .object "java/lang/Object") Y.found L.cls (by decide +kernel) (A.hts _ q333) (wx_thr A (.lays Bundle.tN Bundle.tN "backtrace" "Ljava/lang/Object;") (by simp [Bundle.ownAtoms0])) e.platform hpl
  cases hi4.symm.trans hffB
  have hvB : cell.slots[f4.slot]? = some Value.null := by rw [hsl4, g5 4 (show (4 : Nat) < 7 by decide), vp_V_at h4]
  -- statics
  obtain ⟨_, _, _, f5, aU, cellS0, gU, gst, gin, gss, gc, giss, gv, gA⟩ := A.F.2.2.2.2.2.2.2.1 _ (show (Bundle.tN, "UNASSIGNED_STACK", Bundle.steD, wdU X.G 4) ∈ wdZs X.G from List.mem_of_getElem? (i := 4) rfl)
  cases gU.symm.trans Y.unassigned
  cases Option.some.inj (gss.symm.trans L.statics)
  have hcellS : T'.heap[T.aS]? = some cellS0 := by rw [hT, hS.2.1 _ (Array.getElem?_eq_some_iff.mp gc).1 gA]; exact gc
  have hneS : T.aS ≠ q := fun h => gA (by rw [h]; exact (hH.2.2.1 ci q _ hc).1)
  have hknS : cellS0.vm ≠ .unknown := fun h => by rw [h] at giss; cases giss
  have hsel0 : selectMethod e.platform s.vm cell.cls T.fill0 = .method T.fill0 := by
    obtain ⟨c2, r2, m2, q1, q2, q3, q4, -⟩ := Cond.selects_spec (A.hts _ hs0)
    cases Option.some.inj (q1.symm.trans hfc)
    cases Option.some.inj (q2.symm.trans (State.methodFound?_of_named Y.fill0 (by decide)))
    cases Option.some.inj (q3.symm.trans Y.fill0)
    rw [Launch.admits_selectMethod X₀.admits, g3]; exact q4
  obtain ⟨c2, r2, m2, q1, q2, q3, q4, kP, hkP, hkPi⟩ := Cond.selects_spec (A.hts _ hs1)
  cases Option.some.inj (q1.symm.trans hfc)
  cases Option.some.inj (q2.symm.trans (State.methodFound?_of_named Y.fill (by decide)))
  cases Option.some.inj (q3.symm.trans Y.fill)
  have hselF : selectMethod e.platform s.vm cell.cls T.fill = .method T.fill := by rw [Launch.admits_selectMethod X₀.admits, g3]; exact q4
  obtain ⟨mk, methM, hnamed, hmethM, hstM, habM⟩ := Cond.instanceMethod_spec (A.hts _ q343)
  cases Option.some.inj (hnamed.symm.trans Y.fill)
  obtain ⟨methM', cM, hmM', -, -, -, -, -, -, hsigM⟩ := Cond.codeSync_spec Y.fill (wx_thr A (.codeSync Bundle.tFill LibCode.Throwable.Fill.code 1 (some (.object Bundle.tN))) (by simp [Bundle.ownAtoms0, Bundle.throwableAtoms]))
  cases hmM'.symm.trans hmethM
  have hp0 : methM.sig.parameters.length = 0 := by
    rw [show parseMethodDescriptor Bundle.tFill.desc = some ⟨[], some (.object Bundle.tN)⟩ from by decide +kernel] at hsigM
    rw [← Option.some.inj hsigM]; rfl
  have hown : s.vm.findClass Bundle.tN = some m.cls := by rw [← hy]; exact A.own
  have hsize : (F0 m pc ls rest).locals.size = c.maxLocals := by show ls.size = _; rw [A.nl]; exact hl.1
  obtain ⟨vm₁, X₁, st1⟩ := X₀.invokevirtual A.exec hown (A.hts _ q342) Y.fill hmethM hstM hkP hkPi (by decide) (a := q) (cell := cell) hcellT (fun z h => by rw [g4] at h; cases h) hselF hmethM habM hkP hkPi
    (g := F0 m pc ls (.ref q :: rest)) rfl (argsL := []) (rest := rest) (by rw [hp0]; rfl) rfl (by rw [A.code]; exact A.tab ht)
  have h : At (T'.setVm vm₁) m c below := X₁.here
  have hfr' : T'.frames.length + 2 < (e.platform.stackLimits T'.me).1 := X₀.framesAbove (by omega)
  have hwd' : (stackUse (.java (F0 m pc ls rest) :: T'.frames.tail)).2 + 42 ≤ (e.platform.stackLimits T'.me).2 := X₀.stackAbove (g := F0 m pc ls rest) hsize (K := 42) (by show 2 * 0 + (rest.map fun v => v.category).sum + 42 ≤ R.locals; omega)
  obtain ⟨g₀, hg0⟩ := Option.isSome_iff_exists.mp X₀.here.top
  obtain ⟨tl0, htl0⟩ := State.topJava?_eq_some.mp hg0
  have hlen0 : T'.frames.length = (Frame.java (F0 m pc ls rest) :: T'.frames.tail).length := by rw [htl0]; rfl
  generalize hFr : (Frame.java (F0 m pc ls rest) :: T'.frames.tail) = Fr at hlen0 hwd'
  have hfg : ((T'.setVm vm₁).setTop (F0 m pc ls rest)).frames = [] ++ Fr := by rw [State.frames_setTop _ (show (T'.setVm vm₁).frames = _ from htl0), ← hFr, htl0]; rfl
  have hroom : e.platform.stackFull ((((T'.setVm vm₁).setTop (F0 m pc ls rest)).threads[((T'.setVm vm₁).setTop (F0 m pc ls rest)).cur]?).getD { frames := [] }) ((T'.setVm vm₁).setTop (F0 m pc ls rest)).frames (1 + 2) = false :=
    roomAbove (pushed := []) (base := Fr) (free := 42) (lim := e.platform.stackLimits T'.me) hfg (State.stackLimits_setTop _ h.top (F0 m pc ls rest)) (by rw [← hlen0]; simp only [List.length_nil]; omega) hwd' (by simp only [stackUse_nil]; omega)
  have hw14 : (stackUse [Frame.java (fillJ T.fill q 16 [])]).2 = 14 := by
    rw [stackUse_java, stackUse_nil]
    simp [operandWords]
  have hlay : (Cond.lays C Bundle.tN "stackTrace" Bundle.steD).before args s = true := A.hts _ hly
  have htk : Jvm.Takes s cell T.fStack (wdU X.G 4) := ⟨(Array.getElem?_eq_some_iff.mp hvS).1, by
    have h7 := u_store (v := wdU X.G 4) hfc hkC hkind hlay Y.stack wd_steD (narrow_refV _ ⟨wdU X.G 4, wdU_nr X.G 4⟩) (fits_refV_array _ ⟨wdU X.G 4, wdU_nr X.G 4⟩)
    rw [g3, g4]
    unfold k2_Sd at h7
    exact h7.2.2⟩
  obtain ⟨vm₂, hW₂, st2⟩ := Steps.fillColdAnyV p (V := T'.setVm vm₁) (g := F0 m pc ls rest) (c := c) (self := q) h A.exec T L X₁.warmed
    (Nn := fun u => u) heapOnly_id (fun _ _ => rfl) (fun _ => rfl) (fun u x y => setCell_twice _ _ _ _) (cell := cell) (cellS := cellS0) (cN := cell.withEntry (T'.setVm vm₁).cur) (u0 := ⟨wdU X.G 4, wdU_nr X.G 4⟩) (ig := .invokevirtual 27) (len := 3) []
    hcellT (fun k hk => by rw [g4] at hk; cases hk) (by rw [g4]; simp) (Or.inl hfree) hvS hsel0 hcellS hneS hknS gv (fun u hu => hu) (fun u hu => hu) rfl rfl rfl rfl htk (by rw [A.code]; exact A.tab ht)
    (fun _ vm1 hW1 hAt t' hrest => by
      obtain ⟨g₁, hg1⟩ := Option.isSome_iff_exists.mp hAt.top
      obtain ⟨tl1, htl1⟩ := State.topJava?_eq_some.mp hg1
      have htail : (fillInside ((T'.setVm vm₁).setVm vm1) (F0 m pc ls rest) T.fill q cell).frames.tail = Fr := by rw [← hFr]; exact fillInside_tail ((T'.setVm vm₁).setVm vm1) (F0 m pc ls rest) T.fill q cell h.top
      have etl : tl1 = Fr := by rw [htl1] at htail; exact htail
      have htopE : (((T'.setVm vm₁).setVm vm1).setCell q (cell.withEntry ((T'.setVm vm₁).setVm vm1).cur)).topJava?.isSome := h.top
      have hlimF : e.platform.stackLimits (fillInside ((T'.setVm vm₁).setVm vm1) (F0 m pc ls rest) T.fill q cell).me = e.platform.stackLimits T'.me := by
        rw [State.stackLimits_pushFrame, State.stackLimits_setTop _ htopE]; rfl
      exact L.nativeOff p htr hAt hW1
        (roomAbove (pushed := [.java (fillJ T.fill q 16 [])]) (base := Fr) (free := 42) (lim := e.platform.stackLimits T'.me) (by rw [State.frames_setTop _ htl1, etl]; rfl) (by rw [State.stackLimits_setTop _ hAt.top]; exact hlimF)
          (by rw [← hlen0]; simp only [List.length_cons, List.length_nil]; omega) hwd' (by rw [hw14]; decide))
        hrest)
    hroom ⟨{ ci198 := ci198, i198 := fi4, fBack := f4 }, ⟨hk198, hg198, ha198, hsB⟩, hvB, fun _ _ => rfl⟩
  have hend : ((cell.withEntry (T'.setVm vm₁).cur).setSlot T.fStack.slot (wdU X.G 4)).left = cell := by
    rw [Cell.setSlot_same (show (cell.withEntry (T'.setVm vm₁).cur).slots[T.fStack.slot]? = some (wdU X.G 4) from hvS)]
    exact Cell.left_withEntry _ hfree hcount
  have X₂ := X₁.noted hW₂
  obtain ⟨t, k1, k2⟩ := K ((T'.setVm vm₁).setVm vm₂) hT X₂
  refine ⟨t, st1 _ (fun acts => ?_), k2⟩
  rw [doInvoke_state]
  refine st2 _ ?_
  rw [hend, State.setCell_asItLies (show ((T'.setVm vm₁).setVm vm₂).heap[q]? = some cell from hcellT)]
  exact k1
abbrev gcN : MethodName := { cls := "java/lang/Throwable", name := "getCause", desc := "()Ljava/lang/Throwable;" }
theorem gc_0 : decode prog_37_method_8_code 0 = .ok (.aload_n 0, 1) := by decide +kernel
theorem gc_1 : decode prog_37_method_8_code 1 = .ok (.getfield 7, 3) := by decide +kernel
theorem gc_4 : decode prog_37_method_8_code 4 = .ok (.aload_n 0, 1) := by decide +kernel
theorem gc_5 : decode prog_37_method_8_code 5 = .ok (.if_acmp .ne 7, 3) := by decide +kernel
theorem gc_12 : decode prog_37_method_8_code 12 = .ok (.aload_n 0, 1) := by decide +kernel
theorem gc_13 : decode prog_37_method_8_code 13 = .ok (.getfield 7, 3) := by decide +kernel
theorem gc_16 : decode prog_37_method_8_code 16 = .ok (.areturn, 1) := by decide +kernel
set_option maxHeartbeats 8000000 in
theorem WW.getCause {X : wdX} {kc ks pc q b : Nat} {lv : List (Nat × Value)} {rest fs : List Value} {w : wdW} (hy : X.M.y.cls = RX11) (ht : X.M.tab pc = some (.invokevirtual 13, 3)) (hc : w.1 9 q = some (.inl fs))
    (h0 : fs[0]? = some (.ref b)) (hne : b ≠ q) (hd : 3 ≤ X.d) (hW : (rest.map fun v => v.category).sum ≤ 8)
    (kk : WW X kc ks (pc + 3) lv (.ref b :: rest) w) : WW X kc ks pc lv (.ref q :: rest) w := by
  intro p e R s m args below meth c H locs cells slots ls A hH hS hl hcc hss
  have K := kk p e R s m args below meth c H locs cells slots ls A hH hS hl hcc hss
  intro T' hT X₀
  obtain ⟨r1, r2, r3, r4⟩ := A.room
  have howns : e.platform.frameOwnsMonitors = true := by rw [X₀.admits.platform]
  have hfin : e.platform.finalization = false := by rw [X₀.admits.platform]
  have hpl : e.platform.magicAccessors = ({} : Platform).magicAccessors := by rw [X₀.admits.platform]
  obtain ⟨T, Z0, L, LZ, Y⟩ := ThrowableC.of_atoms (args := args) howns hfin hpl (fun x hx => wx_thr A x (by simp [Bundle.ownAtoms0, hx]))
  obtain ⟨r, cell, g1, g2, g3, g4, g5, g6⟩ := hH.1 9 q _ hc
  cases g1.symm.trans (show wdCl[9]? = some (RX11, TX11, 7) from rfl)
  obtain ⟨hfree, hcount⟩ := g6 (Or.inr rfl)
  have hcellT : T'.heap[q]? = some cell := by rw [hT]; exact g2
  obtain ⟨hS', hfc, kC, hkC, hkind⟩ := A.K.1 9 _ (show wdCl[9]? = some (RX11, TX11, 7) from rfl)
  obtain ⟨cf, kf, fi, f, hi, hsl⟩ := hS' 0 (show (0 : Nat) < 7 by decide)
  cases hi.symm.trans Y.cause
  have hvC : cell.slots[T.fCause.slot]? = some (.ref b) := by rw [hsl, g5 0 (show (0 : Nat) < 7 by decide), vp_V_at h0]
  obtain ⟨mk, methM, hnamed, hmethM, hstM, habM⟩ := Cond.instanceMethod_spec (A.hts _ q1665)
  obtain ⟨methM', cM, hmM', hcM, hcb, hcl, hret, hlk, hex, hsigM⟩ := Cond.codeSync_spec hnamed (A.hts _ q1666)
  cases hmM'.symm.trans hmethM
  obtain ⟨c2, r2', m2, q1, q2, q3, q4, kP, hkP, hkPi⟩ := Cond.selects_spec (A.hts _ q1664)
  cases Option.some.inj (q1.symm.trans hfc)
  cases Option.some.inj (q3.symm.trans hnamed)
  obtain ⟨cn, ck, r1', hcn, hck, hni, hf, hn1⟩ := Cond.sameMethod_found (A.hts _ q1662)
  cases Option.some.inj (hn1.symm.trans hnamed)
  cases Option.some.inj (hf.symm.trans q2)
  have hsel : selectMethod e.platform s.vm cell.cls mk = .method mk := by rw [Launch.admits_selectMethod X₀.admits, g3]; exact q4
  have hp0 : methM.sig.parameters.length = 0 := by
    rw [show parseMethodDescriptor gcN.desc = some ⟨[], some (.object Bundle.tN)⟩ from by decide +kernel] at hsigM
    rw [← Option.some.inj hsigM]; rfl
  have hmc : mk.cls = T.cT := Option.some.inj ((findClass_of_methodNamed hnamed).symm.trans Y.found)
  have hown : s.vm.findClass RX11 = some m.cls := by rw [← hy]; exact A.own
  have hsize : (F0 m pc ls rest).locals.size = c.maxLocals := by show ls.size = _; rw [A.nl]; exact hl.1
  obtain ⟨vm₁, X₁, st1⟩ := X₀.invokevirtualUp A.exec hown (A.hts _ q1661) (owner := Bundle.tN) (A.hts _ q1662) (by decide) hnamed hmethM hstM (a := q) (cell := cell) hcellT (fun z h => by rw [g4] at h; cases h) hsel hmethM habM hkP hkPi
    (g := F0 m pc ls (.ref q :: rest)) rfl (argsL := []) (rest := rest) (by rw [hp0]; rfl) rfl (by rw [A.code]; exact A.tab ht)
  have h : At (T'.setVm vm₁) m c below := X₁.here
  have hfr' : T'.frames.length + 2 < (e.platform.stackLimits T'.me).1 := X₀.framesAbove (by omega)
  have hwd' : (stackUse (.java (F0 m pc ls rest) :: T'.frames.tail)).2 + 42 ≤ (e.platform.stackLimits T'.me).2 := X₀.stackAbove (g := F0 m pc ls rest) hsize (K := 42) (by show 2 * 0 + (rest.map fun v => v.category).sum + 42 ≤ R.locals; omega)
  obtain ⟨g₀, hg0⟩ := Option.isSome_iff_exists.mp X₀.here.top
  obtain ⟨tl0, htl0⟩ := State.topJava?_eq_some.mp hg0
  have hlen0 : T'.frames.length = (Frame.java (F0 m pc ls rest) :: T'.frames.tail).length := by rw [htl0]; rfl
  generalize hFr : (Frame.java (F0 m pc ls rest) :: T'.frames.tail) = Fr at hlen0 hwd'
  have hfg : ((T'.setVm vm₁).setTop (F0 m pc ls rest)).frames = [] ++ Fr := by rw [State.frames_setTop _ (show (T'.setVm vm₁).frames = _ from htl0), ← hFr, htl0]; rfl
  have hroom : e.platform.stackFull ((((T'.setVm vm₁).setTop (F0 m pc ls rest)).threads[((T'.setVm vm₁).setTop (F0 m pc ls rest)).cur]?).getD { frames := [] }) ((T'.setVm vm₁).setTop (F0 m pc ls rest)).frames (1 + 2) = false :=
    roomAbove (pushed := []) (base := Fr) (free := 42) (lim := e.platform.stackLimits T'.me) hfg (State.stackLimits_setTop _ h.top (F0 m pc ls rest)) (by rw [← hlen0]; simp only [List.length_nil]; omega) hwd' (by simp only [stackUse_nil]; omega)
  have hW1 : s.WarmedH (T'.setVm vm₁).vm := X₁.warmed
  have hlt : q < T'.heap.size := (Array.getElem?_eq_some_iff.mp hcellT).1
  have hAof : ∀ vm, s.WarmedH vm → At (fillInside ((T'.setVm vm₁).setVm vm) (F0 m pc ls rest) mk q cell) mk cM below := fun vm hWv => by
    have := At.enter_sync (g := F0 m pc ls rest) (h.setVm (hW1.alike.symm.trans hWv.alike)) #[.ref q] q (cell.withEntry (T'.setVm vm₁).cur) (hWv.methodAt hmethM) hcM (hWv.plainAt (m := mk) (by rw [hmc]; exact L.plain))
    rw [hcl] at this
    exact this
  have hcellU : ∀ vm, (fillInside ((T'.setVm vm₁).setVm vm) (F0 m pc ls rest) mk q cell).heap[q]? = some (cell.withEntry (T'.setVm vm₁).cur) := fun vm => by
    show (T'.heap.setIfInBounds q (cell.withEntry (T'.setVm vm₁).cur))[q]? = _
    simp [hlt]
  have hknown : (cell.withEntry (T'.setVm vm₁).cur).vm ≠ .unknown := by show cell.vm ≠ _; rw [g4]; simp
  have hA1 : At (fillInside (T'.setVm vm₁) (F0 m pc ls rest) mk q cell) mk cM below := by
    have := At.enter_sync (g := F0 m pc ls rest) h #[.ref q] q (cell.withEntry (T'.setVm vm₁).cur) (hW1.methodAt hmethM) hcM (hW1.plainAt (m := mk) (by rw [hmc]; exact L.plain))
    rw [hcl] at this
    exact this
  obtain ⟨vm1, hWv1, sg1⟩ := Steps.getfieldCold (tb := p.tables) (s₀ := s) (U := fillInside (T'.setVm vm₁) (F0 m pc ls rest) mk q cell) (f := fillJ mk q 1 [.ref q]) (a := q) (rest := []) (cell := cell.withEntry (T'.setVm vm₁).cur) (v := .ref b) hA1 A.exec (by rw [hcb]; exact gc_1) hW1
    (by show s.vm.FieldLinks e.platform mk.cls _ _ _ _; rw [hmc]; exact L.link7) (by show s.rightAt mk.cls _ _ = _; rw [hmc]; exact L.right7) L.cls L.at7 L.causeInstance rfl (hcellU vm₁) hknown hvC
  obtain ⟨vm2, hWv2, sg2⟩ := Steps.getfieldCold (tb := p.tables) (s₀ := s) (U := fillInside ((T'.setVm vm₁).setVm vm1) (F0 m pc ls rest) mk q cell) (f := fillJ mk q 13 [.ref q]) (a := q) (rest := []) (cell := cell.withEntry (T'.setVm vm₁).cur) (v := .ref b) (hAof vm1 hWv1) A.exec (by rw [hcb]; exact gc_13) hWv1
    (by show s.vm.FieldLinks e.platform mk.cls _ _ _ _; rw [hmc]; exact L.link7) (by show s.rightAt mk.cls _ _ = _; rw [hmc]; exact L.right7) L.cls L.at7 L.causeInstance rfl (hcellU vm1) hknown hvC
  have X₂ := X₁.noted hWv2
  have hA2 := hAof vm2 hWv2
  obtain ⟨t, k1, k2⟩ := K ((T'.setVm vm₁).setVm vm2) hT X₂
  refine ⟨t, st1 _ (fun acts => ?_), k2⟩
  rw [doInvoke_state]
  rw [doInvoke_enter_sync (g := F0 m pc ls rest) h.top [] (hW1.methodAt hmethM) hcM hlk hstM rfl hcellT (Or.inl hfree) (by rw [hcl]; exact hroom)]
  rw [hcl]
  show Steps p.tables e below ((fillInside (T'.setVm vm₁) (F0 m pc ls rest) mk q cell).setTop (fillJ mk q 0 [])) t
  jvm_step hA1 [A.exec, hcb, gc_0, Value.isRef]
  refine sg1 _ ?_
  show Steps p.tables e below ((fillInside ((T'.setVm vm₁).setVm vm1) (F0 m pc ls rest) mk q cell).setTop (fillJ mk q 4 [.ref b])) t
  jvm_step (hAof vm1 hWv1) [A.exec, hcb, gc_4, Value.isRef]
  jvm_step (hAof vm1 hWv1) [A.exec, hcb, gc_5, if_acmp.holds, Value.asRef?]
  rw [if_neg hne]
  jvm_step (hAof vm1 hWv1) [A.exec, hcb, gc_12, Value.isRef]
  refine sg2 _ ?_
  show Steps p.tables e below ((fillInside ((T'.setVm vm₁).setVm vm2) (F0 m pc ls rest) mk q cell).setTop (fillJ mk q 16 [.ref b])) t
  jvm_step hA2 [A.exec, hcb, gc_16, areturn.wp_sem, Value.isRef, FieldType.isReference]
  refine ⟨methM, hWv2.methodAt hmethM, ⟨_, hret, rfl⟩, fun acts' => ?_⟩
  have h2 : At ((T'.setVm vm₁).setVm vm2) m c below := X₂.here
  rw [doReturn_leave_sync (u := fillInside ((T'.setVm vm₁).setVm vm2) (F0 m pc ls rest) mk q cell) (g := F0 m pc ls rest) (meth := methM) (cg := c) (ig := .invokevirtual 13) (len := 3) (a := q) (cell := cell.withEntry (T'.setVm vm₁).cur)
      (f := fillJ mk q 16 []) (f₀ := entryFrameSync mk #[.ref q] 1 q) (r := T'.frames.tail) acts' howns (frames_entered (g := F0 m pc ls rest) (show (((T'.setVm vm₁).setVm vm2).setCell q (cell.withEntry (T'.setVm vm₁).cur)).topJava?.isSome from h2.top) _) (hWv2.methodAt hmethM) hlk rfl rfl
      (hcellU vm2) rfl (by have := h2.code; rw [State.code?_eq] at this ⊢; exact this) (by rw [A.code]; exact A.tab ht)]
  have e1 : ((fillInside ((T'.setVm vm₁).setVm vm2) (F0 m pc ls rest) mk q cell).setCell q (cell.withEntry (T'.setVm vm₁).cur).left).setFrames (.java (F0 m pc ls rest) :: T'.frames.tail) = (((T'.setVm vm₁).setVm vm2).setTop (F0 m pc ls rest)) := by
    rw [Cell.left_withEntry _ hfree hcount]
    show ((((((T'.setVm vm₁).setVm vm2).setCell q (cell.withEntry (T'.setVm vm₁).cur)).setTop (F0 m pc ls rest)).pushFrame (.java (entryFrameSync mk #[.ref q] 1 q))).setFrames (.java (F0 m pc ls rest) :: (((T'.setVm vm₁).setVm vm2).setCell q (cell.withEntry (T'.setVm vm₁).cur)).frames.tail)).setCell q cell = _
    rw [setFrames_entered (s := ((T'.setVm vm₁).setVm vm2).setCell q (cell.withEntry (T'.setVm vm₁).cur)) h2.top]
    show ((((T'.setVm vm₁).setVm vm2).setCell q (cell.withEntry (T'.setVm vm₁).cur)).setCell q cell).setTop (F0 m pc ls rest) = _
    rw [setCell_twice, State.setCell_asItLies (show ((T'.setVm vm₁).setVm vm2).heap[q]? = some cell from hcellT)]
  rw [e1, State.setTop_setTop]
  exact k1
