set_option maxRecDepth 100000
theorem wdF.step {l : Launch} {G : wdG} {s U : State} {H0 H : Heap} (h : wdF l G s H0) (hW : s.WarmedH U.vm) (hz : H0.size ≤ H.size) (hk : ∀ q, q < H0.size → ¬ wdA G q → H[q]? = H0[q]?) : wdF l G U H := by
  obtain ⟨h1, h2, h3, h4, h5, h6, h7, h8, ⟨h9, h10, h11⟩, h12, h13⟩ := h
  have hvm := hW.alike
  refine ⟨h1, Nat.le_trans h2 hz, va_K.moved hvm h3, fun w hw => wdNw_warm hw hW (h4 w hw), fun q hq => (h5 q hq).moved hvm, ⟨h6.1.moved hvm, fun q hq => word_at hW (Or.inl (by first | rfl | simp [Cond.onTables, Cond.keeps, Cond.steady])) (h6.2 q hq)⟩, fun q hq => ?_, fun q hq => va_Z.moved hvm ((h8 q hq).kept hk), ⟨wx_Zq.moved hvm (h9.kept hk), wx_Zq.moved hvm (h10.kept hk), va_Zq.moved hvm (h11.kept hk)⟩, fun q hq => va_T.moved hvm ((h12 q hq).kept hk), fun i q hq => ?_⟩
  · refine va_Fw.moved ?_ hvm (h7 q hq)
    have hall : wdIt.all (fun q => decide (q.2.1.cls ≠ "java/lang/invoke/MethodHandle" ∧ q.2.1.cls ≠ "java/lang/invoke/VarHandle")) = true := by decide +kernel
    exact of_decide_eq_true (List.all_eq_true.mp hall q hq)
  · obtain ⟨g1, g2, g3, g4, g5, g6, g7⟩ := h13 i q hq
    exact ⟨va_O.moved hvm (g1.kept hk), va_OF.moved hvm (g2.kept hk), va_OF.moved hvm (g3.kept hk), va_OF.moved hvm (g4.kept hk), va_OF.moved hvm (g5.kept hk), va_T.moved hvm (g6.kept hk), vk_R.warm hW g7⟩
/-- what a method's end is: it returned, or threw the cell q of class E -/
abbrev wdO : Type := Option Value ⊕ (String × Nat)
def wdQc (G : wdG) (Q : wdO → wdW → Prop) : Array Value → State → Outcome → State → Prop := fun _ st o t => (∃ (v : Option Value) (w : wdW), o = .returned v ∧ Q (.inl v) w ∧ wdH G w t.heap) ∧ va_F (wdA G) st t
def wdXC (G : wdG) (Q : wdO → wdW → Prop) : String → Addr → State → State → Prop := fun E q st t => (∃ w : wdW, Q (.inr (E, q)) w ∧ wdH G w t.heap) ∧ va_F (wdA G) st t
/-- a walk's fixed things: launch, given things, method, depth, cells and slots in all, the end's condition -/
abbrev wdX : Type := Launch × wdG × wdM × Nat × Nat × Nat × (wdO → wdW → Prop)
abbrev wdX.l (X : wdX) : Launch := X.1
abbrev wdX.G (X : wdX) : wdG := X.2.1
abbrev wdX.M (X : wdX) : wdM := X.2.2.1
abbrev wdX.d (X : wdX) : Nat := X.2.2.2.1
abbrev wdX.mc (X : wdX) : Nat := X.2.2.2.2.1
abbrev wdX.ms (X : wdX) : Nat := X.2.2.2.2.2.1
abbrev wdX.Q (X : wdX) : wdO → wdW → Prop := X.2.2.2.2.2.2
abbrev wdM.y (M : wdM) : MethodName := M.1
abbrev wdM.cc (M : wdM) : ByteArray := M.2.1
abbrev wdM.nL (M : wdM) : Nat := M.2.2.1
abbrev wdM.ret (M : wdM) : Option FieldType := M.2.2.2.1
abbrev wdM.hh (M : wdM) : List (Nat × Nat × Nat × Nat) := M.2.2.2.2.1
abbrev wdM.tab (M : wdM) : Nat → Option (Instr × Nat) := M.2.2.2.2.2
def wdAt (X : wdX) (p : Program) (e : Env) (R : Room) (s : State) (m : MethodId) (args : Array Value) (below : List Frame) (meth : Method) (c : Code) : Prop :=
  p.tables.exec = Jvm.exec ∧ c.code = X.M.cc ∧ c.maxLocals = X.M.nL ∧ meth.sig.returnType = X.M.ret ∧ meth.locks = false ∧ meth.name = X.M.y.name ∧ s.vm.findClass X.M.y.cls = some m.cls ∧ (∀ w ∈ lw_all, w.before args s = true) ∧
  (∀ pc x, X.M.tab pc = some x → decode X.M.cc pc = .ok x) ∧ c.exceptionTable.toList = tableOf X.M.hh ∧ (X.d ≤ R.frames ∧ 80 * X.d ≤ R.locals ∧ R.cells = X.mc ∧ R.slots = X.ms) ∧ wdF X.l X.G s s.heap
abbrev wdEnd (X : wdX) (args : Array Value) (s : State) (below : List Frame) : State → Prop := wx_MQ below (wdQc X.G X.Q) (wdXC X.G X.Q) args s X.mc X.ms (wdA X.G)
/-- THE WALK: from pc, these locals, this stack, this world, with kc cells and ks slots still to spend, the method comes to its end -/
def WW (X : wdX) (kc ks pc : Nat) (lv : List (Nat × Value)) (st : List Value) (w : wdW) : Prop :=
  ∀ (p : Program) (e : Env) (R : Room) (s : State) (m : MethodId) (args : Array Value) (below : List Frame) (meth : Method) (c : Code) (H : Heap) (locs : List Loc) (cells slots : Nat) (ls : Array Slot),
    wdAt X p e R s m args below meth c → wdH X.G w H → va_S (wdA X.G) s.heap H locs → lv_has ls X.M.nL lv → cells + kc ≤ X.mc → slots + ks ≤ X.ms →
    W p X.l e R s m args below meth c H locs cells slots (wdEnd X args s below) (F0 m pc ls st)
/-- .. with the cell q of class E thrown over it -/
def WX (X : wdX) (kc ks pc : Nat) (lv : List (Nat × Value)) (st : List Value) (w : wdW) (E : String) (q : Nat) : Prop :=
  ∀ (p : Program) (e : Env) (R : Room) (s : State) (m : MethodId) (args : Array Value) (below : List Frame) (meth : Method) (c : Code) (H : Heap) (locs : List Loc) (cells slots : Nat) (ls : Array Slot),
    wdAt X p e R s m args below meth c → wdH X.G w H → va_S (wdA X.G) s.heap H locs → lv_has ls X.M.nL lv → cells + kc ≤ X.mc → slots + ks ≤ X.ms → (∃ ce : Cell, H[q]? = some ce ∧ ce.vm = .none ∧ s.vm.findClass E = some ce.cls) →
    wx_W p X.l e R s m args below meth c H locs cells slots (wdEnd X args s below) (F0 m pc ls st) q
theorem wdAt.exec {X : wdX} {p e R s m args below meth c} (A : wdAt X p e R s m args below meth c) : p.tables.exec = Jvm.exec := A.1
theorem wdAt.code {X : wdX} {p e R s m args below meth c} (A : wdAt X p e R s m args below meth c) : c.code = X.M.cc := A.2.1
theorem wdAt.nl {X : wdX} {p e R s m args below meth c} (A : wdAt X p e R s m args below meth c) : c.maxLocals = X.M.nL := A.2.2.1
theorem wdAt.ret {X : wdX} {p e R s m args below meth c} (A : wdAt X p e R s m args below meth c) : meth.sig.returnType = X.M.ret := A.2.2.2.1
theorem wdAt.nolock {X : wdX} {p e R s m args below meth c} (A : wdAt X p e R s m args below meth c) : meth.locks = false := A.2.2.2.2.1
theorem wdAt.name {X : wdX} {p e R s m args below meth c} (A : wdAt X p e R s m args below meth c) : meth.name = X.M.y.name := A.2.2.2.2.2.1
theorem wdAt.own {X : wdX} {p e R s m args below meth c} (A : wdAt X p e R s m args below meth c) : s.vm.findClass X.M.y.cls = some m.cls := A.2.2.2.2.2.2.1
theorem wdAt.hts {X : wdX} {p e R s m args below meth c} (A : wdAt X p e R s m args below meth c) : ∀ w ∈ lw_all, w.before args s = true := A.2.2.2.2.2.2.2.1
theorem wdAt.tab {X : wdX} {p e R s m args below meth c} (A : wdAt X p e R s m args below meth c) {pc : Nat} {x : Instr × Nat} (h : X.M.tab pc = some x) : decode X.M.cc pc = .ok x := A.2.2.2.2.2.2.2.2.1 pc x h
theorem wdAt.exc {X : wdX} {p e R s m args below meth c} (A : wdAt X p e R s m args below meth c) : c.exceptionTable.toList = tableOf X.M.hh := A.2.2.2.2.2.2.2.2.2.1
theorem wdAt.room {X : wdX} {p e R s m args below meth c} (A : wdAt X p e R s m args below meth c) : X.d ≤ R.frames ∧ 80 * X.d ≤ R.locals ∧ R.cells = X.mc ∧ R.slots = X.ms := A.2.2.2.2.2.2.2.2.2.2.1
theorem wdAt.F {X : wdX} {p e R s m args below meth c} (A : wdAt X p e R s m args below meth c) : wdF X.l X.G s s.heap := A.2.2.2.2.2.2.2.2.2.2.2
theorem wdAt.K {X : wdX} {p e R s m args below meth c} (A : wdAt X p e R s m args below meth c) : va_K X.G.1 wdCl (wdTys X.G) s := A.F.2.2.1
theorem wdAt.nw {X : wdX} {p e R s m args below meth c} (A : wdAt X p e R s m args below meth c) {w : Cond} (h : w ∈ wdNw) : va_Nw w s := A.F.2.2.2.1 w h
/-- less to spend -/
theorem WW.less {X : wdX} {kc ks kc' ks' pc : Nat} {lv : List (Nat × Value)} {st : List Value} {w : wdW} (h1 : kc' ≤ kc) (h2 : ks' ≤ ks) (k : WW X kc' ks' pc lv st w) : WW X kc ks pc lv st w :=
  fun p e R s m args below meth c H locs cells slots ls A hH hS hl hc hs => k p e R s m args below meth c H locs cells slots ls A hH hS hl (by omega) (by omega)
/-! PURE STEPS: locals and stack alone -/
def wdGet : List (Nat × Value) → Nat → Option Value
  | [], _ => none
  | q :: l, i => bif Nat.beq q.1 i then some q.2 else wdGet l i
def wdDel1 (i : Nat) : List (Nat × Value) → List (Nat × Value)
  | [] => []
  | q :: l => bif Nat.beq q.1 i || (Nat.beq (q.1 + 1) i && Nat.beq q.2.category 2) then wdDel1 i l else q :: wdDel1 i l
def wdDel2 (i : Nat) : List (Nat × Value) → List (Nat × Value)
  | [] => []
  | q :: l => bif Nat.beq q.1 i || (Nat.beq q.1 (i + 1) || (Nat.beq (q.1 + 1) i && Nat.beq q.2.category 2)) then wdDel2 i l else q :: wdDel2 i l
theorem wdGet_mem : ∀ {l : List (Nat × Value)} {i : Nat} {v : Value}, wdGet l i = some v → (i, v) ∈ l
  | [], _, _, h => by cases h
  | q :: l, i, v, h => by
    unfold wdGet at h
    cases hb : Nat.beq q.1 i with
    | true =>
      rw [hb] at h
      have e1 : q.1 = i := Nat.eq_of_beq_eq_true hb
      have e2 : q.2 = v := Option.some.inj h
      rw [← e1, ← e2]
      exact List.mem_cons_self
    | false =>
      rw [hb] at h
      exact List.mem_cons_of_mem _ (wdGet_mem h)
theorem wdGet_at {ls : Array Slot} {nL : Nat} {l : List (Nat × Value)} (h : lv_has ls nL l) {i : Nat} {v : Value} (hk : wdGet l i = some v) : ls[i]? = some (.val v) := h.2.2 (i, v) (wdGet_mem hk)
theorem wd_beq (a b : Nat) : Nat.beq a b = (a == b) := by
  cases hb : Nat.beq a b with
  | true =>
    have h := Nat.eq_of_beq_eq_true hb
    subst h
    simp
  | false =>
    have h : a ≠ b := fun e => by
      subst e
      rw [Nat.beq_refl] at hb
      cases hb
    simp [h]
theorem wdDel1_sub (i : Nat) : ∀ (l : List (Nat × Value)) (q : Nat × Value), q ∈ wdDel1 i l → q ∈ l.filter (fun q => !(q.1 == i) && !(q.1 + 1 == i && q.2.category == 2))
  | [], q, h => by cases h
  | x :: l, q, h => by
    unfold wdDel1 at h
    rw [List.filter_cons]
    simp only [wd_beq] at h
    cases h1 : (x.1 == i) <;> cases h2 : (x.1 + 1 == i && x.2.category == 2) <;> simp only [h1, h2, Bool.or_true, Bool.or_false, Bool.true_or, Bool.false_or, cond_true, cond_false] at h <;> simp only [h1, h2, Bool.not_true, Bool.not_false, Bool.and_true, Bool.and_false, Bool.true_and, Bool.false_and, if_true, if_false, Bool.false_eq_true, reduceIte]
    · rcases List.mem_cons.mp h with e | e
      · rw [e]; exact List.mem_cons_self
      · exact List.mem_cons_of_mem _ (wdDel1_sub i l q e)
    · exact wdDel1_sub i l q h
    · exact wdDel1_sub i l q h
    · exact wdDel1_sub i l q h
theorem wdDel2_sub (i : Nat) : ∀ (l : List (Nat × Value)) (q : Nat × Value), q ∈ wdDel2 i l → q ∈ l.filter (fun q => !(q.1 == i) && (!(q.1 == i + 1) && !(q.1 + 1 == i && q.2.category == 2)))
  | [], q, h => by cases h
  | x :: l, q, h => by
    unfold wdDel2 at h
    rw [List.filter_cons]
    simp only [wd_beq] at h
    cases h1 : (x.1 == i) <;> cases h3 : (x.1 == i + 1) <;> cases h2 : (x.1 + 1 == i && x.2.category == 2) <;> simp only [h1, h2, h3, Bool.or_true, Bool.or_false, Bool.true_or, Bool.false_or, cond_true, cond_false] at h <;> simp only [h1, h2, h3, Bool.not_true, Bool.not_false, Bool.and_true, Bool.and_false, Bool.true_and, Bool.false_and, if_true, if_false, Bool.false_eq_true, reduceIte]
    · rcases List.mem_cons.mp h with e | e
      · rw [e]; exact List.mem_cons_self
      · exact List.mem_cons_of_mem _ (wdDel2_sub i l q e)
    all_goals exact wdDel2_sub i l q h
theorem lv_less {ls : Array Slot} {nL : Nat} {l l' : List (Nat × Value)} (h : lv_has ls nL l) (hs : ∀ q ∈ l', q ∈ l) : lv_has ls nL l' := ⟨h.1, h.2.1, fun q hq => h.2.2 q (hs q hq)⟩
theorem lv_less1 {ls : Array Slot} {nL i : Nat} {v : Value} {l : List (Nat × Value)} (h : lv_has ls nL ((i, v) :: l.filter (fun q => !(q.1 == i) && !(q.1 + 1 == i && q.2.category == 2)))) : lv_has ls nL ((i, v) :: wdDel1 i l) :=
  lv_less h fun q hq => by
    rcases List.mem_cons.mp hq with e | e
    · rw [e]; exact List.mem_cons_self
    · exact List.mem_cons_of_mem _ (wdDel1_sub i l q e)
theorem lv_less2 {ls : Array Slot} {nL i : Nat} {v : Value} {l : List (Nat × Value)} (h : lv_has ls nL ((i, v) :: l.filter (fun q => !(q.1 == i) && (!(q.1 == i + 1) && !(q.1 + 1 == i && q.2.category == 2))))) : lv_has ls nL ((i, v) :: wdDel2 i l) :=
  lv_less h fun q hq => by
    rcases List.mem_cons.mp hq with e | e
    · rw [e]; exact List.mem_cons_self
    · exact List.mem_cons_of_mem _ (wdDel2_sub i l q e)
/-- fewer locals are known -/
theorem WW.locals {X : wdX} {kc ks pc : Nat} {lv lv' : List (Nat × Value)} {st : List Value} {w : wdW} (h : ∀ q ∈ lv', q ∈ lv) (k : WW X kc ks pc lv' st w) : WW X kc ks pc lv st w :=
  fun p e R s m args below meth c H locs cells slots ls A hH hS hl hc hs => k p e R s m args below meth c H locs cells slots ls A hH hS (lv_less hl h) hc hs
abbrev wdS : Type := Nat × List (Nat × Value) × List Value
def wdLoad (lv : List (Nat × Value)) (st : List Value) (i n pc : Nat) (f : Value → Bool) : Option wdS := match wdGet lv i with
  | some v => bif f v then some (pc + n, lv, v :: st) else none
  | none => none
abbrev isI : Value → Bool | .int _ => true | _ => false
abbrev isR : Value → Bool | .ref _ => true | _ => false
abbrev isF : Value → Bool | .float _ => true | _ => false
abbrev isDb : Value → Bool | .double _ => true | _ => false
abbrev isLg : Value → Bool | .long _ => true | _ => false
def wdStore1 (nL : Nat) (lv : List (Nat × Value)) (st : List Value) (i n pc : Nat) (f : Value → Bool) : Option wdS := match st with
  | v :: r => bif f v && Nat.blt i nL then some (pc + n, (i, v) :: wdDel1 i lv, r) else none
  | [] => none
def wdStore2 (nL : Nat) (lv : List (Nat × Value)) (st : List Value) (i n pc : Nat) (f : Value → Bool) : Option wdS := match st with
  | v :: r => bif f v && Nat.blt (i + 1) nL then some (pc + n, (i, v) :: wdDel2 i lv, r) else none
  | [] => none
def wdPure (nL : Nat) (i : Instr) (n pc : Nat) (lv : List (Nat × Value)) (st : List Value) : Option wdS := match i with
  | .iconst k => bif Nat.beq n 1 then some (pc + 1, lv, .int (Int32.ofInt k) :: st) else none
  | .bipush k => bif Nat.beq n 2 then some (pc + 2, lv, .int (Int8.ofInt k).toInt32 :: st) else none
  | .sipush k => bif Nat.beq n 3 then some (pc + 3, lv, .int (Int16.ofInt k).toInt32 :: st) else none
  | .lconst k => bif Nat.beq n 1 then some (pc + 1, lv, .long (Int64.ofNat k) :: st) else none
  | .aconst_null => bif Nat.beq n 1 then some (pc + 1, lv, .null :: st) else none
  | .iload_n k => bif Nat.beq n 1 then wdLoad lv st k 1 pc isI else none
  | .iload k => bif Nat.beq n 2 then wdLoad lv st k 2 pc isI else none
  | .aload_n k => bif Nat.beq n 1 then wdLoad lv st k 1 pc isR else none
  | .aload k => bif Nat.beq n 2 then wdLoad lv st k 2 pc isR else none
  | .fload_n k => bif Nat.beq n 1 then wdLoad lv st k 1 pc isF else none
  | .fload k => bif Nat.beq n 2 then wdLoad lv st k 2 pc isF else none
  | .dload_n k => bif Nat.beq n 1 then wdLoad lv st k 1 pc isDb else none
  | .dload k => bif Nat.beq n 2 then wdLoad lv st k 2 pc isDb else none
  | .istore_n k => bif Nat.beq n 1 then wdStore1 nL lv st k 1 pc isI else none
  | .istore k => bif Nat.beq n 2 then wdStore1 nL lv st k 2 pc isI else none
  | .astore_n k => bif Nat.beq n 1 then wdStore1 nL lv st k 1 pc isR else none
  | .astore k => bif Nat.beq n 2 then wdStore1 nL lv st k 2 pc isR else none
  | .fstore_n k => bif Nat.beq n 1 then wdStore1 nL lv st k 1 pc isF else none
  | .fstore k => bif Nat.beq n 2 then wdStore1 nL lv st k 2 pc isF else none
  | .dstore_n k => bif Nat.beq n 1 then wdStore2 nL lv st k 1 pc isDb else none
  | .dstore k => bif Nat.beq n 2 then wdStore2 nL lv st k 2 pc isDb else none
  | .iinc k z => bif Nat.beq n 3 && Nat.blt k nL then (match wdGet lv k with | some (.int x) => some (pc + 3, (k, .int (x + Int32.ofInt z)) :: wdDel1 k lv, st) | _ => none) else none
  | .iadd => bif Nat.beq n 1 then (match st with | .int y :: .int x :: r => some (pc + 1, lv, .int (x + y) :: r) | _ => none) else none
  | .isub => bif Nat.beq n 1 then (match st with | .int y :: .int x :: r => some (pc + 1, lv, .int (x - y) :: r) | _ => none) else none
  | .imul => bif Nat.beq n 1 then (match st with | .int y :: .int x :: r => some (pc + 1, lv, .int (x * y) :: r) | _ => none) else none
  | .iand => bif Nat.beq n 1 then (match st with | .int y :: .int x :: r => some (pc + 1, lv, .int (x &&& y) :: r) | _ => none) else none
  | .ishl => bif Nat.beq n 1 then (match st with | .int y :: .int x :: r => some (pc + 1, lv, .int (x <<< (y &&& 31)) :: r) | _ => none) else none
  | .ishr => bif Nat.beq n 1 then (match st with | .int y :: .int x :: r => some (pc + 1, lv, .int (x >>> (y &&& 31)) :: r) | _ => none) else none
  | .ineg => bif Nat.beq n 1 then (match st with | .int x :: r => some (pc + 1, lv, .int (-x) :: r) | _ => none) else none
  | .i2l => bif Nat.beq n 1 then (match st with | .int x :: r => some (pc + 1, lv, .long x.toInt64 :: r) | _ => none) else none
  | .i2b => bif Nat.beq n 1 then (match st with | .int x :: r => some (pc + 1, lv, .int x.toInt8.toInt32 :: r) | _ => none) else none
  | .i2c => bif Nat.beq n 1 then (match st with | .int x :: r => some (pc + 1, lv, .int (x.toUInt32 % 65536).toInt32 :: r) | _ => none) else none
  | .dup => bif Nat.beq n 1 then (match st with | v :: r => bif Nat.beq v.category 1 then some (pc + 1, lv, v :: v :: r) else none | _ => none) else none
  | .pop => bif Nat.beq n 1 then (match st with | v :: r => bif Nat.beq v.category 1 then some (pc + 1, lv, r) else none | _ => none) else none
  | .dup_x1 => bif Nat.beq n 1 then (match st with | v :: u :: r => bif Nat.beq v.category 1 && Nat.beq u.category 1 then some (pc + 1, lv, v :: u :: v :: r) else none | _ => none) else none
  | .dup2 => bif Nat.beq n 1 then (match st with | v :: u :: r => bif Nat.beq v.category 1 && Nat.beq u.category 1 then some (pc + 1, lv, v :: u :: v :: u :: r) else none | _ => none) else none
  | .goto z => bif Nat.beq n 3 then (match (pc : Int) + z with | .ofNat t => some (t, lv, st) | _ => none) else none
  | _ => none
