set_option maxRecDepth 100000
/-! SHIPS, LAMPS, REQUESTS AS OBJECTS; the office's checks -/
abbrev shF (x : aSh) : List Value := [.int x.1, .int x.2.1, .int x.2.2]
abbrev laF (x : aLa) : List Value := [.int x.1, .int (nI x.2.1 - nI 1), .int x.2.2.1, .int x.2.2.2.1, .int (bI x.2.2.2.2)]
abbrev rqF (x : aRe) : List Value := [.int (nI x.1), .int x.2]
theorem wdU_na (G : wdG) (i : Nat) (t : FieldType) : narrow (.array t) (wdU G i) = wdU G i := by
  unfold wdU
  cases G.2.2.2.1 i <;> rfl
theorem wdU_no (G : wdG) (i : Nat) (t : String) : narrow (.object t) (wdU G i) = wdU G i := by
  unfold wdU
  cases G.2.2.2.1 i <;> rfl
theorem wdU_fa (G : wdG) (i : Nat) (t : FieldType) : fits (.array t) (wdU G i) = true := by
  unfold wdU
  cases G.2.2.2.1 i <;> rfl
theorem wdU_fo (G : wdG) (i : Nat) (t : String) : fits (.object t) (wdU G i) = true := by
  unfold wdU
  cases G.2.2.2.1 i <;> rfl
theorem WW.aloadN {X : wdX} {kc ks pc : Nat} {k : Fin 4} {lv : List (Nat × Value)} {st : List Value} {w : wdW} (i : Nat) (ht : X.M.tab pc = some (.aload_n k, 1)) (hi : (k : Nat) = i ∧ wdGet lv i = some .null)
    (kk : WW X kc ks (pc + 1) lv (.null :: st) w) : WW X kc ks pc lv st w :=
  fun p e R s m args below meth c H locs cells slots ls A hH hS hl hcc hss => lv_aload_nN A.exec A.code (A.tab ht) hi.1 (wdGet_at hl hi.2) (kk p e R s m args below meth c H locs cells slots ls A hH hS hl hcc hss)
theorem WW.aloadN2 {X : wdX} {kc ks pc : Nat} {lv : List (Nat × Value)} {st : List Value} {w : wdW} (i : Nat) (ht : X.M.tab pc = some (.aload i, 2)) (hi : wdGet lv i = some .null)
    (kk : WW X kc ks (pc + 2) lv (.null :: st) w) : WW X kc ks pc lv st w :=
  fun p e R s m args below meth c H locs cells slots ls A hH hS hl hcc hss => lv_aloadN A.exec A.code (A.tab ht) (wdGet_at hl hi) (kk p e R s m args below meth c H locs cells slots ls A hH hS hl hcc hss)
section
variable {l : Launch} {G : wdG} {w : wdW} {a : Nat}
theorem sO_between (x lo hi : Int32) : SpR l G MX1_isBetween 0 [.int x, .int lo, .int hi] w (.int (bI (inR x lo hi))) := by
  refine Sp.of rfl (by decide +kernel) kX1_isBetween (wd_le rfl) ?_
  refine WW.run (pc' := 2) (lv' := [(0, .int x), (1, .int lo), (2, .int hi)]) (st' := [.int lo, .int x]) 2 rfl ?_
  refine WW.icmp_lt (tgt := 14) rfl rfl (fun h1 => ?_) (fun h1 => ?_)
  · skip
    refine WW.run (pc' := 15) (lv' := [(0, .int x), (1, .int lo), (2, .int hi)]) (st' := [.int (nI 0)]) 1 rfl ?_
    exact WW.iret rfl rfl rfl ⟨by rw [show inR x lo hi = false by simp only [inR, Bool.and_eq_false_iff, decide_eq_false_iff_not]; exact Or.inl (Int32.not_le.mpr h1)]; rfl, rfl⟩
  refine WW.run (pc' := 7) (lv' := [(0, .int x), (1, .int lo), (2, .int hi)]) (st' := [.int hi, .int x]) 2 rfl ?_
  refine WW.icmp_gt (tgt := 14) rfl rfl (fun h2 => ?_) (fun h2 => ?_)
  · skip
    refine WW.run (pc' := 15) (lv' := [(0, .int x), (1, .int lo), (2, .int hi)]) (st' := [.int (nI 0)]) 1 rfl ?_
    exact WW.iret rfl rfl rfl ⟨by rw [show inR x lo hi = false by simp only [inR, Bool.and_eq_false_iff, decide_eq_false_iff_not]; exact Or.inr (Int32.not_le.mpr h2)]; rfl, rfl⟩
  refine WW.run (pc' := 15) (lv' := [(0, .int x), (1, .int lo), (2, .int hi)]) (st' := [.int (nI 1)]) 2 rfl ?_
  exact WW.iret rfl rfl rfl ⟨by rw [show inR x lo hi = true by simp only [inR, Bool.and_eq_true, decide_eq_true_eq]; exact ⟨Int32.not_lt.mp h1, Int32.not_lt.mp h2⟩]; rfl, rfl⟩
/-- a check: it passes, or the object of class number ci is thrown -/
abbrev rqQ (b : Bool) (E : String) (ci : Nat) (w : wdW) : wdO → wdW → Prop := fun o w' => bif b then o = .inl none ∧ w' = w else ∃ q, w.2 ≤ q ∧ o = .inr (E, q) ∧ wFr (fun _ => False) w w' ∧ w'.1 ci q = some (.inl [])
theorem sO_requireIndex (b : Bool) : Sp l G MX1_requireIndex 6 1 6 [.int (bI b)] w (rqQ b "java/lang/IndexOutOfBoundsException" 13 w) := by
  refine Sp.of rfl (by decide +kernel) kX1_requireIndex (wd_le rfl) ?_
  refine WW.run (pc' := 1) (lv' := [(0, .int (bI b))]) (st' := [.int (bI b)]) 1 rfl ?_
  cases b with
  | true =>
    refine WW.if_ne (tgt := 12) rfl rfl (fun _ => ?_) (fun hno => absurd hno (by decide))
    exact WW.vret rfl rfl ⟨rfl, rfl⟩
  | false =>
    refine WW.if_ne (tgt := 12) rfl rfl (fun hno => absurd rfl hno) (fun _ => ?_)
    refine WW.make0 rfl rfl rfl mkX1_43 moX1_43 (ci := 13) rfl (by decide) (wd_le rfl) (wd_le rfl) (wd_le rfl) (wd_le rfl) (wd_le rfl) (wd_le rfl) (fun q hq => ?_)
    have ha : (wNew w 13 q (.inl [])).1 13 q = some (.inl []) := wNew_same _ _ _ _
    refine WW.athrow rfl ha rfl ?_
    exact WX.out (fun _ h => nomatch h) ⟨q, hq, rfl, (wFr.refl _ _).new hq, ha⟩
theorem sO_requireArgument (b : Bool) : Sp l G MX1_requireArgument 6 1 6 [.int (bI b)] w (rqQ b "java/lang/IllegalArgumentException" 14 w) := by
  refine Sp.of rfl (by decide +kernel) kX1_requireArgument (wd_le rfl) ?_
  refine WW.run (pc' := 1) (lv' := [(0, .int (bI b))]) (st' := [.int (bI b)]) 1 rfl ?_
  cases b with
  | true =>
    refine WW.if_ne (tgt := 12) rfl rfl (fun _ => ?_) (fun hno => absurd hno (by decide))
    exact WW.vret rfl rfl ⟨rfl, rfl⟩
  | false =>
    refine WW.if_ne (tgt := 12) rfl rfl (fun hno => absurd rfl hno) (fun _ => ?_)
    refine WW.make0 rfl rfl rfl mkX1_46 moX1_46 (ci := 14) rfl (by decide) (wd_le rfl) (wd_le rfl) (wd_le rfl) (wd_le rfl) (wd_le rfl) (wd_le rfl) (fun q hq => ?_)
    have ha : (wNew w 14 q (.inl [])).1 14 q = some (.inl []) := wNew_same _ _ _ _
    refine WW.athrow rfl ha rfl ?_
    exact WX.out (fun _ h => nomatch h) ⟨q, hq, rfl, (wFr.refl _ _).new hq, ha⟩
theorem sO_requireState (b : Bool) : Sp l G MX1_requireState 6 1 6 [.int (bI b)] w (rqQ b "java/lang/IllegalStateException" 15 w) := by
  refine Sp.of rfl (by decide +kernel) kX1_requireState (wd_le rfl) ?_
  refine WW.run (pc' := 1) (lv' := [(0, .int (bI b))]) (st' := [.int (bI b)]) 1 rfl ?_
  cases b with
  | true =>
    refine WW.if_ne (tgt := 12) rfl rfl (fun _ => ?_) (fun hno => absurd hno (by decide))
    exact WW.vret rfl rfl ⟨rfl, rfl⟩
  | false =>
    refine WW.if_ne (tgt := 12) rfl rfl (fun hno => absurd rfl hno) (fun _ => ?_)
    refine WW.make0 rfl rfl rfl mkX1_49 moX1_49 (ci := 15) rfl (by decide) (wd_le rfl) (wd_le rfl) (wd_le rfl) (wd_le rfl) (wd_le rfl) (wd_le rfl) (fun q hq => ?_)
    have ha : (wNew w 15 q (.inl [])).1 15 q = some (.inl []) := wNew_same _ _ _ _
    refine WW.athrow rfl ha rfl ?_
    exact WX.out (fun _ h => nomatch h) ⟨q, hq, rfl, (wFr.refl _ _).new hq, ha⟩
theorem sO_requireElement (b : Bool) : Sp l G MX1_requireElement 6 1 6 [.int (bI b)] w (rqQ b "java/util/NoSuchElementException" 16 w) := by
  refine Sp.of rfl (by decide +kernel) kX1_requireElement (wd_le rfl) ?_
  refine WW.run (pc' := 1) (lv' := [(0, .int (bI b))]) (st' := [.int (bI b)]) 1 rfl ?_
  cases b with
  | true =>
    refine WW.if_ne (tgt := 12) rfl rfl (fun _ => ?_) (fun hno => absurd hno (by decide))
    exact WW.vret rfl rfl ⟨rfl, rfl⟩
  | false =>
    refine WW.if_ne (tgt := 12) rfl rfl (fun hno => absurd rfl hno) (fun _ => ?_)
    refine WW.make0 rfl rfl rfl mkX1_52 moX1_52 (ci := 16) rfl (by decide) (wd_le rfl) (wd_le rfl) (wd_le rfl) (wd_le rfl) (wd_le rfl) (wd_le rfl) (fun q hq => ?_)
    have ha : (wNew w 16 q (.inl [])).1 16 q = some (.inl []) := wNew_same _ _ _ _
    refine WW.athrow rfl ha rfl ?_
    exact WX.out (fun _ h => nomatch h) ⟨q, hq, rfl, (wFr.refl _ _).new hq, ha⟩
theorem sT_init3 {q : Nat} (hq : w.1 5 q = some (.inl wdB5)) : Sp l G MJ8_init_3 1 0 0 [.ref q, .null, .null, .int (nI 0), .int (nI 0)] w (fun o w' => o = .inl none ∧ ∃ fs, w' = wPut w 5 q (.inl fs)) := by
  refine Sp.of rfl (by decide +kernel) kJ8_init_3 (wd_le rfl) ?_
  refine WW.run (pc' := 1) (lv' := [(0, .ref q), (1, .null), (2, .null), (3, .int (nI 0)), (4, .int (nI 0))]) (st' := [.ref q]) 1 rfl ?_
  refine WW.objInit rfl q337 q110 q111 (wd_le rfl) (wd_le rfl) ?_
  refine WW.run (pc' := 6) (lv' := [(0, .ref q), (1, .null), (2, .null), (3, .int (nI 0)), (4, .int (nI 0))]) (st' := [.ref q, .ref q]) 2 rfl ?_
  refine WW.put [.ref q, .null, .null, .null, .null, .int 0] rfl pfJ8_7_X6 hq (wd_le rfl) rfl rfl rfl ?_
  have h1 : (wPut w 5 q (.inl [.ref q, .null, .null, .null, .null, .int 0])).1 5 q = some (.inl [.ref q, .null, .null, .null, .null, .int 0]) := wPut_same _ _ _ _
  refine WW.run (pc' := 10) (lv' := [(0, .ref q), (1, .null), (2, .null), (3, .int (nI 0)), (4, .int (nI 0))]) (st' := [.ref q]) 1 rfl ?_
  refine WW.gets rfl (List.mem_of_getElem? (i := 4) rfl) q338 ?_
  refine WW.put [.ref q, wdU G 4, .null, .null, .null, .int 0] rfl pfJ8_17_X6 h1 (wd_le rfl) (wdU_na _ _ _) (wdU_fa _ _ _) rfl ?_
  have h2 : (wPut (wPut w 5 q (.inl [.ref q, .null, .null, .null, .null, .int 0])) 5 q (.inl [.ref q, wdU G 4, .null, .null, .null, .int 0])).1 5 q = some (.inl [.ref q, wdU G 4, .null, .null, .null, .int 0]) := wPut_same _ _ _ _
  refine WW.run (pc' := 17) (lv' := [(0, .ref q), (1, .null), (2, .null), (3, .int (nI 0)), (4, .int (nI 0))]) (st' := [.ref q]) 1 rfl ?_
  refine WW.gets rfl (List.mem_of_getElem? (i := 5) rfl) q340 ?_
  refine WW.put [.ref q, wdU G 4, wdU G 5, .null, .null, .int 0] rfl pfJ8_24_X6 h2 (wd_le rfl) (wdU_no _ _ _) (wdU_fo _ _ _) rfl ?_
  have h3 : (wPut (wPut (wPut w 5 q (.inl [.ref q, .null, .null, .null, .null, .int 0])) 5 q (.inl [.ref q, wdU G 4, .null, .null, .null, .int 0])) 5 q (.inl [.ref q, wdU G 4, wdU G 5, .null, .null, .int 0])).1 5 q = some (.inl [.ref q, wdU G 4, wdU G 5, .null, .null, .int 0]) := wPut_same _ _ _ _
  refine WW.run (pc' := 25) (lv' := [(0, .ref q), (1, .null), (2, .null), (3, .int (nI 0)), (4, .int (nI 0))]) (st' := [.int (nI 0)]) 1 rfl ?_
  refine WW.if_eq (tgt := 36) rfl rfl (fun _ => ?_) (fun hno => absurd rfl hno)
  refine WW.run (pc' := 38) (lv' := [(0, .ref q), (1, .null), (2, .null), (3, .int (nI 0)), (4, .int (nI 0))]) (st' := [.null, .ref q]) 2 rfl ?_
  refine WW.put [.ref q, .null, wdU G 5, .null, .null, .int 0] rfl pfJ8_17_X6 h3 (wd_le rfl) rfl rfl rfl ?_
  have h4 : (wPut (wPut (wPut (wPut w 5 q (.inl [.ref q, .null, .null, .null, .null, .int 0])) 5 q (.inl [.ref q, wdU G 4, .null, .null, .null, .int 0])) 5 q (.inl [.ref q, wdU G 4, wdU G 5, .null, .null, .int 0])) 5 q (.inl [.ref q, .null, wdU G 5, .null, .null, .int 0])).1 5 q = some (.inl [.ref q, .null, wdU G 5, .null, .null, .int 0]) := wPut_same _ _ _ _
  refine WW.run (pc' := 42) (lv' := [(0, .ref q), (1, .null), (2, .null), (3, .int (nI 0)), (4, .int (nI 0))]) (st' := [.ref q]) 1 rfl ?_
  refine WW.aloadN 1 rfl ⟨rfl, rfl⟩ ?_
  refine WW.put [.ref q, .null, wdU G 5, .null, .null, .int 0] rfl pfJ8_31_X6 h4 (wd_le rfl) rfl rfl rfl ?_
  have h5 : (wPut (wPut (wPut (wPut (wPut w 5 q (.inl [.ref q, .null, .null, .null, .null, .int 0])) 5 q (.inl [.ref q, wdU G 4, .null, .null, .null, .int 0])) 5 q (.inl [.ref q, wdU G 4, wdU G 5, .null, .null, .int 0])) 5 q (.inl [.ref q, .null, wdU G 5, .null, .null, .int 0])) 5 q (.inl [.ref q, .null, wdU G 5, .null, .null, .int 0])).1 5 q = some (.inl [.ref q, .null, wdU G 5, .null, .null, .int 0]) := wPut_same _ _ _ _
  refine WW.run (pc' := 47) (lv' := [(0, .ref q), (1, .null), (2, .null), (3, .int (nI 0)), (4, .int (nI 0))]) (st' := [.ref q]) 1 rfl ?_
  refine WW.aloadN 2 rfl ⟨rfl, rfl⟩ ?_
  refine WW.put [.null, .null, wdU G 5, .null, .null, .int 0] rfl pfJ8_7_X6 h5 (wd_le rfl) rfl rfl rfl ?_
  have h6 : (wPut (wPut (wPut (wPut (wPut (wPut w 5 q (.inl [.ref q, .null, .null, .null, .null, .int 0])) 5 q (.inl [.ref q, wdU G 4, .null, .null, .null, .int 0])) 5 q (.inl [.ref q, wdU G 4, wdU G 5, .null, .null, .int 0])) 5 q (.inl [.ref q, .null, wdU G 5, .null, .null, .int 0])) 5 q (.inl [.ref q, .null, wdU G 5, .null, .null, .int 0])) 5 q (.inl [.null, .null, wdU G 5, .null, .null, .int 0])).1 5 q = some (.inl [.null, .null, wdU G 5, .null, .null, .int 0]) := wPut_same _ _ _ _
  refine WW.run (pc' := 52) (lv' := [(0, .ref q), (1, .null), (2, .null), (3, .int (nI 0)), (4, .int (nI 0))]) (st' := [.int (nI 0)]) 1 rfl ?_
  refine WW.if_ne (tgt := 60) rfl rfl (fun hno => absurd rfl hno) (fun _ => ?_)
  refine WW.run (pc' := 57) (lv' := [(0, .ref q), (1, .null), (2, .null), (3, .int (nI 0)), (4, .int (nI 0))]) (st' := [.null, .ref q]) 2 rfl ?_
  refine WW.put [.null, .null, .null, .null, .null, .int 0] rfl pfJ8_24_X6 h6 (wd_le rfl) rfl rfl rfl ?_
  have h7 : (wPut (wPut (wPut (wPut (wPut (wPut (wPut w 5 q (.inl [.ref q, .null, .null, .null, .null, .int 0])) 5 q (.inl [.ref q, wdU G 4, .null, .null, .null, .int 0])) 5 q (.inl [.ref q, wdU G 4, wdU G 5, .null, .null, .int 0])) 5 q (.inl [.ref q, .null, wdU G 5, .null, .null, .int 0])) 5 q (.inl [.ref q, .null, wdU G 5, .null, .null, .int 0])) 5 q (.inl [.null, .null, wdU G 5, .null, .null, .int 0])) 5 q (.inl [.null, .null, .null, .null, .null, .int 0])).1 5 q = some (.inl [.null, .null, .null, .null, .null, .int 0]) := wPut_same _ _ _ _
  exact WW.vret rfl rfl ⟨rfl, _, by rw [wPut_put, wPut_put, wPut_put, wPut_put, wPut_put, wPut_put]⟩
theorem sE_init3 {q : Nat} (hq : w.1 5 q = some (.inl wdB5)) : Sp l G MJ9_init_3 2 0 0 [.ref q, .null, .null, .int (nI 0), .int (nI 0)] w (fun o w' => o = .inl none ∧ ∃ fs, w' = wPut w 5 q (.inl fs)) := by
  refine Sp.of rfl (by decide +kernel) kJ9_init_3 (wd_le rfl) ?_
  refine WW.run (pc' := 1) (lv' := [(0, .ref q), (1, .null), (2, .null), (3, .int (nI 0)), (4, .int (nI 0))]) (st' := [.ref q]) 1 rfl ?_
  refine WW.aloadN 1 rfl ⟨rfl, rfl⟩ ?_
  refine WW.aloadN 2 rfl ⟨rfl, rfl⟩ ?_
  refine WW.run (pc' := 6) (lv' := [(0, .ref q), (1, .null), (2, .null), (3, .int (nI 0)), (4, .int (nI 0))]) (st' := [.int (nI 0), .int (nI 0), .null, .null, .ref q]) 2 rfl ?_
  refine WW.callI [.null, .null, .int (nI 0), .int (nI 0)] q [] rfl mJ9_16 (sT_init3 hq) rfl rfl (wd_le rfl) (wd_le rfl) (wd_le rfl) (wd_le rfl) (fun o w' hq => ?_)
  obtain ⟨rfl, hw⟩ := hq
  show WW _ _ _ 9 _ [] _
  exact WW.vret rfl rfl ⟨rfl, hw⟩
theorem sP_init {q : Nat} (hq : w.1 5 q = some (.inl wdB5)) : Sp l G MX6_init 3 0 0 [.ref q] w (fun o w' => o = .inl none ∧ ∃ fs, w' = wPut w 5 q (.inl fs)) := by
  refine Sp.of rfl (by decide +kernel) kX6_init (wd_le rfl) ?_
  refine WW.run (pc' := 5) (lv' := [(0, .ref q)]) (st' := [.int (nI 0), .int (nI 0), .null, .null, .ref q]) 5 rfl ?_
  refine WW.callI [.null, .null, .int (nI 0), .int (nI 0)] q [] rfl mX6_1 (sE_init3 hq) rfl rfl (wd_le rfl) (wd_le rfl) (wd_le rfl) (wd_le rfl) (fun o w' hq => ?_)
  obtain ⟨rfl, hw⟩ := hq
  show WW _ _ _ 8 _ [] _
  exact WW.vret rfl rfl ⟨rfl, hw⟩
/-! ships -/
theorem sH_init {q : Nat} (hq : w.1 3 q = some (.inl wdB3)) : Sp l G MX4_init 1 0 0 [.ref q] w (fun o w' => o = .inl none ∧ w' = wPut w 3 q (.inl (shF (nI 100, nI 0, nI 0)))) := by
  refine Sp.of rfl (by decide +kernel) kX4_init (wd_le rfl) ?_
  refine WW.run (pc' := 1) (lv' := [(0, .ref q)]) (st' := [.ref q]) 1 rfl ?_
  refine WW.objInit rfl q421 q110 q111 (wd_le rfl) (wd_le rfl) ?_
  refine WW.run (pc' := 7) (lv' := [(0, .ref q)]) (st' := [.int (nI 100), .ref q]) 2 rfl ?_
  refine WW.put [.int (nI 100), .int 0, .int 0] rfl pfX4_9 hq (wd_le rfl) rfl rfl rfl ?_
  have ha : (wPut w 3 q (.inl [.int (nI 100), .int 0, .int 0])).1 3 q = some (.inl [.int (nI 100), .int 0, .int 0]) := wPut_same _ _ _ _
  exact WW.vret rfl rfl ⟨rfl, rfl⟩
theorem sH_copy {x : aSh} (h : w.1 3 a = some (.inl (shF x))) : Sp l G MX4_copy 2 1 3 [.ref a] w (fun o w' => ∃ q, w.2 ≤ q ∧ o = .inl (some (.ref q)) ∧ w' = wNew w 3 q (.inl (shF x))) := by
  refine Sp.of rfl (by decide +kernel) kX4_copy (wd_le rfl) ?_
  refine WW.ok fun ok => ?_
  have hlt := (ok.1 _ _ _ h).2
  refine WW.new (fs := [.int 0, .int 0, .int 0]) rfl kX4_10 wdBl3 (wd_le rfl) (wd_le rfl) (fun q hq => ?_)
  have ha : (wNew w 3 q (.inl [.int 0, .int 0, .int 0])).1 3 q = some (.inl [.int 0, .int 0, .int 0]) := wNew_same _ _ _ _
  refine WW.run (pc' := 4) (lv' := [(0, .ref a)]) (st' := [.ref q, .ref q]) 1 rfl ?_
  refine WW.callI [] q [.ref q] rfl mX4_15 (sH_init ha) rfl rfl (wd_le rfl) (wd_le rfl) (wd_le rfl) (wd_le rfl) (fun o w' hq => ?_)
  obtain ⟨rfl, hw9⟩ := hq
  show WW _ _ _ 7 _ [.ref q] _
  rw [wNew_put] at hw9
  have hqa : a ≠ q := by
    intro e
    have : w.2 ≤ q := ‹_›
    omega
  have h1 : w'.1 3 q = some (.inl (shF (nI 100, nI 0, nI 0))) := by rw [hw9]; exact wNew_same _ _ _ _
  have h2 : w'.1 3 a = some (.inl (shF x)) := by rw [hw9, wNew_ne hqa]; exact h
  refine WW.run (pc' := 10) (lv' := [(1, .ref q), (0, .ref a)]) (st' := [.ref a, .ref q]) 3 rfl ?_
  refine WW.get rfl fX4_9 h2 (show _ = some (.int x.1) from rfl) ?_
  refine WW.put [.int x.1, .int (nI 0), .int (nI 0)] rfl pfX4_9 h1 (wd_le rfl) rfl rfl rfl ?_
  have c1 : (wPut w' 3 q (.inl [.int x.1, .int (nI 0), .int (nI 0)])).1 3 q = some (.inl [.int x.1, .int (nI 0), .int (nI 0)]) := wPut_same _ _ _ _
  replace h2 : (wPut w' 3 q (.inl [.int x.1, .int (nI 0), .int (nI 0)])).1 3 a = some (.inl (shF x)) := by rw [wPut_ne hqa]; exact h2
  refine WW.run (pc' := 18) (lv' := [(1, .ref q), (0, .ref a)]) (st' := [.ref a, .ref q]) 2 rfl ?_
  refine WW.get rfl fX4_16 h2 (show _ = some (.int x.2.1) from rfl) ?_
  refine WW.put [.int x.1, .int x.2.1, .int (nI 0)] rfl pfX4_16 c1 (wd_le rfl) rfl rfl rfl ?_
  have c2 : (wPut (wPut w' 3 q (.inl [.int x.1, .int (nI 0), .int (nI 0)])) 3 q (.inl [.int x.1, .int x.2.1, .int (nI 0)])).1 3 q = some (.inl [.int x.1, .int x.2.1, .int (nI 0)]) := wPut_same _ _ _ _
  replace h2 : (wPut (wPut w' 3 q (.inl [.int x.1, .int (nI 0), .int (nI 0)])) 3 q (.inl [.int x.1, .int x.2.1, .int (nI 0)])).1 3 a = some (.inl (shF x)) := by rw [wPut_ne hqa]; exact h2
  refine WW.run (pc' := 26) (lv' := [(1, .ref q), (0, .ref a)]) (st' := [.ref a, .ref q]) 2 rfl ?_
  refine WW.get rfl fX4_19 h2 (show _ = some (.int x.2.2) from rfl) ?_
  refine WW.put [.int x.1, .int x.2.1, .int x.2.2] rfl pfX4_19 c2 (wd_le rfl) rfl rfl rfl ?_
  have c3 : (wPut (wPut (wPut w' 3 q (.inl [.int x.1, .int (nI 0), .int (nI 0)])) 3 q (.inl [.int x.1, .int x.2.1, .int (nI 0)])) 3 q (.inl [.int x.1, .int x.2.1, .int x.2.2])).1 3 q = some (.inl [.int x.1, .int x.2.1, .int x.2.2]) := wPut_same _ _ _ _
  refine WW.run (pc' := 33) (lv' := [(1, .ref q), (0, .ref a)]) (st' := [.ref q]) 1 rfl ?_
  exact WW.aret rfl rfl (Or.inl ⟨_, rfl⟩) (Or.inr ⟨_, rfl⟩) ⟨q, ‹_›, rfl, by rw [wPut_put, wPut_put, hw9, wNew_put]⟩
theorem sH_pay {x : aSh} (h : w.1 3 a = some (.inl (shF x))) (c : Int32) : Sp l G MX4_pay 4 1 6 [.ref a, .int c] w (fun o w' => if x.1 < c then ∃ q, o = .inr ("LampLeaseOffice$PoorException", q) ∧ wFr (fun _ => False) w w' else o = .inl (some (.int c)) ∧ w' = wPut w 3 a (.inl (shF (x.1 - c, x.2.1, x.2.2)))) := by
  refine Sp.of rfl (by decide +kernel) kX4_pay (wd_le rfl) ?_
  refine WW.run (pc' := 1) (lv' := [(0, .ref a), (1, .int c)]) (st' := [.ref a]) 1 rfl ?_
  refine WW.get rfl fX4_9 h (show _ = some (.int x.1) from rfl) ?_
  refine WW.run (pc' := 5) (lv' := [(0, .ref a), (1, .int c)]) (st' := [.int c, .int x.1]) 1 rfl ?_
  by_cases hlt : x.1 < c
  · skip
    refine WW.icmp_ge (tgt := 16) rfl rfl (fun hno => absurd hno (Int32.not_le.mpr hlt)) (fun _ => ?_)
    refine WW.new (fs := [.null, .null, .null, .null, .null, .int 0]) rfl kX4_22 wdBl5 (wd_le rfl) (wd_le rfl) (fun q hq => ?_)
    have ha : (wNew w 5 q (.inl [.null, .null, .null, .null, .null, .int 0])).1 5 q = some (.inl [.null, .null, .null, .null, .null, .int 0]) := wNew_same _ _ _ _
    refine WW.run (pc' := 12) (lv' := [(0, .ref a), (1, .int c)]) (st' := [.ref q, .ref q]) 1 rfl ?_
    refine WW.callI [] q [.ref q] rfl mX4_24 (sP_init ha) rfl rfl (wd_le rfl) (wd_le rfl) (wd_le rfl) (wd_le rfl) (fun o w' hq => ?_)
    obtain ⟨rfl, fs, hw9⟩ := hq
    show WW _ _ _ 15 _ [.ref q] _
    have h1 : w'.1 5 q = some (.inl fs) := by rw [hw9]; exact wPut_same _ _ _ _
    refine WW.athrow rfl h1 rfl ?_
    refine WX.out (fun _ h => nomatch h) ?_
    show if _ then _ else _
    rw [if_pos hlt]
    exact ⟨q, rfl, by rw [hw9]; exact ((wFr.refl _ _).new ‹_›).put (Or.inr ‹_›)⟩
  · skip
    refine WW.icmp_ge (tgt := 16) rfl rfl (fun _ => ?_) (fun hno => absurd (Int32.not_lt.mp hlt) hno)
    refine WW.run (pc' := 18) (lv' := [(0, .ref a), (1, .int c)]) (st' := [.ref a, .ref a]) 2 rfl ?_
    refine WW.get rfl fX4_9 h (show _ = some (.int x.1) from rfl) ?_
    refine WW.run (pc' := 23) (lv' := [(0, .ref a), (1, .int c)]) (st' := [.int (x.1 - c), .ref a]) 2 rfl ?_
    refine WW.put [.int (x.1 - c), .int x.2.1, .int x.2.2] rfl pfX4_9 h (wd_le rfl) rfl rfl rfl ?_
    have h1 : (wPut w 3 a (.inl [.int (x.1 - c), .int x.2.1, .int x.2.2])).1 3 a = some (.inl [.int (x.1 - c), .int x.2.1, .int x.2.2]) := wPut_same _ _ _ _
    refine WW.run (pc' := 27) (lv' := [(0, .ref a), (1, .int c)]) (st' := [.int c]) 1 rfl ?_
    exact WW.iret rfl rfl rfl (by show if _ then _ else _; rw [if_neg hlt]; exact ⟨rfl, rfl⟩)
theorem iMin_eq (x y : Int32) : (if y < x then y else x) = iMin x y := by
  unfold iMin
  by_cases e1 : y < x
  · rw [if_pos e1, if_neg (Int32.not_le.mpr e1)]
  · rw [if_neg e1, if_pos (Int32.not_lt.mp e1)]
theorem sH_fine {x : aSh} (h : w.1 3 a = some (.inl (shF x))) (c : Int32) : Sp l G MX4_fine 1 0 0 [.ref a, .int c] w (fun o w' => o = .inl (some (.int (iMin x.1 c))) ∧ w' = wPut w 3 a (.inl (shF (x.1 - iMin x.1 c, x.2.1 + iMin x.1 c, x.2.2 + nI 1)))) := by
  refine Sp.of rfl (by decide +kernel) kX4_fine (wd_le rfl) ?_
  refine WW.run (pc' := 1) (lv' := [(0, .ref a), (1, .int c)]) (st' := [.ref a]) 1 rfl ?_
  refine WW.get rfl fX4_9 h (show _ = some (.int x.1) from rfl) ?_
  refine WW.run (pc' := 5) (lv' := [(0, .ref a), (1, .int c)]) (st' := [.int c, .int x.1]) 1 rfl ?_
  refine WW.mmin rfl q1217 q498 q82 q499 (wd_le rfl) (wd_le rfl) ?_
  generalize hy : (if c < x.1 then c else x.1) = y
  have hy' : iMin x.1 c = y := (iMin_eq _ _).symm.trans hy
  rw [hy']
  refine WW.run (pc' := 11) (lv' := [(2, .int y), (0, .ref a), (1, .int c)]) (st' := [.ref a, .ref a]) 3 rfl ?_
  refine WW.get rfl fX4_9 h (show _ = some (.int x.1) from rfl) ?_
  refine WW.run (pc' := 16) (lv' := [(2, .int y), (0, .ref a), (1, .int c)]) (st' := [.int (x.1 - y), .ref a]) 2 rfl ?_
  refine WW.put [.int (x.1 - y), .int x.2.1, .int x.2.2] rfl pfX4_9 h (wd_le rfl) rfl rfl rfl ?_
  have h1 : (wPut w 3 a (.inl [.int (x.1 - y), .int x.2.1, .int x.2.2])).1 3 a = some (.inl [.int (x.1 - y), .int x.2.1, .int x.2.2]) := wPut_same _ _ _ _
  refine WW.run (pc' := 21) (lv' := [(2, .int y), (0, .ref a), (1, .int c)]) (st' := [.ref a, .ref a]) 2 rfl ?_
  refine WW.get rfl fX4_16 h1 (show _ = some (.int x.2.1) from rfl) ?_
  refine WW.run (pc' := 26) (lv' := [(2, .int y), (0, .ref a), (1, .int c)]) (st' := [.int (x.2.1 + y), .ref a]) 2 rfl ?_
  refine WW.put [.int (x.1 - y), .int (x.2.1 + y), .int x.2.2] rfl pfX4_16 h1 (wd_le rfl) rfl rfl rfl ?_
  have h2 : (wPut (wPut w 3 a (.inl [.int (x.1 - y), .int x.2.1, .int x.2.2])) 3 a (.inl [.int (x.1 - y), .int (x.2.1 + y), .int x.2.2])).1 3 a = some (.inl [.int (x.1 - y), .int (x.2.1 + y), .int x.2.2]) := wPut_same _ _ _ _
  refine WW.run (pc' := 31) (lv' := [(2, .int y), (0, .ref a), (1, .int c)]) (st' := [.ref a, .ref a]) 2 rfl ?_
  refine WW.get rfl fX4_19 h2 (show _ = some (.int x.2.2) from rfl) ?_
  refine WW.run (pc' := 36) (lv' := [(2, .int y), (0, .ref a), (1, .int c)]) (st' := [.int (x.2.2 + (nI 1)), .ref a]) 2 rfl ?_
  refine WW.put [.int (x.1 - y), .int (x.2.1 + y), .int (x.2.2 + (nI 1))] rfl pfX4_19 h2 (wd_le rfl) rfl rfl rfl ?_
  have h3 : (wPut (wPut (wPut w 3 a (.inl [.int (x.1 - y), .int x.2.1, .int x.2.2])) 3 a (.inl [.int (x.1 - y), .int (x.2.1 + y), .int x.2.2])) 3 a (.inl [.int (x.1 - y), .int (x.2.1 + y), .int (x.2.2 + (nI 1))])).1 3 a = some (.inl [.int (x.1 - y), .int (x.2.1 + y), .int (x.2.2 + (nI 1))]) := wPut_same _ _ _ _
  refine WW.run (pc' := 40) (lv' := [(2, .int y), (0, .ref a), (1, .int c)]) (st' := [.int y]) 1 rfl ?_
  exact WW.iret rfl rfl rfl ⟨rfl, by rw [wPut_put, wPut_put]⟩
/-- a ship comes ahead of another -/
def aAhead (x y : aSh) (b : Bool) : Bool := bif decide (x.2.1 = y.2.1) then (bif decide (x.1 = y.1) then b else decide (x.1 < y.1)) else decide (y.2.1 < x.2.1)
theorem sH_ahead {b : Nat} {x y : aSh} (h : w.1 3 a = some (.inl (shF x))) (h' : w.1 3 b = some (.inl (shF y))) (c : Bool) : SpR l G MX4_isAheadOf 0 [.ref a, .ref b, .int (bI c)] w (.int (bI (aAhead x y c))) := by
  refine Sp.of rfl (by decide +kernel) kX4_isAheadOf (wd_le rfl) ?_
  refine WW.run (pc' := 1) (lv' := [(0, .ref a), (1, .ref b), (2, .int (bI c))]) (st' := [.ref a]) 1 rfl ?_
  refine WW.get rfl fX4_16 h (show _ = some (.int x.2.1) from rfl) ?_
  refine WW.run (pc' := 5) (lv' := [(0, .ref a), (1, .ref b), (2, .int (bI c))]) (st' := [.ref b, .int x.2.1]) 1 rfl ?_
  refine WW.get rfl fX4_16 h' (show _ = some (.int y.2.1) from rfl) ?_
  unfold aAhead
  refine WW.icmp_eq (tgt := 28) rfl rfl (fun h1 => ?_) (fun h1 => ?_)
  · skip
    rw [decide_eq_true h1]
    refine WW.run (pc' := 29) (lv' := [(0, .ref a), (1, .ref b), (2, .int (bI c))]) (st' := [.ref a]) 1 rfl ?_
    refine WW.get rfl fX4_9 h (show _ = some (.int x.1) from rfl) ?_
    refine WW.run (pc' := 33) (lv' := [(0, .ref a), (1, .ref b), (2, .int (bI c))]) (st' := [.ref b, .int x.1]) 1 rfl ?_
    refine WW.get rfl fX4_9 h' (show _ = some (.int y.1) from rfl) ?_
    refine WW.icmp_eq (tgt := 58) rfl rfl (fun h2 => ?_) (fun h2 => ?_)
    · skip
      rw [decide_eq_true h2]
      refine WW.run (pc' := 59) (lv' := [(0, .ref a), (1, .ref b), (2, .int (bI c))]) (st' := [.int (bI c)]) 1 rfl ?_
      exact WW.iret rfl rfl (by cases c <;> rfl) ⟨rfl, rfl⟩
    rw [decide_eq_false h2]
    refine WW.run (pc' := 40) (lv' := [(0, .ref a), (1, .ref b), (2, .int (bI c))]) (st' := [.ref a]) 1 rfl ?_
    refine WW.get rfl fX4_9 h (show _ = some (.int x.1) from rfl) ?_
    refine WW.run (pc' := 44) (lv' := [(0, .ref a), (1, .ref b), (2, .int (bI c))]) (st' := [.ref b, .int x.1]) 1 rfl ?_
    refine WW.get rfl fX4_9 h' (show _ = some (.int y.1) from rfl) ?_
    refine WW.icmp_ge (tgt := 54) rfl rfl (fun h3 => ?_) (fun h3 => ?_)
    · skip
      refine WW.run (pc' := 59) (lv' := [(0, .ref a), (1, .ref b), (2, .int (bI c))]) (st' := [.int (nI 0)]) 2 rfl ?_
      exact WW.iret rfl rfl rfl ⟨by rw [decide_eq_false (Int32.not_lt.mpr h3)]; rfl, rfl⟩
    refine WW.run (pc' := 59) (lv' := [(0, .ref a), (1, .ref b), (2, .int (bI c))]) (st' := [.int (nI 1)]) 2 rfl ?_
    exact WW.iret rfl rfl rfl ⟨by rw [decide_eq_true (Int32.not_le.mp h3)]; rfl, rfl⟩
  rw [decide_eq_false h1]
  refine WW.run (pc' := 12) (lv' := [(0, .ref a), (1, .ref b), (2, .int (bI c))]) (st' := [.ref a]) 1 rfl ?_
  refine WW.get rfl fX4_16 h (show _ = some (.int x.2.1) from rfl) ?_
  refine WW.run (pc' := 16) (lv' := [(0, .ref a), (1, .ref b), (2, .int (bI c))]) (st' := [.ref b, .int x.2.1]) 1 rfl ?_
  refine WW.get rfl fX4_16 h' (show _ = some (.int y.2.1) from rfl) ?_
  refine WW.icmp_le (tgt := 26) rfl rfl (fun h3 => ?_) (fun h3 => ?_)
  · skip
    refine WW.run (pc' := 27) (lv' := [(0, .ref a), (1, .ref b), (2, .int (bI c))]) (st' := [.int (nI 0)]) 1 rfl ?_
    exact WW.iret rfl rfl rfl ⟨by rw [decide_eq_false (Int32.not_lt.mpr h3)]; rfl, rfl⟩
  refine WW.run (pc' := 27) (lv' := [(0, .ref a), (1, .ref b), (2, .int (bI c))]) (st' := [.int (nI 1)]) 2 rfl ?_
  exact WW.iret rfl rfl rfl ⟨by rw [decide_eq_true (Int32.not_le.mp h3)]; rfl, rfl⟩
/-! lamps -/
theorem le_none {n : Nat} (h : n < 2 ^ 31) : (nI n - nI 1 = -1) = (Nat.blt 0 n = false) := by
  cases n with
  | zero => simp [show nI 0 - nI 1 = -1 from by decide]; rfl
  | succ n =>
    rw [(wn_sub rfl rfl (by omega) : nI (n + 1) - nI 1 = nI (n + 1 - 1))]
    have h1 : nI (n + 1 - 1) ≠ -1 := by
      intro e
      have := nI_pos (n := n + 1 - 1) (by omega)
      rw [e] at this
      exact this (by decide)
    have h2 : Nat.blt 0 (n + 1) = true := Nat.ble_eq_true_of_le (by omega)
    exact propext ⟨fun e => absurd e h1, fun e => by rw [h2] at e; cases e⟩
theorem le_ship {n j : Nat} (h : n < 2 ^ 31) (hj : j < 2 ^ 30) : (nI n - nI 1 = nI j) = ((n == j + 1) = true) := by
  cases n with
  | zero =>
    have h1 : nI 0 - nI 1 ≠ nI j := by
      intro e
      have := nI_pos (n := j) (by omega)
      rw [← e] at this
      exact this (by decide)
    simp [h1]
  | succ n =>
    rw [(wn_sub rfl rfl (by omega) : nI (n + 1) - nI 1 = nI (n + 1 - 1))]
    have := nI_eq (a := n + 1 - 1) (b := j) (by omega) (by omega)
    exact propext (this.trans ⟨fun e => by rw [show n + 1 = j + 1 by omega]; simp, fun e => by have := eq_of_beq e; omega⟩)
theorem sP_isLeased {x : aLa} (h : w.1 4 a = some (.inl (laF x))) (hl : x.le < 2 ^ 31) : SpR l G MX5_isLeased 0 [.ref a] w (.int (bI (Nat.blt 0 x.le))) := by
  refine Sp.of rfl (by decide +kernel) kX5_isLeased (wd_le rfl) ?_
  refine WW.run (pc' := 1) (lv' := [(0, .ref a)]) (st' := [.ref a]) 1 rfl ?_
  refine WW.get rfl fX5_9 h (show _ = some (.int (nI x.2.1 - nI 1)) from rfl) ?_
  refine WW.run (pc' := 5) (lv' := [(0, .ref a)]) (st' := [.int (-1), .int (nI x.2.1 - nI 1)]) 1 rfl ?_
  cases hb : Nat.blt 0 x.le with
  | false =>
    refine WW.icmp_eq (tgt := 12) rfl rfl (fun _ => ?_) (fun hno => absurd (by rw [le_none hl]; exact hb) hno)
    refine WW.run (pc' := 13) (lv' := [(0, .ref a)]) (st' := [.int (nI 0)]) 1 rfl ?_
    exact WW.iret rfl rfl rfl ⟨rfl, rfl⟩
  | true =>
    refine WW.icmp_eq (tgt := 12) rfl rfl (fun hno => absurd hno (by rw [le_none hl, hb]; exact fun h => nomatch h)) (fun _ => ?_)
    refine WW.run (pc' := 13) (lv' := [(0, .ref a)]) (st' := [.int (nI 1)]) 2 rfl ?_
    exact WW.iret rfl rfl rfl ⟨rfl, rfl⟩
theorem sP_isLeasedTo {x : aLa} (h : w.1 4 a = some (.inl (laF x))) (hl : x.le < 2 ^ 31) {j : Nat} (hj : j < 2 ^ 30) : SpR l G MX5_isLeasedTo 0 [.ref a, .int (nI j)] w (.int (bI (x.le == j + 1))) := by
  refine Sp.of rfl (by decide +kernel) kX5_isLeasedTo (wd_le rfl) ?_
  refine WW.run (pc' := 1) (lv' := [(0, .ref a), (1, .int (nI j))]) (st' := [.ref a]) 1 rfl ?_
  refine WW.get rfl fX5_9 h (show _ = some (.int (nI x.2.1 - nI 1)) from rfl) ?_
  refine WW.run (pc' := 5) (lv' := [(0, .ref a), (1, .int (nI j))]) (st' := [.int (nI j), .int (nI x.2.1 - nI 1)]) 1 rfl ?_
  cases hb : (x.le == j + 1) with
  | false =>
    refine WW.icmp_ne (tgt := 12) rfl rfl (fun _ => ?_) (fun hno => absurd hno (by rw [le_ship hl hj, hb]; exact fun h => nomatch h))
    refine WW.run (pc' := 13) (lv' := [(0, .ref a), (1, .int (nI j))]) (st' := [.int (nI 0)]) 1 rfl ?_
    exact WW.iret rfl rfl rfl ⟨rfl, rfl⟩
  | true =>
    refine WW.icmp_ne (tgt := 12) rfl rfl (fun hno => absurd (by rw [le_ship hl hj]; exact hb) hno) (fun _ => ?_)
    refine WW.run (pc' := 13) (lv' := [(0, .ref a), (1, .int (nI j))]) (st' := [.int (nI 1)]) 2 rfl ?_
    exact WW.iret rfl rfl rfl ⟨rfl, rfl⟩
theorem sP_cost {x : aLa} (h : w.1 4 a = some (.inl (laF x))) (c : Int32) : SpR l G MX5_cost 0 [.ref a, .int c] w (.int (x.lv * c)) := by
  refine Sp.of rfl (by decide +kernel) kX5_cost (wd_le rfl) ?_
  refine WW.run (pc' := 1) (lv' := [(0, .ref a), (1, .int c)]) (st' := [.ref a]) 1 rfl ?_
  refine WW.get rfl fX5_15 h (show _ = some (.int x.1) from rfl) ?_
  refine WW.run (pc' := 6) (lv' := [(0, .ref a), (1, .int c)]) (st' := [.int (x.1 * c)]) 2 rfl ?_
  exact WW.iret rfl rfl rfl ⟨rfl, rfl⟩
theorem fit_b (b : Bool) : fits .boolean (.int (bI b)) = true := by cases b <;> rfl
theorem nar_b (b : Bool) : narrow .boolean (.int (bI b)) = .int (bI b) := by cases b <;> rfl
theorem sP_burn {x : aLa} (h : w.1 4 a = some (.inl (laF x))) (hl : x.le < 2 ^ 31) (oil : Int32) : Sp l G MX5_burn 1 0 0 [.ref a, .int oil] w (fun o w' => o = .inl (some (.int (bif Nat.blt 0 x.le && decide (x.lv ≤ oil) then x.lv else nI 0))) ∧ w' = wPut w 4 a (.inl (laF (x.lv, x.le, x.en, x.br + bI (Nat.blt 0 x.le && decide (x.lv ≤ oil)), Nat.blt 0 x.le && decide (x.lv ≤ oil))))) := by
  refine Sp.of rfl (by decide +kernel) kX5_burn (wd_le rfl) ?_
  refine WW.run (pc' := 2) (lv' := [(0, .ref a), (1, .int oil)]) (st' := [.ref a, .ref a]) 2 rfl ?_
  refine WW.callV [] a [.ref a] rfl mX5_31 (sP_isLeased h hl) (wdRecv.obj h rfl) rfl rfl (wd_le rfl) (wd_le rfl) (wd_le rfl) (wd_le rfl) (fun o w' hq => ?_)
  obtain ⟨rfl, hw9⟩ := hq
  show WW _ _ _ 5 _ [.int (bI (Nat.blt 0 x.le)), .ref a] _
  rw [hw9]
  clear hw9 w'
  generalize hg : (Nat.blt 0 x.le && decide (x.lv ≤ oil)) = g
  refine WW.join (pc' := 21) (lv' := [(0, .ref a), (1, .int oil)]) (st' := [.int (bI g), .ref a]) ?_ (fun H => ?_)
  rotate_left
  · skip
    cases h0 : Nat.blt 0 x.le with
    | false =>
      refine WW.if_eq (tgt := 20) rfl rfl (fun _ => ?_) (fun hno => absurd rfl hno)
      refine WW.run (pc' := 21) (lv' := [(0, .ref a), (1, .int oil)]) (st' := [.int (nI 0), .ref a]) 1 rfl ?_
      rw [h0] at hg
      replace hg : false = g := hg
      subst hg
      exact H
    | true =>
      refine WW.if_eq (tgt := 20) rfl rfl (fun hno => absurd hno (by decide)) (fun _ => ?_)
      refine WW.run (pc' := 9) (lv' := [(0, .ref a), (1, .int oil)]) (st' := [.ref a, .ref a]) 1 rfl ?_
      refine WW.get rfl fX5_15 h (show _ = some (.int x.1) from rfl) ?_
      refine WW.run (pc' := 13) (lv' := [(0, .ref a), (1, .int oil)]) (st' := [.int oil, .int x.1, .ref a]) 1 rfl ?_
      rw [h0] at hg
      by_cases h1 : x.lv ≤ oil
      · skip
        refine WW.icmp_gt (tgt := 20) rfl rfl (fun hno => absurd hno (Int32.not_lt.mpr h1)) (fun _ => ?_)
        refine WW.run (pc' := 21) (lv' := [(0, .ref a), (1, .int oil)]) (st' := [.int (nI 1), .ref a]) 2 rfl ?_
        rw [decide_eq_true h1] at hg
        replace hg : true = g := hg
        subst hg
        exact H
      · skip
        refine WW.icmp_gt (tgt := 20) rfl rfl (fun _ => ?_) (fun hno => absurd (Int32.not_le.mp h1) hno)
        refine WW.run (pc' := 21) (lv' := [(0, .ref a), (1, .int oil)]) (st' := [.int (nI 0), .ref a]) 1 rfl ?_
        rw [decide_eq_false h1] at hg
        replace hg : false = g := hg
        subst hg
        exact H
  refine WW.put [.int x.1, .int (nI x.2.1 - nI 1), .int x.2.2.1, .int x.2.2.2.1, .int (bI g)] rfl pfX5_27 h (wd_le rfl) (nar_b _) (fit_b _) rfl ?_
  have h1 : (wPut w 4 a (.inl [.int x.1, .int (nI x.2.1 - nI 1), .int x.2.2.1, .int x.2.2.2.1, .int (bI g)])).1 4 a = some (.inl [.int x.1, .int (nI x.2.1 - nI 1), .int x.2.2.1, .int x.2.2.2.1, .int (bI g)]) := wPut_same _ _ _ _
  refine WW.run (pc' := 26) (lv' := [(0, .ref a), (1, .int oil)]) (st' := [.ref a, .ref a]) 2 rfl ?_
  refine WW.get rfl fX5_24 h1 (show _ = some (.int x.2.2.2.1) from rfl) ?_
  refine WW.run (pc' := 30) (lv' := [(0, .ref a), (1, .int oil)]) (st' := [.ref a, .int x.2.2.2.1, .ref a]) 1 rfl ?_
  refine WW.get rfl fX5_27 h1 (show _ = some (.int (bI g)) from rfl) ?_
  refine WW.join (pc' := 41) (lv' := [(0, .ref a), (1, .int oil)]) (st' := [.int (bI g), .int x.2.2.2.1, .ref a]) ?_ ?_
  rotate_left
  · cases hb : g with
    | false =>
      intro H
      refine WW.if_eq (tgt := 40) rfl rfl (fun _ => ?_) (fun hno => absurd rfl hno)
      refine WW.run (pc' := 41) (lv' := [(0, .ref a), (1, .int oil)]) (st' := [.int (nI 0), .int x.2.2.2.1, .ref a]) 1 rfl ?_
      exact H
    | true =>
      intro H
      refine WW.if_eq (tgt := 40) rfl rfl (fun hno => absurd hno (by decide)) (fun _ => ?_)
      refine WW.run (pc' := 41) (lv' := [(0, .ref a), (1, .int oil)]) (st' := [.int (nI 1), .int x.2.2.2.1, .ref a]) 2 rfl ?_
      exact H
  refine WW.run (pc' := 42) (lv' := [(0, .ref a), (1, .int oil)]) (st' := [.int (x.2.2.2.1 + (bI g)), .ref a]) 1 rfl ?_
  refine WW.put [.int x.1, .int (nI x.2.1 - nI 1), .int x.2.2.1, .int (x.2.2.2.1 + (bI g)), .int (bI g)] rfl pfX5_24 h1 (wd_le rfl) rfl rfl rfl ?_
  have h2 : (wPut (wPut w 4 a (.inl [.int x.1, .int (nI x.2.1 - nI 1), .int x.2.2.1, .int x.2.2.2.1, .int (bI g)])) 4 a (.inl [.int x.1, .int (nI x.2.1 - nI 1), .int x.2.2.1, .int (x.2.2.2.1 + (bI g)), .int (bI g)])).1 4 a = some (.inl [.int x.1, .int (nI x.2.1 - nI 1), .int x.2.2.1, .int (x.2.2.2.1 + (bI g)), .int (bI g)]) := wPut_same _ _ _ _
  refine WW.run (pc' := 46) (lv' := [(0, .ref a), (1, .int oil)]) (st' := [.ref a]) 1 rfl ?_
  refine WW.get rfl fX5_27 h2 (show _ = some (.int (bI g)) from rfl) ?_
  obtain ⟨wz, hwz⟩ : ∃ wz, wz = (wPut (wPut w 4 a (.inl [.int x.1, .int (nI x.2.1 - nI 1), .int x.2.2.1, .int x.2.2.2.1, .int (bI g)])) 4 a (.inl [.int x.1, .int (nI x.2.1 - nI 1), .int x.2.2.1, .int (x.2.2.2.1 + (bI g)), .int (bI g)])) := ⟨_, rfl⟩
  rw [← hwz] at h2
  rw [← hwz]
  refine WW.join (pc' := 60) (lv' := [(0, .ref a), (1, .int oil)]) (st' := [.int (bif g then x.1 else nI 0)]) ?_ ?_
  rotate_left
  · cases hb : g with
    | false =>
      intro H
      refine WW.if_eq (tgt := 59) rfl rfl (fun _ => ?_) (fun hno => absurd rfl hno)
      refine WW.run (pc' := 60) (lv' := [(0, .ref a), (1, .int oil)]) (st' := [.int (nI 0)]) 1 rfl ?_
      exact H
    | true =>
      intro H
      refine WW.if_eq (tgt := 59) rfl rfl (fun hno => absurd hno (by decide)) (fun _ => ?_)
      refine WW.run (pc' := 53) (lv' := [(0, .ref a), (1, .int oil)]) (st' := [.ref a]) 1 rfl ?_
      refine WW.get rfl fX5_15 h2 (show _ = some (.int x.1) from rfl) ?_
      refine WW.run (pc' := 60) (lv' := [(0, .ref a), (1, .int oil)]) (st' := [.int x.1]) 1 rfl ?_
      exact H
  exact WW.iret rfl rfl rfl ⟨rfl, by rw [hwz, wPut_put]⟩
theorem sLa_init {q : Nat} (hq : w.1 4 q = some (.inl wdB4)) (x : Int32) : Sp l G MX5_init 1 0 0 [.ref q, .int x] w (fun o w' => o = .inl none ∧ w' = wPut w 4 q (.inl (laF (x, 0, nI 0, nI 0, false)))) := by
  refine Sp.of rfl (by decide +kernel) kX5_init (wd_le rfl) ?_
  refine WW.run (pc' := 1) (lv' := [(0, .ref q), (1, .int x)]) (st' := [.ref q]) 1 rfl ?_
  refine WW.objInit rfl q514 q110 q111 (wd_le rfl) (wd_le rfl) ?_
  refine WW.run (pc' := 6) (lv' := [(0, .ref q), (1, .int x)]) (st' := [.int (-1), .ref q]) 2 rfl ?_
  refine WW.put [.int 0, .int (-1), .int 0, .int 0, .int 0] rfl pfX5_9 hq (wd_le rfl) rfl rfl rfl ?_
  have ha : (wPut w 4 q (.inl [.int 0, .int (-1), .int 0, .int 0, .int 0])).1 4 q = some (.inl [.int 0, .int (-1), .int 0, .int 0, .int 0]) := wPut_same _ _ _ _
  refine WW.run (pc' := 11) (lv' := [(0, .ref q), (1, .int x)]) (st' := [.int x, .ref q]) 2 rfl ?_
  refine WW.putF [.int x, .int (-1), .int 0, .int 0, .int 0] rfl pfX5_15 rfl ha (wd_le rfl) rfl rfl rfl ?_
  have hb : (wPut (wPut w 4 q (.inl [.int 0, .int (-1), .int 0, .int 0, .int 0])) 4 q (.inl [.int x, .int (-1), .int 0, .int 0, .int 0])).1 4 q = some (.inl [.int x, .int (-1), .int 0, .int 0, .int 0]) := wPut_same _ _ _ _
  exact WW.vret rfl rfl ⟨rfl, by rw [wPut_put]; rfl⟩
theorem sP_copy {x : aLa} (h : w.1 4 a = some (.inl (laF x))) : Sp l G MX5_copy 2 1 5 [.ref a] w (fun o w' => ∃ q, w.2 ≤ q ∧ o = .inl (some (.ref q)) ∧ w' = wNew w 4 q (.inl (laF x))) := by
  refine Sp.of rfl (by decide +kernel) kX5_copy (wd_le rfl) ?_
  refine WW.ok fun ok => ?_
  have hlt := (ok.1 _ _ _ h).2
  refine WW.new (fs := [.int 0, .int 0, .int 0, .int 0, .int 0]) rfl kX5_10 wdBl4 (wd_le rfl) (wd_le rfl) (fun q hq => ?_)
  have ha : (wNew w 4 q (.inl [.int 0, .int 0, .int 0, .int 0, .int 0])).1 4 q = some (.inl [.int 0, .int 0, .int 0, .int 0, .int 0]) := wNew_same _ _ _ _
  have hqa : a ≠ q := by
    intro e
    have : w.2 ≤ q := hq
    omega
  have h2 : (wNew w 4 q (.inl [.int 0, .int 0, .int 0, .int 0, .int 0])).1 4 a = some (.inl (laF x)) := by rw [wNew_ne hqa]; exact h
  refine WW.run (pc' := 5) (lv' := [(0, .ref a)]) (st' := [.ref a, .ref q, .ref q]) 2 rfl ?_
  refine WW.get rfl fX5_15 h2 (show _ = some (.int x.1) from rfl) ?_
  refine WW.callI [.int x.1] q [.ref q] rfl mX5_18 (sLa_init ha x.1) rfl rfl (wd_le rfl) (wd_le rfl) (wd_le rfl) (wd_le rfl) (fun o w' hq => ?_)
  obtain ⟨rfl, hw9⟩ := hq
  show WW _ _ _ 11 _ [.ref q] _
  rw [wNew_put] at hw9
  have h1 : w'.1 4 q = some (.inl (laF (x.1, 0, nI 0, nI 0, false))) := by rw [hw9]; exact wNew_same _ _ _ _
  replace h2 : w'.1 4 a = some (.inl (laF x)) := by rw [hw9, wNew_ne hqa]; exact h
  refine WW.run (pc' := 14) (lv' := [(1, .ref q), (0, .ref a)]) (st' := [.ref a, .ref q]) 3 rfl ?_
  refine WW.get rfl fX5_9 h2 (show _ = some (.int (nI x.2.1 - nI 1)) from rfl) ?_
  refine WW.put [.int x.1, .int (nI x.2.1 - nI 1), .int (nI 0), .int (nI 0), .int (bI false)] rfl pfX5_9 h1 (wd_le rfl) rfl rfl rfl ?_
  have c1 : (wPut w' 4 q (.inl [.int x.1, .int (nI x.2.1 - nI 1), .int (nI 0), .int (nI 0), .int (bI false)])).1 4 q = some (.inl [.int x.1, .int (nI x.2.1 - nI 1), .int (nI 0), .int (nI 0), .int (bI false)]) := wPut_same _ _ _ _
  replace h2 : (wPut w' 4 q (.inl [.int x.1, .int (nI x.2.1 - nI 1), .int (nI 0), .int (nI 0), .int (bI false)])).1 4 a = some (.inl (laF x)) := by rw [wPut_ne hqa]; exact h2
  refine WW.run (pc' := 22) (lv' := [(1, .ref q), (0, .ref a)]) (st' := [.ref a, .ref q]) 2 rfl ?_
  refine WW.get rfl fX5_21 h2 (show _ = some (.int x.2.2.1) from rfl) ?_
  refine WW.put [.int x.1, .int (nI x.2.1 - nI 1), .int x.2.2.1, .int (nI 0), .int (bI false)] rfl pfX5_21 c1 (wd_le rfl) rfl rfl rfl ?_
  have c2 : (wPut (wPut w' 4 q (.inl [.int x.1, .int (nI x.2.1 - nI 1), .int (nI 0), .int (nI 0), .int (bI false)])) 4 q (.inl [.int x.1, .int (nI x.2.1 - nI 1), .int x.2.2.1, .int (nI 0), .int (bI false)])).1 4 q = some (.inl [.int x.1, .int (nI x.2.1 - nI 1), .int x.2.2.1, .int (nI 0), .int (bI false)]) := wPut_same _ _ _ _
  replace h2 : (wPut (wPut w' 4 q (.inl [.int x.1, .int (nI x.2.1 - nI 1), .int (nI 0), .int (nI 0), .int (bI false)])) 4 q (.inl [.int x.1, .int (nI x.2.1 - nI 1), .int x.2.2.1, .int (nI 0), .int (bI false)])).1 4 a = some (.inl (laF x)) := by rw [wPut_ne hqa]; exact h2
  refine WW.run (pc' := 30) (lv' := [(1, .ref q), (0, .ref a)]) (st' := [.ref a, .ref q]) 2 rfl ?_
  refine WW.get rfl fX5_24 h2 (show _ = some (.int x.2.2.2.1) from rfl) ?_
  refine WW.put [.int x.1, .int (nI x.2.1 - nI 1), .int x.2.2.1, .int x.2.2.2.1, .int (bI false)] rfl pfX5_24 c2 (wd_le rfl) rfl rfl rfl ?_
  have c3 : (wPut (wPut (wPut w' 4 q (.inl [.int x.1, .int (nI x.2.1 - nI 1), .int (nI 0), .int (nI 0), .int (bI false)])) 4 q (.inl [.int x.1, .int (nI x.2.1 - nI 1), .int x.2.2.1, .int (nI 0), .int (bI false)])) 4 q (.inl [.int x.1, .int (nI x.2.1 - nI 1), .int x.2.2.1, .int x.2.2.2.1, .int (bI false)])).1 4 q = some (.inl [.int x.1, .int (nI x.2.1 - nI 1), .int x.2.2.1, .int x.2.2.2.1, .int (bI false)]) := wPut_same _ _ _ _
  replace h2 : (wPut (wPut (wPut w' 4 q (.inl [.int x.1, .int (nI x.2.1 - nI 1), .int (nI 0), .int (nI 0), .int (bI false)])) 4 q (.inl [.int x.1, .int (nI x.2.1 - nI 1), .int x.2.2.1, .int (nI 0), .int (bI false)])) 4 q (.inl [.int x.1, .int (nI x.2.1 - nI 1), .int x.2.2.1, .int x.2.2.2.1, .int (bI false)])).1 4 a = some (.inl (laF x)) := by rw [wPut_ne hqa]; exact h2
  refine WW.run (pc' := 38) (lv' := [(1, .ref q), (0, .ref a)]) (st' := [.ref a, .ref q]) 2 rfl ?_
  refine WW.get rfl fX5_27 h2 (show _ = some (.int (bI x.2.2.2.2)) from rfl) ?_
  refine WW.put [.int x.1, .int (nI x.2.1 - nI 1), .int x.2.2.1, .int x.2.2.2.1, .int (bI x.2.2.2.2)] rfl pfX5_27 c3 (wd_le rfl) (nar_b _) (fit_b _) rfl ?_
  have c4 : (wPut (wPut (wPut (wPut w' 4 q (.inl [.int x.1, .int (nI x.2.1 - nI 1), .int (nI 0), .int (nI 0), .int (bI false)])) 4 q (.inl [.int x.1, .int (nI x.2.1 - nI 1), .int x.2.2.1, .int (nI 0), .int (bI false)])) 4 q (.inl [.int x.1, .int (nI x.2.1 - nI 1), .int x.2.2.1, .int x.2.2.2.1, .int (bI false)])) 4 q (.inl [.int x.1, .int (nI x.2.1 - nI 1), .int x.2.2.1, .int x.2.2.2.1, .int (bI x.2.2.2.2)])).1 4 q = some (.inl [.int x.1, .int (nI x.2.1 - nI 1), .int x.2.2.1, .int x.2.2.2.1, .int (bI x.2.2.2.2)]) := wPut_same _ _ _ _
  refine WW.run (pc' := 45) (lv' := [(1, .ref q), (0, .ref a)]) (st' := [.ref q]) 1 rfl ?_
  exact WW.aret rfl rfl (Or.inl ⟨_, rfl⟩) (Or.inr ⟨_, rfl⟩) ⟨q, ‹_›, rfl, by rw [wPut_put, wPut_put, wPut_put, hw9, wNew_put]⟩
/-- a lamp's lease ends sooner than another's -/
def aSooner (x y : aLa) (b : Bool) : Bool := bif decide (x.en = y.en) then (bif decide (x.lv = y.lv) then b else decide (y.lv < x.lv)) else decide (x.en < y.en)
theorem sP_sooner {b : Nat} {x y : aLa} (h : w.1 4 a = some (.inl (laF x))) (h' : w.1 4 b = some (.inl (laF y))) (c : Bool) : SpR l G MX5_endsSooner 0 [.ref a, .ref b, .int (bI c)] w (.int (bI (aSooner x y c))) := by
  refine Sp.of rfl (by decide +kernel) kX5_endsSooner (wd_le rfl) ?_
  refine WW.run (pc' := 1) (lv' := [(0, .ref a), (1, .ref b), (2, .int (bI c))]) (st' := [.ref a]) 1 rfl ?_
  refine WW.get rfl fX5_21 h (show _ = some (.int x.2.2.1) from rfl) ?_
  refine WW.run (pc' := 5) (lv' := [(0, .ref a), (1, .ref b), (2, .int (bI c))]) (st' := [.ref b, .int x.2.2.1]) 1 rfl ?_
  refine WW.get rfl fX5_21 h' (show _ = some (.int y.2.2.1) from rfl) ?_
  unfold aSooner
  refine WW.icmp_eq (tgt := 28) rfl rfl (fun h1 => ?_) (fun h1 => ?_)
  · skip
    rw [show decide (x.en = y.en) = true from decide_eq_true h1]
    refine WW.run (pc' := 29) (lv' := [(0, .ref a), (1, .ref b), (2, .int (bI c))]) (st' := [.ref a]) 1 rfl ?_
    refine WW.get rfl fX5_15 h (show _ = some (.int x.1) from rfl) ?_
    refine WW.run (pc' := 33) (lv' := [(0, .ref a), (1, .ref b), (2, .int (bI c))]) (st' := [.ref b, .int x.1]) 1 rfl ?_
    refine WW.get rfl fX5_15 h' (show _ = some (.int y.1) from rfl) ?_
    refine WW.icmp_eq (tgt := 58) rfl rfl (fun h2 => ?_) (fun h2 => ?_)
    · skip
      rw [show decide (x.lv = y.lv) = true from decide_eq_true h2]
      refine WW.run (pc' := 59) (lv' := [(0, .ref a), (1, .ref b), (2, .int (bI c))]) (st' := [.int (bI c)]) 1 rfl ?_
      exact WW.iret rfl rfl (by cases c <;> rfl) ⟨rfl, rfl⟩
    rw [show decide (x.lv = y.lv) = false from decide_eq_false h2]
    refine WW.run (pc' := 40) (lv' := [(0, .ref a), (1, .ref b), (2, .int (bI c))]) (st' := [.ref a]) 1 rfl ?_
    refine WW.get rfl fX5_15 h (show _ = some (.int x.1) from rfl) ?_
    refine WW.run (pc' := 44) (lv' := [(0, .ref a), (1, .ref b), (2, .int (bI c))]) (st' := [.ref b, .int x.1]) 1 rfl ?_
    refine WW.get rfl fX5_15 h' (show _ = some (.int y.1) from rfl) ?_
    refine WW.icmp_le (tgt := 54) rfl rfl (fun h3 => ?_) (fun h3 => ?_)
    · skip
      refine WW.run (pc' := 59) (lv' := [(0, .ref a), (1, .ref b), (2, .int (bI c))]) (st' := [.int (nI 0)]) 2 rfl ?_
      exact WW.iret rfl rfl rfl ⟨by rw [show decide (y.lv < x.lv) = false from decide_eq_false (Int32.not_lt.mpr h3)]; rfl, rfl⟩
    refine WW.run (pc' := 59) (lv' := [(0, .ref a), (1, .ref b), (2, .int (bI c))]) (st' := [.int (nI 1)]) 2 rfl ?_
    exact WW.iret rfl rfl rfl ⟨by rw [show decide (y.lv < x.lv) = true from decide_eq_true (Int32.not_le.mp h3)]; rfl, rfl⟩
  rw [show decide (x.en = y.en) = false from decide_eq_false h1]
  refine WW.run (pc' := 12) (lv' := [(0, .ref a), (1, .ref b), (2, .int (bI c))]) (st' := [.ref a]) 1 rfl ?_
  refine WW.get rfl fX5_21 h (show _ = some (.int x.2.2.1) from rfl) ?_
  refine WW.run (pc' := 16) (lv' := [(0, .ref a), (1, .ref b), (2, .int (bI c))]) (st' := [.ref b, .int x.2.2.1]) 1 rfl ?_
  refine WW.get rfl fX5_21 h' (show _ = some (.int y.2.2.1) from rfl) ?_
  refine WW.icmp_ge (tgt := 26) rfl rfl (fun h3 => ?_) (fun h3 => ?_)
  · skip
    refine WW.run (pc' := 27) (lv' := [(0, .ref a), (1, .ref b), (2, .int (bI c))]) (st' := [.int (nI 0)]) 1 rfl ?_
    exact WW.iret rfl rfl rfl ⟨by rw [show decide (x.en < y.en) = false from decide_eq_false (Int32.not_lt.mpr h3)]; rfl, rfl⟩
  refine WW.run (pc' := 27) (lv' := [(0, .ref a), (1, .ref b), (2, .int (bI c))]) (st' := [.int (nI 1)]) 2 rfl ?_
  exact WW.iret rfl rfl rfl ⟨by rw [show decide (x.en < y.en) = true from decide_eq_true (Int32.not_le.mp h3)]; rfl, rfl⟩
theorem sR_init {q : Nat} (hq : w.1 6 q = some (.inl wdB6)) (x : Nat) (y : Int32) : Sp l G MX7_init 1 0 0 [.ref q, .int (nI x), .int y] w (fun o w' => o = .inl none ∧ w' = wPut w 6 q (.inl (rqF (x, y)))) := by
  refine Sp.of rfl (by decide +kernel) kX7_init (wd_le rfl) ?_
  refine WW.run (pc' := 1) (lv' := [(0, .ref q), (1, .int (nI x)), (2, .int y)]) (st' := [.ref q]) 1 rfl ?_
  refine WW.objInit rfl q1149 q110 q111 (wd_le rfl) (wd_le rfl) ?_
  refine WW.run (pc' := 6) (lv' := [(0, .ref q), (1, .int (nI x)), (2, .int y)]) (st' := [.int (nI x), .ref q]) 2 rfl ?_
  refine WW.putF [.int (nI x), .int 0] rfl pfX7_7 rfl hq (wd_le rfl) rfl rfl rfl ?_
  have ha : (wPut w 6 q (.inl [.int (nI x), .int 0])).1 6 q = some (.inl [.int (nI x), .int 0]) := wPut_same _ _ _ _
  refine WW.run (pc' := 11) (lv' := [(0, .ref q), (1, .int (nI x)), (2, .int y)]) (st' := [.int y, .ref q]) 2 rfl ?_
  refine WW.putF [.int (nI x), .int y] rfl pfX7_13 rfl ha (wd_le rfl) rfl rfl rfl ?_
  have hb : (wPut (wPut w 6 q (.inl [.int (nI x), .int 0])) 6 q (.inl [.int (nI x), .int y])).1 6 q = some (.inl [.int (nI x), .int y]) := wPut_same _ _ _ _
  exact WW.vret rfl rfl ⟨rfl, by rw [wPut_put]⟩
end
