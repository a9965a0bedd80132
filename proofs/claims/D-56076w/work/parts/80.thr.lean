set_option maxRecDepth 100000
/-! THE PARSER'S TWO EXCEPTIONS ARE MADE -/
abbrev wdE0 : List Value := [.null, .null, .null, .null, .null, .int 0, .int 0]
theorem wdU_nar (G : wdG) (i : Nat) (ty : FieldType) : narrow ty (wdU G i) = wdU G i := narrow_refV _ ⟨wdU G i, wdU_nr G i⟩
theorem wdU_fit (G : wdG) (i : Nat) (ty : FieldType) (h : ∀ v : RefV, fits ty v.v = true) : fits ty (wdU G i) = true := h ⟨wdU G i, wdU_nr G i⟩
section
variable {l : Launch} {G : wdG} {w : wdW} {q b : Nat}
abbrev wdEp10 (G : wdG) (i : Int32) : List Value := [.null, wdU G 4, wdU G 5, .null, .null, .int 0, .int i]
theorem sT_init10 (h0 : w.1 8 q = some (.inl wdE0)) : Sp l G MJ8_init_4 4 0 0 [.ref q, .null, .null] w (fun o w' => o = .inl none ∧ w' = wPut w 8 q (.inl (wdEp10 G 0))) := by
  refine Sp.of rfl (by decide +kernel) kJ8_init_4 (wd_le rfl) ?_
  refine WW.run (pc' := 1) (lv' := [(0, .ref q), (1, .null), (2, .null)]) (st' := [.ref q]) 1 rfl ?_
  refine WW.objInit rfl q337 q110 q111 (wd_le rfl) (wd_le rfl) ?_
  refine WW.run (pc' := 6) (lv' := [(0, .ref q), (1, .null), (2, .null)]) (st' := [.ref q, .ref q]) 2 rfl ?_
  refine WW.put [.ref q, .null, .null, .null, .null, .int 0, .int 0] rfl pfJ8_7_X10 h0 (wd_le rfl) rfl rfl rfl ?_
  have h1 : (wPut w 8 q (.inl [.ref q, .null, .null, .null, .null, .int 0, .int 0])).1 8 q = some (.inl [.ref q, .null, .null, .null, .null, .int 0, .int 0]) := wPut_same _ _ _ _
  refine WW.run (pc' := 10) (lv' := [(0, .ref q), (1, .null), (2, .null)]) (st' := [.ref q]) 1 rfl ?_
  refine WW.gets rfl (List.mem_of_getElem? (i := 4) rfl) q338 ?_
  refine WW.put [.ref q, wdU G 4, .null, .null, .null, .int 0, .int 0] rfl pfJ8_17_X10 h1 (wd_le rfl) (wdU_nar G 4 _) (wdU_fit G 4 _ (fits_refV_array _)) rfl ?_
  have h2 : (wPut (wPut w 8 q (.inl [.ref q, .null, .null, .null, .null, .int 0, .int 0])) 8 q (.inl [.ref q, wdU G 4, .null, .null, .null, .int 0, .int 0])).1 8 q = some (.inl [.ref q, wdU G 4, .null, .null, .null, .int 0, .int 0]) := wPut_same _ _ _ _
  refine WW.run (pc' := 17) (lv' := [(0, .ref q), (1, .null), (2, .null)]) (st' := [.ref q]) 1 rfl ?_
  refine WW.gets rfl (List.mem_of_getElem? (i := 5) rfl) q340 ?_
  refine WW.put [.ref q, wdU G 4, wdU G 5, .null, .null, .int 0, .int 0] rfl pfJ8_24_X10 h2 (wd_le rfl) (wdU_nar G 5 _) (wdU_fit G 5 _ (fits_refV_object _)) rfl ?_
  have h3 : (wPut (wPut (wPut w 8 q (.inl [.ref q, .null, .null, .null, .null, .int 0, .int 0])) 8 q (.inl [.ref q, wdU G 4, .null, .null, .null, .int 0, .int 0])) 8 q (.inl [.ref q, wdU G 4, wdU G 5, .null, .null, .int 0, .int 0])).1 8 q = some (.inl [.ref q, wdU G 4, wdU G 5, .null, .null, .int 0, .int 0]) := wPut_same _ _ _ _
  refine WW.run (pc' := 24) (lv' := [(0, .ref q), (1, .null), (2, .null)]) (st' := [.ref q]) 1 rfl ?_
  refine WW.fill rfl rfl wdTh10 (Or.inl rfl) h3 rfl rfl (wd_le rfl) (wd_le rfl) ?_
  refine WW.run (pc' := 29) (lv' := [(0, .ref q), (1, .null), (2, .null)]) (st' := [.ref q]) 2 rfl ?_
  refine WW.aloadN 1 rfl ⟨rfl, rfl⟩ ?_
  refine WW.put [.ref q, wdU G 4, wdU G 5, .null, .null, .int 0, .int 0] rfl pfJ8_31_X10 h3 (wd_le rfl) rfl rfl rfl ?_
  have h4 : (wPut (wPut (wPut (wPut w 8 q (.inl [.ref q, .null, .null, .null, .null, .int 0, .int 0])) 8 q (.inl [.ref q, wdU G 4, .null, .null, .null, .int 0, .int 0])) 8 q (.inl [.ref q, wdU G 4, wdU G 5, .null, .null, .int 0, .int 0])) 8 q (.inl [.ref q, wdU G 4, wdU G 5, .null, .null, .int 0, .int 0])).1 8 q = some (.inl [.ref q, wdU G 4, wdU G 5, .null, .null, .int 0, .int 0]) := wPut_same _ _ _ _
  refine WW.run (pc' := 34) (lv' := [(0, .ref q), (1, .null), (2, .null)]) (st' := [.ref q]) 1 rfl ?_
  refine WW.aloadN 2 rfl ⟨rfl, rfl⟩ ?_
  refine WW.put [.null, wdU G 4, wdU G 5, .null, .null, .int 0, .int 0] rfl pfJ8_7_X10 h4 (wd_le rfl) rfl rfl rfl ?_
  have h5 : (wPut (wPut (wPut (wPut (wPut w 8 q (.inl [.ref q, .null, .null, .null, .null, .int 0, .int 0])) 8 q (.inl [.ref q, wdU G 4, .null, .null, .null, .int 0, .int 0])) 8 q (.inl [.ref q, wdU G 4, wdU G 5, .null, .null, .int 0, .int 0])) 8 q (.inl [.ref q, wdU G 4, wdU G 5, .null, .null, .int 0, .int 0])) 8 q (.inl [.null, wdU G 4, wdU G 5, .null, .null, .int 0, .int 0])).1 8 q = some (.inl [.null, wdU G 4, wdU G 5, .null, .null, .int 0, .int 0]) := wPut_same _ _ _ _
  simp only [wPut_put]
  exact WW.vret rfl rfl ⟨rfl, rfl⟩
theorem sE_init10 (h0 : w.1 8 q = some (.inl wdE0)) : Sp l G MX9_init 6 0 0 [.ref q, .null] w (fun o w' => o = .inl none ∧ w' = wPut w 8 q (.inl (wdEp10 G 0))) := by
  have key : Sp l G MJ9_init_4 5 0 0 [.ref q, .null, .null] w (fun o w' => o = .inl none ∧ w' = wPut w 8 q (.inl (wdEp10 G 0))) := by
    refine Sp.of rfl (by decide +kernel) kJ9_init_4 (wd_le rfl) ?_
    refine WW.run (pc' := 1) (lv' := [(0, .ref q), (1, .null), (2, .null)]) (st' := [.ref q]) 1 rfl ?_
    refine WW.aloadN 1 rfl ⟨rfl, rfl⟩ ?_
    refine WW.aloadN 2 rfl ⟨rfl, rfl⟩ ?_
    refine WW.callI [.null, .null] q [] rfl mJ9_10 (sT_init10 h0) rfl rfl (wd_le rfl) (wd_le rfl) (wd_le rfl) (wd_le rfl) (fun o w' hq => ?_)
    obtain ⟨rfl, hw9⟩ := hq
    show WW _ _ _ 6 _ [] _
    rw [hw9]
    clear hw9 w'
    exact WW.vret rfl rfl ⟨rfl, rfl⟩
  refine Sp.of rfl (by decide +kernel) kX9_init (wd_le rfl) ?_
  refine WW.run (pc' := 2) (lv' := [(0, .ref q), (1, .null)]) (st' := [.null, .ref q]) 2 rfl ?_
  refine WW.aloadN 1 rfl ⟨rfl, rfl⟩ ?_
  refine WW.callI [.null, .null] q [] rfl mX9_1 key rfl rfl (wd_le rfl) (wd_le rfl) (wd_le rfl) (wd_le rfl) (fun o w' hq => ?_)
  obtain ⟨rfl, hw9⟩ := hq
  show WW _ _ _ 6 _ [] _
  rw [hw9]
  clear hw9 w'
  exact WW.vret rfl rfl ⟨rfl, rfl⟩

abbrev wdEp11 (G : wdG) (b : Nat) (i : Int32) : List Value := [.ref b, wdU G 4, wdU G 5, .null, .null, .int 0, .int i]
theorem sT_init11 (h0 : w.1 9 q = some (.inl wdE0)) : Sp l G MJ8_init_4 4 0 0 [.ref q, .null, .ref b] w (fun o w' => o = .inl none ∧ w' = wPut w 9 q (.inl (wdEp11 G b 0))) := by
  refine Sp.of rfl (by decide +kernel) kJ8_init_4 (wd_le rfl) ?_
  refine WW.run (pc' := 1) (lv' := [(0, .ref q), (1, .null), (2, .ref b)]) (st' := [.ref q]) 1 rfl ?_
  refine WW.objInit rfl q337 q110 q111 (wd_le rfl) (wd_le rfl) ?_
  refine WW.run (pc' := 6) (lv' := [(0, .ref q), (1, .null), (2, .ref b)]) (st' := [.ref q, .ref q]) 2 rfl ?_
  refine WW.put [.ref q, .null, .null, .null, .null, .int 0, .int 0] rfl pfJ8_7_X11 h0 (wd_le rfl) rfl rfl rfl ?_
  have h1 : (wPut w 9 q (.inl [.ref q, .null, .null, .null, .null, .int 0, .int 0])).1 9 q = some (.inl [.ref q, .null, .null, .null, .null, .int 0, .int 0]) := wPut_same _ _ _ _
  refine WW.run (pc' := 10) (lv' := [(0, .ref q), (1, .null), (2, .ref b)]) (st' := [.ref q]) 1 rfl ?_
  refine WW.gets rfl (List.mem_of_getElem? (i := 4) rfl) q338 ?_
  refine WW.put [.ref q, wdU G 4, .null, .null, .null, .int 0, .int 0] rfl pfJ8_17_X11 h1 (wd_le rfl) (wdU_nar G 4 _) (wdU_fit G 4 _ (fits_refV_array _)) rfl ?_
  have h2 : (wPut (wPut w 9 q (.inl [.ref q, .null, .null, .null, .null, .int 0, .int 0])) 9 q (.inl [.ref q, wdU G 4, .null, .null, .null, .int 0, .int 0])).1 9 q = some (.inl [.ref q, wdU G 4, .null, .null, .null, .int 0, .int 0]) := wPut_same _ _ _ _
  refine WW.run (pc' := 17) (lv' := [(0, .ref q), (1, .null), (2, .ref b)]) (st' := [.ref q]) 1 rfl ?_
  refine WW.gets rfl (List.mem_of_getElem? (i := 5) rfl) q340 ?_
  refine WW.put [.ref q, wdU G 4, wdU G 5, .null, .null, .int 0, .int 0] rfl pfJ8_24_X11 h2 (wd_le rfl) (wdU_nar G 5 _) (wdU_fit G 5 _ (fits_refV_object _)) rfl ?_
  have h3 : (wPut (wPut (wPut w 9 q (.inl [.ref q, .null, .null, .null, .null, .int 0, .int 0])) 9 q (.inl [.ref q, wdU G 4, .null, .null, .null, .int 0, .int 0])) 9 q (.inl [.ref q, wdU G 4, wdU G 5, .null, .null, .int 0, .int 0])).1 9 q = some (.inl [.ref q, wdU G 4, wdU G 5, .null, .null, .int 0, .int 0]) := wPut_same _ _ _ _
  refine WW.run (pc' := 24) (lv' := [(0, .ref q), (1, .null), (2, .ref b)]) (st' := [.ref q]) 1 rfl ?_
  refine WW.fill rfl rfl wdTh11 (Or.inr rfl) h3 rfl rfl (wd_le rfl) (wd_le rfl) ?_
  refine WW.run (pc' := 29) (lv' := [(0, .ref q), (1, .null), (2, .ref b)]) (st' := [.ref q]) 2 rfl ?_
  refine WW.aloadN 1 rfl ⟨rfl, rfl⟩ ?_
  refine WW.put [.ref q, wdU G 4, wdU G 5, .null, .null, .int 0, .int 0] rfl pfJ8_31_X11 h3 (wd_le rfl) rfl rfl rfl ?_
  have h4 : (wPut (wPut (wPut (wPut w 9 q (.inl [.ref q, .null, .null, .null, .null, .int 0, .int 0])) 9 q (.inl [.ref q, wdU G 4, .null, .null, .null, .int 0, .int 0])) 9 q (.inl [.ref q, wdU G 4, wdU G 5, .null, .null, .int 0, .int 0])) 9 q (.inl [.ref q, wdU G 4, wdU G 5, .null, .null, .int 0, .int 0])).1 9 q = some (.inl [.ref q, wdU G 4, wdU G 5, .null, .null, .int 0, .int 0]) := wPut_same _ _ _ _
  refine WW.run (pc' := 35) (lv' := [(0, .ref q), (1, .null), (2, .ref b)]) (st' := [.ref b, .ref q]) 2 rfl ?_
  
  refine WW.put [.ref b, wdU G 4, wdU G 5, .null, .null, .int 0, .int 0] rfl pfJ8_7_X11 h4 (wd_le rfl) rfl rfl rfl ?_
  have h5 : (wPut (wPut (wPut (wPut (wPut w 9 q (.inl [.ref q, .null, .null, .null, .null, .int 0, .int 0])) 9 q (.inl [.ref q, wdU G 4, .null, .null, .null, .int 0, .int 0])) 9 q (.inl [.ref q, wdU G 4, wdU G 5, .null, .null, .int 0, .int 0])) 9 q (.inl [.ref q, wdU G 4, wdU G 5, .null, .null, .int 0, .int 0])) 9 q (.inl [.ref b, wdU G 4, wdU G 5, .null, .null, .int 0, .int 0])).1 9 q = some (.inl [.ref b, wdU G 4, wdU G 5, .null, .null, .int 0, .int 0]) := wPut_same _ _ _ _
  simp only [wPut_put]
  exact WW.vret rfl rfl ⟨rfl, rfl⟩
theorem sE_init11 (h0 : w.1 9 q = some (.inl wdE0)) : Sp l G MX9_init 6 0 0 [.ref q, .ref b] w (fun o w' => o = .inl none ∧ w' = wPut w 9 q (.inl (wdEp11 G b 0))) := by
  have key : Sp l G MJ9_init_4 5 0 0 [.ref q, .null, .ref b] w (fun o w' => o = .inl none ∧ w' = wPut w 9 q (.inl (wdEp11 G b 0))) := by
    refine Sp.of rfl (by decide +kernel) kJ9_init_4 (wd_le rfl) ?_
    refine WW.run (pc' := 1) (lv' := [(0, .ref q), (1, .null), (2, .ref b)]) (st' := [.ref q]) 1 rfl ?_
    refine WW.aloadN 1 rfl ⟨rfl, rfl⟩ ?_
    refine WW.run (pc' := 3) (lv' := [(0, .ref q), (1, .null), (2, .ref b)]) (st' := [.ref b, .null, .ref q]) 1 rfl ?_
    
    refine WW.callI [.null, .ref b] q [] rfl mJ9_10 (sT_init11 h0) rfl rfl (wd_le rfl) (wd_le rfl) (wd_le rfl) (wd_le rfl) (fun o w' hq => ?_)
    obtain ⟨rfl, hw9⟩ := hq
    show WW _ _ _ 6 _ [] _
    rw [hw9]
    clear hw9 w'
    exact WW.vret rfl rfl ⟨rfl, rfl⟩
  refine Sp.of rfl (by decide +kernel) kX9_init (wd_le rfl) ?_
  refine WW.run (pc' := 3) (lv' := [(0, .ref q), (1, .ref b)]) (st' := [.ref b, .null, .ref q]) 3 rfl ?_
  
  refine WW.callI [.null, .ref b] q [] rfl mX9_1 key rfl rfl (wd_le rfl) (wd_le rfl) (wd_le rfl) (wd_le rfl) (fun o w' hq => ?_)
  obtain ⟨rfl, hw9⟩ := hq
  show WW _ _ _ 6 _ [] _
  rw [hw9]
  clear hw9 w'
  exact WW.vret rfl rfl ⟨rfl, rfl⟩

theorem sF_init10 (h0 : w.1 8 q = some (.inl wdE0)) (i : Int32) : Sp l G MX10_init 7 0 0 [.ref q, .int i] w (fun o w' => o = .inl none ∧ w' = wPut w 8 q (.inl (wdEp10 G i))) := by
  refine Sp.of rfl (by decide +kernel) kX10_init (wd_le rfl) ?_
  refine WW.run (pc' := 2) (lv' := [(0, .ref q), (1, .int i)]) (st' := [.null, .ref q]) 2 rfl ?_
  refine WW.callI [.null] q [] rfl mX10_1 (sE_init10 h0) rfl rfl (wd_le rfl) (wd_le rfl) (wd_le rfl) (wd_le rfl) (fun o w' hq => ?_)
  obtain ⟨rfl, hw9⟩ := hq
  show WW _ _ _ 5 _ [] _
  rw [hw9]
  clear hw9 w'
  have h1 : (wPut w 8 q (.inl (wdEp10 G 0))).1 8 q = some (.inl (wdEp10 G 0)) := wPut_same _ _ _ _
  refine WW.run (pc' := 7) (lv' := [(0, .ref q), (1, .int i)]) (st' := [.int i, .ref q]) 2 rfl ?_
  refine WW.putF [.null, wdU G 4, wdU G 5, .null, .null, .int 0, .int i] rfl pfX10_7 rfl h1 (wd_le rfl) rfl rfl rfl ?_
  have h2 : (wPut (wPut w 8 q (.inl (wdEp10 G 0))) 8 q (.inl [.null, wdU G 4, wdU G 5, .null, .null, .int 0, .int i])).1 8 q = some (.inl [.null, wdU G 4, wdU G 5, .null, .null, .int 0, .int i]) := wPut_same _ _ _ _
  simp only [wPut_put]
  exact WW.vret rfl rfl ⟨rfl, rfl⟩
theorem sF_init11 (h0 : w.1 9 q = some (.inl wdE0)) (i : Int32) : Sp l G MX11_init 7 0 0 [.ref q, .int i, .ref b] w (fun o w' => o = .inl none ∧ w' = wPut w 9 q (.inl (wdEp11 G b i))) := by
  refine Sp.of rfl (by decide +kernel) kX11_init (wd_le rfl) ?_
  refine WW.run (pc' := 2) (lv' := [(0, .ref q), (1, .int i), (2, .ref b)]) (st' := [.ref b, .ref q]) 2 rfl ?_
  refine WW.callI [.ref b] q [] rfl mX11_1 (sE_init11 h0) rfl rfl (wd_le rfl) (wd_le rfl) (wd_le rfl) (wd_le rfl) (fun o w' hq => ?_)
  obtain ⟨rfl, hw9⟩ := hq
  show WW _ _ _ 5 _ [] _
  rw [hw9]
  clear hw9 w'
  have h1 : (wPut w 9 q (.inl (wdEp11 G b 0))).1 9 q = some (.inl (wdEp11 G b 0)) := wPut_same _ _ _ _
  refine WW.run (pc' := 7) (lv' := [(0, .ref q), (1, .int i), (2, .ref b)]) (st' := [.int i, .ref q]) 2 rfl ?_
  refine WW.putF [.ref b, wdU G 4, wdU G 5, .null, .null, .int 0, .int i] rfl pfX11_7 rfl h1 (wd_le rfl) rfl rfl rfl ?_
  have h2 : (wPut (wPut w 9 q (.inl (wdEp11 G b 0))) 9 q (.inl [.ref b, wdU G 4, wdU G 5, .null, .null, .int 0, .int i])).1 9 q = some (.inl [.ref b, wdU G 4, wdU G 5, .null, .null, .int 0, .int i]) := wPut_same _ _ _ _
  simp only [wPut_put]
  exact WW.vret rfl rfl ⟨rfl, rfl⟩
end
