set_option maxRecDepth 100000
/-! THE TEXT OF COMMANDS -/
def rsN (ci : Nat) : Int32 := match ci with
  | 13 => nI 105 | 14 => nI 97 | 15 => nI 115 | 16 => nI 110 | _ => nI 117
section
variable {l : Launch} {G : wdG} {w : wdW} {q b : Nat} {i : Int32}
theorem sY_init {pa o : Nat} (h0 : w.1 7 pa = some (.inl wdB7)) : Sp l G MX8_init 1 0 0 [.ref pa, .ref o] w (fun r w' => r = .inl none ∧ w' = wPut w 7 pa (.inl (yO o 0 (0, 0, 0)))) := by
  refine Sp.of rfl (by decide +kernel) kX8_init (wd_le rfl) ?_
  refine WW.run (pc' := 2) (lv' := [(0, .ref pa), (1, .ref o)]) (st' := [.ref o, .ref pa]) 2 rfl ?_
  refine WW.putF [.int 0, .int 0, .int 0, .int 0, .ref o] rfl pfX8_1 rfl h0 (wd_le rfl) rfl rfl rfl ?_
  have h1 : (wPut w 7 pa (.inl [.int 0, .int 0, .int 0, .int 0, .ref o])).1 7 pa = some (.inl [.int 0, .int 0, .int 0, .int 0, .ref o]) := wPut_same _ _ _ _
  refine WW.run (pc' := 6) (lv' := [(0, .ref pa), (1, .ref o)]) (st' := [.ref pa]) 1 rfl ?_
  refine WW.objInit rfl q1457 q110 q111 (wd_le rfl) (wd_le rfl) ?_
  exact WW.vret rfl rfl ⟨rfl, rfl⟩
theorem sX_reason13 (h : w.1 9 q = some (.inl (wdEp11 G b i))) (hb : w.1 13 b = some (.inl [])) (hne : b ≠ q) : Sp l G MX11_reason 4 0 0 [.ref q] w (fun r w' => r = .inl (some (.int (rsN 13))) ∧ w' = w) := by
  refine Sp.of rfl (by decide +kernel) kX11_reason (wd_le rfl) ?_
  refine WW.run (pc' := 1) (lv' := [(0, .ref q)]) (st' := [.ref q]) 1 rfl ?_
  refine WW.getCause rfl rfl h rfl hne (wd_le rfl) (wd_le rfl) ?_
  refine WW.run (pc' := 6) (lv' := [(1, .ref b), (0, .ref q)]) (st' := [.ref b]) 2 rfl ?_
  refine WW.instY rfl hb rfl q1667 (Or.inl rfl) ?_
  refine WW.if_eq (tgt := 15) rfl rfl (fun hno => absurd hno (by decide)) (fun _ => ?_)
  refine WW.run (pc' := 14) (lv' := [(1, .ref b), (0, .ref q)]) (st' := [.int (nI 105)]) 1 rfl ?_
  exact WW.iret rfl rfl rfl ⟨rfl, rfl⟩
theorem sX_reason14 (h : w.1 9 q = some (.inl (wdEp11 G b i))) (hb : w.1 14 b = some (.inl [])) (hne : b ≠ q) : Sp l G MX11_reason 4 0 0 [.ref q] w (fun r w' => r = .inl (some (.int (rsN 14))) ∧ w' = w) := by
  refine Sp.of rfl (by decide +kernel) kX11_reason (wd_le rfl) ?_
  refine WW.run (pc' := 1) (lv' := [(0, .ref q)]) (st' := [.ref q]) 1 rfl ?_
  refine WW.getCause rfl rfl h rfl hne (wd_le rfl) (wd_le rfl) ?_
  refine WW.run (pc' := 6) (lv' := [(1, .ref b), (0, .ref q)]) (st' := [.ref b]) 2 rfl ?_
  refine WW.instNo rfl hb rfl q1667 (List.mem_of_getElem? (i := 18) rfl) ?_
  refine WW.if_eq (tgt := 15) rfl rfl (fun _ => ?_) (fun hno => absurd rfl hno)
  refine WW.run (pc' := 16) (lv' := [(1, .ref b), (0, .ref q)]) (st' := [.ref b]) 1 rfl ?_
  refine WW.instY rfl hb rfl q1668 (Or.inl rfl) ?_
  refine WW.if_eq (tgt := 25) rfl rfl (fun hno => absurd hno (by decide)) (fun _ => ?_)
  refine WW.run (pc' := 24) (lv' := [(1, .ref b), (0, .ref q)]) (st' := [.int (nI 97)]) 1 rfl ?_
  exact WW.iret rfl rfl rfl ⟨rfl, rfl⟩
theorem sX_reason15 (h : w.1 9 q = some (.inl (wdEp11 G b i))) (hb : w.1 15 b = some (.inl [])) (hne : b ≠ q) : Sp l G MX11_reason 4 0 0 [.ref q] w (fun r w' => r = .inl (some (.int (rsN 15))) ∧ w' = w) := by
  refine Sp.of rfl (by decide +kernel) kX11_reason (wd_le rfl) ?_
  refine WW.run (pc' := 1) (lv' := [(0, .ref q)]) (st' := [.ref q]) 1 rfl ?_
  refine WW.getCause rfl rfl h rfl hne (wd_le rfl) (wd_le rfl) ?_
  refine WW.run (pc' := 6) (lv' := [(1, .ref b), (0, .ref q)]) (st' := [.ref b]) 2 rfl ?_
  refine WW.instNo rfl hb rfl q1667 (List.mem_of_getElem? (i := 17) rfl) ?_
  refine WW.if_eq (tgt := 15) rfl rfl (fun _ => ?_) (fun hno => absurd rfl hno)
  refine WW.run (pc' := 16) (lv' := [(1, .ref b), (0, .ref q)]) (st' := [.ref b]) 1 rfl ?_
  refine WW.instNo rfl hb rfl q1668 (List.mem_of_getElem? (i := 9) rfl) ?_
  refine WW.if_eq (tgt := 25) rfl rfl (fun _ => ?_) (fun hno => absurd rfl hno)
  refine WW.run (pc' := 26) (lv' := [(1, .ref b), (0, .ref q)]) (st' := [.ref b]) 1 rfl ?_
  refine WW.instY rfl hb rfl q1669 (Or.inl rfl) ?_
  refine WW.if_eq (tgt := 35) rfl rfl (fun hno => absurd hno (by decide)) (fun _ => ?_)
  refine WW.run (pc' := 34) (lv' := [(1, .ref b), (0, .ref q)]) (st' := [.int (nI 115)]) 1 rfl ?_
  exact WW.iret rfl rfl rfl ⟨rfl, rfl⟩
theorem sX_reason16 (h : w.1 9 q = some (.inl (wdEp11 G b i))) (hb : w.1 16 b = some (.inl [])) (hne : b ≠ q) : Sp l G MX11_reason 4 0 0 [.ref q] w (fun r w' => r = .inl (some (.int (rsN 16))) ∧ w' = w) := by
  refine Sp.of rfl (by decide +kernel) kX11_reason (wd_le rfl) ?_
  refine WW.run (pc' := 1) (lv' := [(0, .ref q)]) (st' := [.ref q]) 1 rfl ?_
  refine WW.getCause rfl rfl h rfl hne (wd_le rfl) (wd_le rfl) ?_
  refine WW.run (pc' := 6) (lv' := [(1, .ref b), (0, .ref q)]) (st' := [.ref b]) 2 rfl ?_
  refine WW.instNo rfl hb rfl q1667 (List.mem_of_getElem? (i := 16) rfl) ?_
  refine WW.if_eq (tgt := 15) rfl rfl (fun _ => ?_) (fun hno => absurd rfl hno)
  refine WW.run (pc' := 16) (lv' := [(1, .ref b), (0, .ref q)]) (st' := [.ref b]) 1 rfl ?_
  refine WW.instNo rfl hb rfl q1668 (List.mem_of_getElem? (i := 8) rfl) ?_
  refine WW.if_eq (tgt := 25) rfl rfl (fun _ => ?_) (fun hno => absurd rfl hno)
  refine WW.run (pc' := 26) (lv' := [(1, .ref b), (0, .ref q)]) (st' := [.ref b]) 1 rfl ?_
  refine WW.instNo rfl hb rfl q1669 (List.mem_of_getElem? (i := 0) rfl) ?_
  refine WW.if_eq (tgt := 35) rfl rfl (fun _ => ?_) (fun hno => absurd rfl hno)
  refine WW.run (pc' := 36) (lv' := [(1, .ref b), (0, .ref q)]) (st' := [.ref b]) 1 rfl ?_
  refine WW.instY rfl hb rfl q1670 (Or.inl rfl) ?_
  refine WW.if_eq (tgt := 47) rfl rfl (fun hno => absurd hno (by decide)) (fun _ => ?_)
  refine WW.run (pc' := 49) (lv' := [(1, .ref b), (0, .ref q)]) (st' := [.int (nI 110)]) 2 rfl ?_
  exact WW.iret rfl rfl rfl ⟨rfl, rfl⟩
theorem sX_reason17 (h : w.1 9 q = some (.inl (wdEp11 G b i))) (hb : w.1 17 b = some (.inl [])) (hne : b ≠ q) : Sp l G MX11_reason 4 0 0 [.ref q] w (fun r w' => r = .inl (some (.int (rsN 17))) ∧ w' = w) := by
  refine Sp.of rfl (by decide +kernel) kX11_reason (wd_le rfl) ?_
  refine WW.run (pc' := 1) (lv' := [(0, .ref q)]) (st' := [.ref q]) 1 rfl ?_
  refine WW.getCause rfl rfl h rfl hne (wd_le rfl) (wd_le rfl) ?_
  refine WW.run (pc' := 6) (lv' := [(1, .ref b), (0, .ref q)]) (st' := [.ref b]) 2 rfl ?_
  refine WW.instNo rfl hb rfl q1667 (List.mem_of_getElem? (i := 20) rfl) ?_
  refine WW.if_eq (tgt := 15) rfl rfl (fun _ => ?_) (fun hno => absurd rfl hno)
  refine WW.run (pc' := 16) (lv' := [(1, .ref b), (0, .ref q)]) (st' := [.ref b]) 1 rfl ?_
  refine WW.instNo rfl hb rfl q1668 (List.mem_of_getElem? (i := 12) rfl) ?_
  refine WW.if_eq (tgt := 25) rfl rfl (fun _ => ?_) (fun hno => absurd rfl hno)
  refine WW.run (pc' := 26) (lv' := [(1, .ref b), (0, .ref q)]) (st' := [.ref b]) 1 rfl ?_
  refine WW.instNo rfl hb rfl q1669 (List.mem_of_getElem? (i := 4) rfl) ?_
  refine WW.if_eq (tgt := 35) rfl rfl (fun _ => ?_) (fun hno => absurd rfl hno)
  refine WW.run (pc' := 36) (lv' := [(1, .ref b), (0, .ref q)]) (st' := [.ref b]) 1 rfl ?_
  refine WW.instNo rfl hb rfl q1670 (List.mem_of_getElem? (i := 44) rfl) ?_
  refine WW.if_eq (tgt := 47) rfl rfl (fun _ => ?_) (fun hno => absurd rfl hno)
  refine WW.run (pc' := 49) (lv' := [(1, .ref b), (0, .ref q)]) (st' := [.int (nI 117)]) 1 rfl ?_
  exact WW.iret rfl rfl rfl ⟨rfl, rfl⟩
theorem sX_reason {ci : Nat} (hci : 13 ≤ ci ∧ ci ≤ 17) (h : w.1 9 q = some (.inl (wdEp11 G b i))) (hb : w.1 ci b = some (.inl [])) (hne : b ≠ q) : Sp l G MX11_reason 4 0 0 [.ref q] w (fun r w' => r = .inl (some (.int (rsN ci))) ∧ w' = w) := by
  obtain ⟨h1, h2⟩ := hci
  rcases Nat.lt_or_ge ci 14 with e | e
  · obtain rfl : ci = 13 := by omega
    exact sX_reason13 h hb hne
  rcases Nat.lt_or_ge ci 15 with e | e
  · obtain rfl : ci = 14 := by omega
    exact sX_reason14 h hb hne
  rcases Nat.lt_or_ge ci 16 with e | e
  · obtain rfl : ci = 15 := by omega
    exact sX_reason15 h hb hne
  rcases Nat.lt_or_ge ci 17 with e | e
  · obtain rfl : ci = 16 := by omega
    exact sX_reason16 h hb hne
  obtain rfl : ci = 17 := by omega
  exact sX_reason17 h hb hne
theorem rsN_nar {ci : Nat} : narrow .char (.int (rsN ci)) = .int (rsN ci) := by
  unfold rsN
  split <;> rfl
theorem rsN_fit {ci : Nat} : fits .char (.int (rsN ci)) = true := by
  unfold rsN
  split <;> decide
end
theorem xRows : tableOf MX1_carryOutInput.hh = [⟨0, 39, 46, 266⟩, ⟨0, 39, 65, 279⟩, ⟨0, 39, 76, 0⟩, ⟨46, 77, 76, 0⟩] := rfl
theorem xOut83 : ∀ z ∈ tableOf MX1_carryOutInput.hh, covers z 83 = false := by rw [xRows]; decide
theorem xPre64 : ∀ z ∈ [(⟨0, 39, 46, 266⟩ : ExceptionTableEntry), ⟨0, 39, 65, 279⟩, ⟨0, 39, 76, 0⟩], covers z 64 = false := by decide
theorem xPre75 : ∀ z ∈ [(⟨0, 39, 46, 266⟩ : ExceptionTableEntry), ⟨0, 39, 65, 279⟩, ⟨0, 39, 76, 0⟩], covers z 75 = false := by decide
section
variable {l : Launch} {G : wdG} {w w' : wdW} {o hl inp sb st harr sbarr : Nat} {hg : Nat → Nat} {sva : Option Nat} {I : Nat → Int32} {cur : aS} {hn : Nat} {hist : Nat → aS} {sv : Option aS} {ic : Nat → Int32} {on : Nat} {oc : Nat → Int32} {n : Nat}
theorem isSo.old {a : Nat} {S : aS} (h : isSo G w hl harr a S) (f : ∀ k b p, w.1 k b = some p → w'.1 k b = some p) : isSo G w' hl harr a S := by
  obtain ⟨lo, Z, gs, gl, gr, h1, h2⟩ := h
  exact ⟨lo, Z, gs, gl, gr, h1.keepK (fun k b p hp _ => f k b p hp), h2⟩
theorem isOx.old (h : isOx G w o hl inp sb st harr hg sva sbarr I cur hn hist sv ic on oc) (f : ∀ k b p, w.1 k b = some p → w'.1 k b = some p) : isOx G w' o hl inp sb st harr hg sva sbarr I cur hn hist sv ic on oc := by
  obtain ⟨h1, h2, h3, h4, h5, h6, h7⟩ := h
  refine ⟨f _ _ _ h1, h2.to (fun p hp => f _ _ _ hp) (fun p hp => f _ _ _ hp), h3.old f, fun i hi => (h4 i hi).old f, ?_, f _ _ _ h6, h7.to (fun p hp => f _ _ _ hp) (fun p hp => f _ _ _ hp)⟩
  cases sva <;> cases sv <;> first | exact h5 | exact isSo.old h5 f
/-- what the text of commands does -/
def oT (G : wdG) (o hl inp sb : Nat) (I : Nat → Int32) (cur : aS) (hn : Nat) (hist : Nat → aS) (sv : Option aS) (ic : Nat → Int32) (on : Nat) (oc : Nat → Int32) (n : Nat) (w : wdW) : wdO → wdW → Prop := fun q w' => oFr inp w w' ∧ match kAll ic n with
  | .inl e => (∃ x, q = .inr (RX10, x) ∧ w'.1 8 x = some (.inl (wdEp10 G (nI e)))) ∧ isOf G w' o hl inp sb (va_up (va_up I 1 (nI e)) 0 (nI 0)) cur hn hist sv ic on oc
  | .inr cs => match aRun cs 0 cur with
    | .inl z => (∃ x b, q = .inr (RX11, x) ∧ w'.1 9 x = some (.inl (wdEp11 G b (nI z.1)))) ∧ isOf G w' o hl inp sb (va_up (va_up (va_up I 2 (nI z.1)) 3 (rsN z.2)) 0 (nI 0)) cur hn hist sv ic on oc
    | .inr T => q = .inl (some (.int (nI cs.length))) ∧ isOf G w' o hl inp sb (va_up I 0 (nI 0)) T (tRec hn hist cur).1 (tRec hn hist cur).2 sv ic on oc
theorem cO_carryOut (h : isOf G w o hl inp sb I cur hn hist sv ic on oc) (h8 : hn ≤ 8) (hn60 : n ≤ 60) (hI0 : I 0 = nI n) (hch : ∀ j, j < n → narrow .char (.int (ic j)) = .int (ic j)) (hW : aWf cur) (hWf : ∀ cs, kAll ic n = .inr cs → kWf cs cur) : Sp l G MX1_carryOutInput 13 19100 94000 [.ref o] w (oT G o hl inp sb I cur hn hist sv ic on oc n w) := by
  obtain ⟨st, harr, hg, sva, sbarr, h⟩ := h
  have g1 := h.1
  have g6 := h.2.2.2.2.2.1
  rw [hI0] at g1
  refine Sp.ofH rfl (by decide +kernel) kX1_carryOutInput (wd_le rfl) ?_
  refine WW.ok fun ok => ?_
  replace ok : wdOk G w := ok
  have hol : o < w.2 := (ok.1 _ _ _ g1).2
  have hil : inp < w.2 := (ok.1 _ _ _ g6).2
  refine WW.new (fs := [.int 0, .int 0, .int 0, .int 0, .null]) rfl kX1_257 wdBl7 (wd_le rfl) (wd_le rfl) (fun pa hpa => ?_)
  have hb : (wNew w 7 pa (.inl [.int 0, .int 0, .int 0, .int 0, .null])).1 7 pa = some (.inl [.int 0, .int 0, .int 0, .int 0, .null]) := wNew_same _ _ _ _
  refine WW.run (pc' := 5) (lv' := [(0, .ref o)]) (st' := [.ref o, .ref pa, .ref pa]) 2 rfl ?_
  refine WW.callIN [.ref o] pa [.ref pa] rfl mX1_259 (sY_init hb (o := o)) rfl rfl (wd_le rfl) (wd_le rfl) (wd_le rfl) (wd_le rfl) (fun o w' hq => ?_)
  obtain ⟨rfl, hw9⟩ := hq
  show WW _ _ _ 8 _ [.ref pa] _
  rw [hw9]
  clear hw9 w'
  rw [wNew_put]
  obtain ⟨u0, hu0⟩ : ∃ z, z = wNew w 7 pa (.inl (yO o 0 (0, 0, 0))) := ⟨_, rfl⟩
  rw [← hu0]
  have e0 : u0.1 7 pa = some (.inl (yO o 0 (0, 0, 0))) := by rw [hu0]; exact wNew_same _ _ _ _
  have f0 : ∀ b, b < w.2 → ∀ k, u0.1 k b = w.1 k b := fun b hb k => by rw [hu0]; exact wNew_ne (by omega)
  have z0 : w.2 ≤ u0.2 := by rw [hu0]; show w.2 ≤ pa + 1; omega
  have hY : yI w o inp n ic := ⟨⟨hn60, hch⟩, ⟨_, _, _, _, _, _, _, g1⟩, g6⟩
  have hY0 : yI u0 o inp n ic := hY.fr hol hil f0
  refine WW.run (pc' := 9) (lv' := [(0, .ref o)]) (st' := [.null, .ref pa]) 1 rfl ?_
  refine WW.callV [.null] pa [] rfl mX1_262 (sY_commands0 hY0 e0) (wdRecv.obj e0 rfl) rfl rfl (wd_le rfl) (wd_le rfl) (wd_le rfl) (wd_le rfl) (fun o w1 hq => ?_)
  unfold oT
  cases hK : kAll ic n with
  | inl e =>
    rw [hK] at hq
    obtain ⟨x, k1, rfl, k3, k4⟩ := hq
    have f1 : ∀ b, b < w.2 → ∀ k, w1.1 k b = w.1 k b := fun b hb k => (k4.1 b (Nat.lt_of_lt_of_le hb z0) (by omega) k).trans (f0 b hb k)
    have F1 : ∀ k b p, w.1 k b = some p → w1.1 k b = some p := fun k b p hp => (f1 b (ok.1 _ _ _ hp).2 k).trans hp
    have zz1 : w.2 ≤ w1.2 := Nat.le_trans z0 k4.2
    have o1 := h.old F1
    have d1 := o1.1
    rw [hI0] at d1
    have q1 : oFr inp w w1 := ⟨zz1, fun k b p hp _ => F1 k b p hp⟩
    show WX _ _ _ 9 _ [] _ _ _
    refine WX.catch_ [⟨0, 39, 46, 266⟩] ⟨0, 39, 65, 279⟩ [⟨0, 39, 76, 0⟩, ⟨46, 77, 76, 0⟩] "LampLeaseOffice$MalformedException" rfl (fun z hz => by rcases List.mem_cons.mp hz with rfl | hz; exact Or.inr ⟨by decide, _, q1450, List.mem_of_getElem? (i := 70) rfl⟩; exact absurd hz List.not_mem_nil) rfl (by decide) q1451 nq1529 ?_
    refine WW.run (pc' := 68) (lv' := [(1, .ref x), (0, .ref o)]) (st' := [.ref x, .ref o]) 3 rfl ?_
    refine WW.get rfl fX1_281 k3 (show _ = some (.int (nI e)) from rfl) ?_
    refine WW.put [.ref st, .ref hl, va_rf sva, .ref inp, .int (nI n), .int (nI e), .int (I 2), .int (I 3), .ref sb] rfl pfX1_27 d1 (wd_le rfl) rfl rfl rfl ?_
    have d2 : (wPut w1 0 o (.inl [.ref st, .ref hl, va_rf sva, .ref inp, .int (nI n), .int (nI e), .int (I 2), .int (I 3), .ref sb])).1 0 o = some (.inl [.ref st, .ref hl, va_rf sva, .ref inp, .int (nI n), .int (nI e), .int (I 2), .int (I 3), .ref sb]) := wPut_same _ _ _ _
    refine WW.run (pc' := 75) (lv' := [(1, .ref x), (0, .ref o)]) (st' := [.ref x]) 1 rfl ?_
    have o2 := o1.putO (va_up I 1 (nI e)) o1.2.2.1 o1.2.2.2.2.1
    have t2 : (wPut w1 0 o (.inl [.ref st, .ref hl, va_rf sva, .ref inp, .int (nI n), .int (nI e), .int (I 2), .int (I 3), .ref sb])).1 8 x = some (.inl (wdEp10 G (nI e))) := (wPut_k (by decide)).trans k3
    have q2 : oFr inp w (wPut w1 0 o (.inl [.ref st, .ref hl, va_rf sva, .ref inp, .int (nI n), .int (nI e), .int (I 2), .int (I 3), .ref sb])) := q1.put (by intro z; rcases z with z | z | z | z | ⟨z, -⟩ <;> omega)
    have W2 : (wPut w1 0 o (.inl [.ref st, .ref hl, va_rf sva, .ref inp, .int (nI n), .int (nI e), .int (I 2), .int (I 3), .ref sb])) = wPut w1 0 o (.inl [.ref st, .ref hl, va_rf sva, .ref inp, .int (va_up I 1 (nI e) 0), .int (va_up I 1 (nI e) 1), .int (va_up I 1 (nI e) 2), .int (va_up I 1 (nI e) 3), .ref sb]) := by rw [← hI0]; rfl
    refine WW.athrow rfl t2 rfl ?_
    refine WX.catchA [⟨0, 39, 46, 266⟩, ⟨0, 39, 65, 279⟩, ⟨0, 39, 76, 0⟩] ⟨46, 77, 76, 0⟩ [] rfl (fun z hz => Or.inl (xPre75 z hz)) rfl rfl ?_
    refine WW.run (pc' := 79) (lv' := [(3, .ref x), (1, .ref x), (0, .ref o)]) (st' := [.int (nI 0), .ref o]) 3 rfl ?_
    refine WW.put [.ref st, .ref hl, va_rf sva, .ref inp, .int (nI 0), .int (nI e), .int (I 2), .int (I 3), .ref sb] rfl pfX1_251 d2 (wd_le rfl) rfl rfl rfl ?_
    have d3 : (wPut (wPut w1 0 o (.inl [.ref st, .ref hl, va_rf sva, .ref inp, .int (nI n), .int (nI e), .int (I 2), .int (I 3), .ref sb])) 0 o (.inl [.ref st, .ref hl, va_rf sva, .ref inp, .int (nI 0), .int (nI e), .int (I 2), .int (I 3), .ref sb])).1 0 o = some (.inl [.ref st, .ref hl, va_rf sva, .ref inp, .int (nI 0), .int (nI e), .int (I 2), .int (I 3), .ref sb]) := wPut_same _ _ _ _
    refine WW.run (pc' := 83) (lv' := [(3, .ref x), (1, .ref x), (0, .ref o)]) (st' := [.ref x]) 1 rfl ?_
    have o3 := o2.putO (va_up (va_up I 1 (nI e)) 0 (nI 0)) o2.2.2.1 o2.2.2.2.2.1
    have t3 : (wPut (wPut w1 0 o (.inl [.ref st, .ref hl, va_rf sva, .ref inp, .int (nI n), .int (nI e), .int (I 2), .int (I 3), .ref sb])) 0 o (.inl [.ref st, .ref hl, va_rf sva, .ref inp, .int (nI 0), .int (nI e), .int (I 2), .int (I 3), .ref sb])).1 8 x = some (.inl (wdEp10 G (nI e))) := (wPut_k (by decide)).trans t2
    have q3 : oFr inp w (wPut (wPut w1 0 o (.inl [.ref st, .ref hl, va_rf sva, .ref inp, .int (nI n), .int (nI e), .int (I 2), .int (I 3), .ref sb])) 0 o (.inl [.ref st, .ref hl, va_rf sva, .ref inp, .int (nI 0), .int (nI e), .int (I 2), .int (I 3), .ref sb])) := q2.put (by intro z; rcases z with z | z | z | z | ⟨z, -⟩ <;> omega)
    refine WW.athrow rfl t3 rfl ?_
    rw [W2] at t3 q3 ⊢
    exact WX.out xOut83 ⟨q3, ⟨x, rfl, t3⟩, _, _, _, _, _, o3⟩
  | inr cs =>
    rw [hK] at hq
    obtain ⟨rfl, p9, u9, hw1⟩ := hq
    rw [hu0, wNew_put] at hw1
    have e1 : w1.1 7 pa = some (.inl (yO o p9 u9)) := by rw [hw1]; exact wNew_same _ _ _ _
    have f1 : ∀ b, b < w.2 → ∀ k, w1.1 k b = w.1 k b := fun b hb k => by rw [hw1]; exact wNew_ne (by omega)
    have F1 : ∀ k b p, w.1 k b = some p → w1.1 k b = some p := fun k b p hp => (f1 b (ok.1 _ _ _ hp).2 k).trans hp
    have zz1 : w.2 ≤ w1.2 := by rw [hw1]; show w.2 ≤ pa + 1; omega
    have o1 := h.old F1
    have d1 := o1.1
    rw [hI0] at d1
    obtain ⟨lo9, Z9, gs9, gl9, gr9, s1, -⟩ := id o1.2.2.1
    show WW _ _ _ 12 _ [.int (nI (0 + cs.length))] _
    have okw := ok
    refine WW.ok fun ok => ?_
    replace ok : wdOk G w1 := ok
    refine WW.run (pc' := 14) (lv' := [(0, .ref o)]) (st' := [.ref o]) 2 rfl ?_
    refine WW.get rfl fX1_10 d1 (show _ = some (.ref st) from rfl) ?_
    refine WW.callV [] st [] rfl mX1_71 (cS_copy s1 hW) (wdRecv.obj s1.1.1 rfl) rfl rfl (wd_le rfl) (wd_le rfl) (wd_le rfl) (wd_le rfl) (fun o w2 hq => ?_)
    obtain ⟨a, ha, rfl, ⟨Z2, gs2, gl2, gr2, hC⟩, fr2⟩ := hq
    show WW _ _ _ 20 _ [.ref a] _
    have f2 : ∀ b, b < w1.2 → ∀ k, w2.1 k b = w1.1 k b := fun b hb k => fr2.1.1 b hb (fun z => z) k
    refine WW.run (pc' := 23) (lv' := [(1, .ref a), (0, .ref o)]) (st' := [.ref a, .ref o]) 3 rfl ?_
    refine WW.new (fs := [.int 0, .int 0, .int 0, .int 0, .null]) rfl kX1_257 wdBl7 (wd_le rfl) (wd_le rfl) (fun pb hpb => ?_)
    have hb2 : (wNew w2 7 pb (.inl [.int 0, .int 0, .int 0, .int 0, .null])).1 7 pb = some (.inl [.int 0, .int 0, .int 0, .int 0, .null]) := wNew_same _ _ _ _
    refine WW.run (pc' := 28) (lv' := [(1, .ref a), (0, .ref o)]) (st' := [.ref o, .ref pb, .ref pb, .ref a, .ref o]) 2 rfl ?_
    refine WW.callIN [.ref o] pb [.ref pb, .ref a, .ref o] rfl mX1_259 (sY_init hb2 (o := o)) rfl rfl (wd_le rfl) (wd_le rfl) (wd_le rfl) (wd_le rfl) (fun o w' hq => ?_)
    obtain ⟨rfl, hw9⟩ := hq
    show WW _ _ _ 31 _ [.ref pb, .ref a, .ref o] _
    rw [hw9]
    clear hw9 w'
    rw [wNew_put]
    obtain ⟨u2, hu2⟩ : ∃ z, z = wNew w2 7 pb (.inl (yO o 0 (0, 0, 0))) := ⟨_, rfl⟩
    rw [← hu2]
    have e2 : u2.1 7 pb = some (.inl (yO o 0 (0, 0, 0))) := by rw [hu2]; exact wNew_same _ _ _ _
    have f3 : ∀ b, b < w1.2 → ∀ k, u2.1 k b = w1.1 k b := fun b hb k => by rw [hu2]; exact (wNew_ne (by have := fr2.2; omega)).trans (f2 b hb k)
    have z2 : w1.2 ≤ u2.2 := by rw [hu2]; show w1.2 ≤ pb + 1; have := fr2.2; omega
    have hY1 : yI w1 o inp n ic := hY.fr hol hil f1
    have hY2 : yI u2 o inp n ic := hY1.fr (Nat.lt_of_lt_of_le hol zz1) (Nat.lt_of_lt_of_le hil zz1) f3
    have hC2 : isS G u2 w1.2 a Z2 gs2 gl2 gr2 cur := by rw [hu2]; exact hC.keepK (fun k b p hp hk => (wPut_k (by rcases hk with e | e | e | e | ⟨e, -⟩ | ⟨e, -⟩ <;> omega)).trans hp)
    refine WW.run (pc' := 32) (lv' := [(1, .ref a), (0, .ref o)]) (st' := [.ref a, .ref pb, .ref a, .ref o]) 1 rfl ?_
    refine WW.callV [.ref a] pb [.ref a, .ref o] rfl mX1_262 (sY_commandsS hY2 e2 (Nat.lt_of_lt_of_le hol zz1) (Nat.lt_of_lt_of_le hil zz1) z2 (Nat.le_trans fr2.2 hpb) hK hC2 (hWf cs hK)) (wdRecv.obj e2 rfl) rfl rfl (wd_le rfl) (wd_le rfl) (wd_le rfl) (wd_le rfl) (fun o w3 hq => ?_)
    obtain ⟨⟨f4, z4⟩, hq⟩ := hq
    have f5 : ∀ b, b < w1.2 → ∀ k, w3.1 k b = w1.1 k b := fun b hb k => (f4 b hb k).trans (f3 b hb k)
    have F3 : ∀ k b p, w1.1 k b = some p → w3.1 k b = some p := fun k b p hp => (f5 b (ok.1 _ _ _ hp).2 k).trans hp
    have o3 := o1.old F3
    have d3 := o3.1
    rw [hI0] at d3
    have q3 : oFr inp w w3 := ⟨Nat.le_trans zz1 (Nat.le_trans z2 z4), fun k b p hp _ => F3 k b p (F1 k b p hp)⟩
    dsimp only
    cases hR : aRun cs 0 cur with
    | inl z =>
      rw [hR] at hq
      obtain ⟨x, b, rfl, t1, t2, t3, t4⟩ := hq
      show WX _ _ _ 32 _ [.ref a, .ref o] _ _ _
      refine WX.catch_ [] ⟨0, 39, 46, 266⟩ [⟨0, 39, 65, 279⟩, ⟨0, 39, 76, 0⟩, ⟨46, 77, 76, 0⟩] "LampLeaseOffice$CommandException" rfl (fun z hz => absurd hz List.not_mem_nil) rfl (by decide) q1450 nq1640 ?_
      refine WW.run (pc' := 49) (lv' := [(1, .ref x), (0, .ref o)]) (st' := [.ref x, .ref o]) 3 rfl ?_
      refine WW.get rfl fX1_268 t1 (show _ = some (.int (nI z.1)) from rfl) ?_
      refine WW.put [.ref st, .ref hl, va_rf sva, .ref inp, .int (nI n), .int (I 1), .int (nI z.1), .int (I 3), .ref sb] rfl pfX1_31 d3 (wd_le rfl) rfl rfl rfl ?_
      have d4 : (wPut w3 0 o (.inl [.ref st, .ref hl, va_rf sva, .ref inp, .int (nI n), .int (I 1), .int (nI z.1), .int (I 3), .ref sb])).1 0 o = some (.inl [.ref st, .ref hl, va_rf sva, .ref inp, .int (nI n), .int (I 1), .int (nI z.1), .int (I 3), .ref sb]) := wPut_same _ _ _ _
      have t5 : (wPut w3 0 o (.inl [.ref st, .ref hl, va_rf sva, .ref inp, .int (nI n), .int (I 1), .int (nI z.1), .int (I 3), .ref sb])).1 9 x = some (.inl (wdEp11 G b (nI z.1))) := (wPut_k (by decide)).trans t1
      have t6 : (wPut w3 0 o (.inl [.ref st, .ref hl, va_rf sva, .ref inp, .int (nI n), .int (I 1), .int (nI z.1), .int (I 3), .ref sb])).1 z.2 b = some (.inl []) := (wPut_k (by omega)).trans t2
      have o4 := o3.putO (va_up I 2 (nI z.1)) o3.2.2.1 o3.2.2.2.2.1
      have q4 : oFr inp w (wPut w3 0 o (.inl [.ref st, .ref hl, va_rf sva, .ref inp, .int (nI n), .int (I 1), .int (nI z.1), .int (I 3), .ref sb])) := q3.put (by intro z; rcases z with z | z | z | z | ⟨z, -⟩ <;> omega)
      have W4 : (wPut w3 0 o (.inl [.ref st, .ref hl, va_rf sva, .ref inp, .int (nI n), .int (I 1), .int (nI z.1), .int (I 3), .ref sb])) = wPut w3 0 o (.inl [.ref st, .ref hl, va_rf sva, .ref inp, .int (va_up I 2 (nI z.1) 0), .int (va_up I 2 (nI z.1) 1), .int (va_up I 2 (nI z.1) 2), .int (va_up I 2 (nI z.1) 3), .ref sb]) := by rw [← hI0]; rfl
      refine WW.run (pc' := 57) (lv' := [(1, .ref x), (0, .ref o)]) (st' := [.ref x, .ref o]) 2 rfl ?_
      refine WW.callV [] x [.ref o] rfl mX1_271 (sX_reason t4 t5 t6 (fun e => t3 e.symm)) (wdRecv.obj t5 rfl) rfl rfl (wd_le rfl) (wd_le rfl) (wd_le rfl) (wd_le rfl) (fun o w' hq => ?_)
      obtain ⟨rfl, hw9⟩ := hq
      show WW _ _ _ 60 _ [.int (rsN z.2), .ref o] _
      rw [hw9]
      clear hw9 w'
      refine WW.put [.ref st, .ref hl, va_rf sva, .ref inp, .int (nI n), .int (I 1), .int (nI z.1), .int (rsN z.2), .ref sb] rfl pfX1_275 d4 (wd_le rfl) rsN_nar rsN_fit rfl ?_
      have d5 : (wPut (wPut w3 0 o (.inl [.ref st, .ref hl, va_rf sva, .ref inp, .int (nI n), .int (I 1), .int (nI z.1), .int (I 3), .ref sb])) 0 o (.inl [.ref st, .ref hl, va_rf sva, .ref inp, .int (nI n), .int (I 1), .int (nI z.1), .int (rsN z.2), .ref sb])).1 0 o = some (.inl [.ref st, .ref hl, va_rf sva, .ref inp, .int (nI n), .int (I 1), .int (nI z.1), .int (rsN z.2), .ref sb]) := wPut_same _ _ _ _
      refine WW.run (pc' := 64) (lv' := [(1, .ref x), (0, .ref o)]) (st' := [.ref x]) 1 rfl ?_
      have o5 := o4.putO (va_up (va_up I 2 (nI z.1)) 3 (rsN z.2)) o4.2.2.1 o4.2.2.2.2.1
      have t7 : (wPut (wPut w3 0 o (.inl [.ref st, .ref hl, va_rf sva, .ref inp, .int (nI n), .int (I 1), .int (nI z.1), .int (I 3), .ref sb])) 0 o (.inl [.ref st, .ref hl, va_rf sva, .ref inp, .int (nI n), .int (I 1), .int (nI z.1), .int (rsN z.2), .ref sb])).1 9 x = some (.inl (wdEp11 G b (nI z.1))) := (wPut_k (by decide)).trans t5
      have q5 : oFr inp w (wPut (wPut w3 0 o (.inl [.ref st, .ref hl, va_rf sva, .ref inp, .int (nI n), .int (I 1), .int (nI z.1), .int (I 3), .ref sb])) 0 o (.inl [.ref st, .ref hl, va_rf sva, .ref inp, .int (nI n), .int (I 1), .int (nI z.1), .int (rsN z.2), .ref sb])) := q4.put (by intro z; rcases z with z | z | z | z | ⟨z, -⟩ <;> omega)
      refine WW.athrow rfl t7 rfl ?_
      refine WX.catchA [⟨0, 39, 46, 266⟩, ⟨0, 39, 65, 279⟩, ⟨0, 39, 76, 0⟩] ⟨46, 77, 76, 0⟩ [] rfl (fun z hz => Or.inl (xPre64 z hz)) rfl rfl ?_
      refine WW.run (pc' := 79) (lv' := [(3, .ref x), (1, .ref x), (0, .ref o)]) (st' := [.int (nI 0), .ref o]) 3 rfl ?_
      refine WW.put [.ref st, .ref hl, va_rf sva, .ref inp, .int (nI 0), .int (I 1), .int (nI z.1), .int (rsN z.2), .ref sb] rfl pfX1_251 d5 (wd_le rfl) rfl rfl rfl ?_
      have d6 : (wPut (wPut (wPut w3 0 o (.inl [.ref st, .ref hl, va_rf sva, .ref inp, .int (nI n), .int (I 1), .int (nI z.1), .int (I 3), .ref sb])) 0 o (.inl [.ref st, .ref hl, va_rf sva, .ref inp, .int (nI n), .int (I 1), .int (nI z.1), .int (rsN z.2), .ref sb])) 0 o (.inl [.ref st, .ref hl, va_rf sva, .ref inp, .int (nI 0), .int (I 1), .int (nI z.1), .int (rsN z.2), .ref sb])).1 0 o = some (.inl [.ref st, .ref hl, va_rf sva, .ref inp, .int (nI 0), .int (I 1), .int (nI z.1), .int (rsN z.2), .ref sb]) := wPut_same _ _ _ _
      refine WW.run (pc' := 83) (lv' := [(3, .ref x), (1, .ref x), (0, .ref o)]) (st' := [.ref x]) 1 rfl ?_
      have o6 := o5.putO (va_up (va_up (va_up I 2 (nI z.1)) 3 (rsN z.2)) 0 (nI 0)) o5.2.2.1 o5.2.2.2.2.1
      have t8 : (wPut (wPut (wPut w3 0 o (.inl [.ref st, .ref hl, va_rf sva, .ref inp, .int (nI n), .int (I 1), .int (nI z.1), .int (I 3), .ref sb])) 0 o (.inl [.ref st, .ref hl, va_rf sva, .ref inp, .int (nI n), .int (I 1), .int (nI z.1), .int (rsN z.2), .ref sb])) 0 o (.inl [.ref st, .ref hl, va_rf sva, .ref inp, .int (nI 0), .int (I 1), .int (nI z.1), .int (rsN z.2), .ref sb])).1 9 x = some (.inl (wdEp11 G b (nI z.1))) := (wPut_k (by decide)).trans t7
      have q6 : oFr inp w (wPut (wPut (wPut w3 0 o (.inl [.ref st, .ref hl, va_rf sva, .ref inp, .int (nI n), .int (I 1), .int (nI z.1), .int (I 3), .ref sb])) 0 o (.inl [.ref st, .ref hl, va_rf sva, .ref inp, .int (nI n), .int (I 1), .int (nI z.1), .int (rsN z.2), .ref sb])) 0 o (.inl [.ref st, .ref hl, va_rf sva, .ref inp, .int (nI 0), .int (I 1), .int (nI z.1), .int (rsN z.2), .ref sb])) := q5.put (by intro z; rcases z with z | z | z | z | ⟨z, -⟩ <;> omega)
      refine WW.athrow rfl t8 rfl ?_
      simp only [wPut_put] at t8 q6 o6 ⊢
      exact WX.out xOut83 ⟨q6, ⟨x, b, rfl, t8⟩, _, _, _, _, _, o6⟩
    | inr T =>
      rw [hR] at hq
      obtain ⟨rfl, Z3, gs3, gl3, gr3, hC3⟩ := hq
      have hso : isSo G w3 hl harr a T := isSo.made hC3 ok o1.2.1
      show WW _ _ _ 35 _ [.int (nI cs.length), .ref a, .ref o] _
      refine WW.callV [.ref a, .int (nI cs.length)] o [] rfl mX1_78 (cO_record o3 h8 hso (nI cs.length)) (wdRecv.obj o3.1 rfl) rfl rfl (wd_le rfl) (wd_le rfl) (wd_le rfl) (wd_le rfl) (fun o w4 hq => ?_)
      obtain ⟨rfl, ⟨st4, harr4, hg4, sva4, sbarr4, o4⟩, q4⟩ := hq
      show WW _ _ _ 38 _ [.int (nI cs.length)] _
      have d4 := o4.1
      rw [hI0] at d4
      have o5 := o4.putO (va_up I 0 (nI 0)) o4.2.2.1 o4.2.2.2.2.1
      refine WW.run (pc' := 41) (lv' := [(2, .int (nI cs.length)), (1, .ref a), (0, .ref o)]) (st' := [.int (nI 0), .ref o]) 3 rfl ?_
      refine WW.put [.ref st4, .ref hl, va_rf sva4, .ref inp, .int (nI 0), .int (I 1), .int (I 2), .int (I 3), .ref sb] rfl pfX1_251 d4 (wd_le rfl) rfl rfl rfl ?_
      have d5 : (wPut w4 0 o (.inl [.ref st4, .ref hl, va_rf sva4, .ref inp, .int (nI 0), .int (I 1), .int (I 2), .int (I 3), .ref sb])).1 0 o = some (.inl [.ref st4, .ref hl, va_rf sva4, .ref inp, .int (nI 0), .int (I 1), .int (I 2), .int (I 3), .ref sb]) := wPut_same _ _ _ _
      refine WW.run (pc' := 45) (lv' := [(2, .int (nI cs.length)), (1, .ref a), (0, .ref o)]) (st' := [.int (nI cs.length)]) 1 rfl ?_
      exact WW.iret rfl rfl rfl ⟨(q3.trans q4).put (by intro z; rcases z with z | z | z | z | ⟨z, -⟩ <;> omega), rfl, _, _, _, _, _, o5⟩
/-- the component's text of commands, answered -/
def oU (G : wdG) (o hl inp sb : Nat) (I : Nat → Int32) (cur : aS) (hn : Nat) (hist : Nat → aS) (sv : Option aS) (ic : Nat → Int32) (on : Nat) (oc : Nat → Int32) (n : Nat) (w : wdW) : wdO → wdW → Prop := fun q w' => oFr inp w w' ∧ match kAll ic n with
  | .inl e => (∃ x, q = .inr (eN 14, x)) ∧ isOf G w' o hl inp sb (va_up (va_up I 1 (nI e)) 0 (nI 0)) cur hn hist sv ic on oc
  | .inr cs => match aRun cs 0 cur with
    | .inl z => (∃ x, q = .inr (eN 17, x)) ∧ isOf G w' o hl inp sb (va_up (va_up (va_up I 2 (nI z.1)) 3 (rsN z.2)) 0 (nI 0)) cur hn hist sv ic on oc
    | .inr T => q = .inl (some (.int (nI cs.length))) ∧ isOf G w' o hl inp sb (va_up I 0 (nI 0)) T (tRec hn hist cur).1 (tRec hn hist cur).2 sv ic on oc
theorem zOut : ∀ pc, pc = 10 ∨ pc = 20 → ∀ z ∈ tableOf MX1_runCommands.hh, covers z pc = false := by
  rintro pc (rfl | rfl) <;> decide
theorem cO_runCommands (h : isOf G w o hl inp sb I cur hn hist sv ic on oc) (h8 : hn ≤ 8) (hn60 : n ≤ 60) (hI0 : I 0 = nI n) (hch : ∀ j, j < n → narrow .char (.int (ic j)) = .int (ic j)) (hW : aWf cur) (hWf : ∀ cs, kAll ic n = .inr cs → kWf cs cur) : Sp l G MX1_runCommands 14 19110 94020 [.ref o] w (oU G o hl inp sb I cur hn hist sv ic on oc n w) := by
  have g := h
  obtain ⟨st, harr, hg, sva, sbarr, h'⟩ := h
  have g1 := h'.1
  refine Sp.ofH rfl (by decide +kernel) kX1_runCommands (wd_le rfl) ?_
  refine WW.run (pc' := 1) (lv' := [(0, .ref o)]) (st' := [.ref o]) 1 rfl ?_
  refine WW.callVH [] o [] rfl mX1_284 (cO_carryOut g h8 hn60 hI0 hch hW hWf) (wdRecv.obj g1 rfl) rfl rfl (wd_le rfl) (wd_le rfl) (wd_le rfl) (wd_le rfl) (fun o w1 hq => ?_)
  unfold oT at hq
  unfold oU
  cases hK : kAll ic n with
  | inl e =>
    rw [hK] at hq
    obtain ⟨f1, ⟨x, rfl, k3⟩, k4⟩ := hq
    show WX _ _ _ 1 _ [] _ _ _
    refine WX.catch_ [] ⟨0, 4, 5, 287⟩ [] "LampLeaseOffice$TextException" rfl (fun z hz => absurd hz List.not_mem_nil) rfl (by decide) q1445 nq2203 ?_
    refine WW.run (pc' := 7) (lv' := [(1, .ref x), (0, .ref o)]) (st' := [.ref x]) 2 rfl ?_
    refine WW.instNo rfl k3 rfl q1450 (List.mem_of_getElem? (i := 70) rfl) ?_
    refine WW.ok fun ok => ?_
    replace ok : wdOk G w1 := ok
    refine WW.callS [.int 0] [] rfl mX1_289 (sO_requireArgument false) rfl rfl (wd_le rfl) (wd_le rfl) (wd_le rfl) (wd_le rfl) (fun o w2 hq => ?_)
    obtain ⟨y, y1, rfl, y3, y4⟩ := hq
    show WX _ _ _ 10 _ [] _ _ _
    have f2 : oFr inp w w2 := f1.trans (oFr.of0 ok y3)
    exact WX.out (zOut _ (Or.inl rfl)) ⟨f2, ⟨y, rfl⟩, k4.fr0 ok y3⟩
  | inr cs =>
    rw [hK] at hq
    dsimp only at hq ⊢
    cases hR : aRun cs 0 cur with
    | inr T =>
      rw [hR] at hq
      obtain ⟨f1, rfl, k4⟩ := hq
      show WW _ _ _ 4 _ [.int (nI cs.length)] _
      exact WW.iret rfl rfl rfl ⟨f1, rfl, k4⟩
    | inl z =>
      rw [hR] at hq
      obtain ⟨f1, ⟨x, b, rfl, k3⟩, k4⟩ := hq
      show WX _ _ _ 1 _ [] _ _ _
      refine WX.catch_ [] ⟨0, 4, 5, 287⟩ [] "LampLeaseOffice$TextException" rfl (fun z hz => absurd hz List.not_mem_nil) rfl (by decide) q1445 nq2202 ?_
      refine WW.run (pc' := 7) (lv' := [(1, .ref x), (0, .ref o)]) (st' := [.ref x]) 2 rfl ?_
      refine WW.instY rfl k3 rfl q1450 (Or.inl rfl) ?_
      refine WW.callS [.int 1] [] rfl mX1_289 (sO_requireArgument true) rfl rfl (wd_le rfl) (wd_le rfl) (wd_le rfl) (wd_le rfl) (fun o w2 hq => ?_)
      obtain ⟨rfl, hw2⟩ := hq
      show WW _ _ _ 13 _ [] _
      rw [hw2]
      refine WW.ok fun ok => ?_
      replace ok : wdOk G w1 := ok
      refine WW.make0 rfl rfl rfl mkX1_55 moX1_55 (ci := 17) rfl (by decide) (wd_le rfl) (wd_le rfl) (wd_le rfl) (wd_le rfl) (wd_le rfl) (wd_le rfl) (fun y hy => ?_)
      have hy2 : (wNew w1 17 y (.inl [])).1 17 y = some (.inl []) := wNew_same _ _ _ _
      have fr : wFr nP w1 (wNew w1 17 y (.inl [])) := (wFr.refl _ _).new hy
      refine WW.athrow rfl hy2 rfl ?_
      exact WX.out (zOut _ (Or.inr rfl)) ⟨f1.trans (oFr.of0 ok fr), ⟨y, rfl⟩, k4.fr0 ok fr⟩
end
