set_option maxRecDepth 100000
/-- a command's numbers are read -/
def yA (G : wdG) (o pa k : Nat) (r : Nat ⊕ (Nat × kV)) (w : wdW) : wdO → wdW → Prop := fun q w' => match r with
  | .inl e => yE G pa e w q w'
  | .inr z => q = .inl none ∧ ∃ u, kEq k u z.2 ∧ w' = wPut w 7 pa (.inl (yO o z.1 u))
/-- .. and it is carried out -/
def yC (G : wdG) (lo a : Nat) (es : List Nat) (r : aR) (w : wdW) : wdO → wdW → Prop := fun o w' => match r with
  | .inl p => ∃ ci, es[p - 1]? = some ci ∧ tQ (hP lo) ci w o w'
  | .inr q => o = .inl none ∧ (∃ Z gs gl gr, isS G w' lo a Z gs gl gr q.2) ∧ wFr (hP lo) w w'
section
variable {l : Launch} {G : wdG} {w : wdW} {o inp n pa p : Nat} {ic : Nat → Int32} {v : kV}
theorem sY_readNumbers0 (h : yI w o inp n ic) (hP : w.1 7 pa = some (.inl (yO o p v))) (hp : p ≤ 60) : Sp l G MX8_readNumbers 10 6 72 [.ref pa, .ref (wdSa G 23)] w (yA G o pa 0 (kArg ic n 0 p) w) := by
  refine Sp.of rfl (by decide +kernel) kX8_readNumbers (wd_le rfl) ?_
  refine WW.run (pc' := 5) (lv' := [(3, .int (-1)), (2, .ref (wdSa G 23)), (0, .ref pa), (1, .ref (wdSa G 23))]) (st' := [.ref (wdSa G 23)]) 5 rfl ?_
  refine WW.callV [] (wdSa G 23) [] rfl mX8_61 (sG_hash (i := 23) rfl (by decide)) (wdRecv.str (i := 23) rfl) rfl rfl (wd_le rfl) (wd_le rfl) (wd_le rfl) (wd_le rfl) (fun o w' hq => ?_)
  obtain ⟨rfl, hw9⟩ := hq
  show WW _ _ _ 8 _ [.int (3529276 : Int32)] _
  rw [hw9]
  clear hw9 w'
  refine WW.lookup (tgt := 68) (off := 60) rfl (by decide) (by decide +kernel) rfl ?_
  refine WW.run (pc' := 69) (lv' := [(3, .int (-1)), (2, .ref (wdSa G 23)), (0, .ref pa), (1, .ref (wdSa G 23))]) (st' := [.ref (wdSa G 23)]) 1 rfl ?_
  refine WW.ldcS (i := 23) rfl rfl ⟨rfl, rfl⟩ ?_
  refine WW.callV [.ref (wdSa G 23)] (wdSa G 23) [] rfl mX8_67 (sG_equals (wdSa G 23)) (wdRecv.str (i := 23) rfl) rfl rfl (wd_le rfl) (wd_le rfl) (wd_le rfl) (wd_le rfl) (fun o w' hq => ?_)
  obtain ⟨rfl, hw9⟩ := hq
  show WW _ _ _ 74 _ [.int (nI 1)] _
  rw [hw9]
  clear hw9 w'
  refine WW.if_eq (tgt := 149) rfl rfl (fun hno => absurd hno (by decide)) (fun _ => ?_)
  refine WW.run (pc' := 150) (lv' := [(3, .int (nI 0)), (2, .ref (wdSa G 23)), (0, .ref pa), (1, .ref (wdSa G 23))]) (st' := [.int (nI 0)]) 4 rfl ?_
  refine WW.tableIn (tgt := 188) (off := 38) rfl (by decide +kernel) (by decide +kernel) (by decide +kernel) rfl ?_
  refine WW.run (pc' := 290) (lv' := [(3, .int (nI 0)), (2, .ref (wdSa G 23)), (0, .ref pa), (1, .ref (wdSa G 23))]) (st' := []) 1 rfl ?_
  have e0 : w = wPut w 7 pa (.inl (yO o p v)) := (wPut_self hP).symm
  exact WW.vret rfl rfl ⟨rfl, v, ⟨fun q => absurd q (by decide), fun q => absurd q (by decide), fun q => absurd q (by decide)⟩, e0⟩
theorem sY_readNumbers1 (h : yI w o inp n ic) (hP : w.1 7 pa = some (.inl (yO o p v))) (hp : p ≤ 60) : Sp l G MX8_readNumbers 10 6 72 [.ref pa, .ref (wdSa G 18)] w (yA G o pa 1 (kArg ic n 1 p) w) := by
  refine Sp.of rfl (by decide +kernel) kX8_readNumbers (wd_le rfl) ?_
  refine WW.run (pc' := 5) (lv' := [(3, .int (-1)), (2, .ref (wdSa G 18)), (0, .ref pa), (1, .ref (wdSa G 18))]) (st' := [.ref (wdSa G 18)]) 5 rfl ?_
  refine WW.callV [] (wdSa G 18) [] rfl mX8_61 (sG_hash (i := 18) rfl (by decide)) (wdRecv.str (i := 18) rfl) rfl rfl (wd_le rfl) (wd_le rfl) (wd_le rfl) (wd_le rfl) (fun o w' hq => ?_)
  obtain ⟨rfl, hw9⟩ := hq
  show WW _ _ _ 8 _ [.int (3314136 : Int32)] _
  rw [hw9]
  clear hw9 w'
  refine WW.lookup (tgt := 82) (off := 74) rfl (by decide) (by decide +kernel) rfl ?_
  refine WW.run (pc' := 83) (lv' := [(3, .int (-1)), (2, .ref (wdSa G 18)), (0, .ref pa), (1, .ref (wdSa G 18))]) (st' := [.ref (wdSa G 18)]) 1 rfl ?_
  refine WW.ldcS (i := 18) rfl rfl ⟨rfl, rfl⟩ ?_
  refine WW.callV [.ref (wdSa G 18)] (wdSa G 18) [] rfl mX8_67 (sG_equals (wdSa G 18)) (wdRecv.str (i := 18) rfl) rfl rfl (wd_le rfl) (wd_le rfl) (wd_le rfl) (wd_le rfl) (fun o w' hq => ?_)
  obtain ⟨rfl, hw9⟩ := hq
  show WW _ _ _ 88 _ [.int (nI 1)] _
  rw [hw9]
  clear hw9 w'
  refine WW.if_eq (tgt := 149) rfl rfl (fun hno => absurd hno (by decide)) (fun _ => ?_)
  refine WW.run (pc' := 150) (lv' := [(3, .int (nI 1)), (2, .ref (wdSa G 18)), (0, .ref pa), (1, .ref (wdSa G 18))]) (st' := [.int (nI 1)]) 4 rfl ?_
  refine WW.tableIn (tgt := 191) (off := 41) rfl (by decide +kernel) (by decide +kernel) (by decide +kernel) rfl ?_
  refine WW.run (pc' := 194) (lv' := [(3, .int (nI 1)), (2, .ref (wdSa G 18)), (0, .ref pa), (1, .ref (wdSa G 18))]) (st' := [.int (nI 1), .ref pa, .ref pa]) 3 rfl ?_
  refine WW.callV [.int (nI 1)] pa [.ref pa] rfl mX8_71 (sY_number h hP hp (k := 0) (by decide)) (wdRecv.obj hP rfl) rfl rfl (wd_le rfl) (wd_le rfl) (wd_le rfl) (wd_le rfl) (fun o w' hq => ?_)
  cases hr0 : kNum ic n 0 p with
  | inl e =>
    rw [hr0] at hq
    obtain ⟨x, g1, rfl, g3, g4⟩ := hq
    show WX _ _ _ 194 _ [.ref pa] _ _ _
    rw [show kArg ic n 1 p  = .inl e by simp only [kArg, kOne, hr0]]
    exact WX.out (fun _ h => nomatch h) ⟨x, g1, rfl, g3, g4⟩
  | inr z0 =>
    obtain ⟨p0, a0⟩ := z0
    rw [hr0] at hq
    obtain ⟨rfl, hw9⟩ := hq
    dsimp only at hw9
    show WW _ _ _ 197 _ [.int a0, .ref pa] _
    rw [hw9]
    clear hw9 w'
    have e0 : (wPut w 7 pa (.inl (yO o p0 (v.1, v.2.1, v.2.2)))).1 7 pa = some (.inl (yO o p0 (v.1, v.2.1, v.2.2))) := wPut_same _ _ _ _
    refine WW.put [.int (nI p0), .int a0, .int v.2.1, .int v.2.2, .ref o] rfl pfX8_75 e0 (wd_le rfl) rfl rfl rfl ?_
    have f0 : (wPut (wPut w 7 pa (.inl (yO o p0 (v.1, v.2.1, v.2.2)))) 7 pa (.inl [.int (nI p0), .int a0, .int v.2.1, .int v.2.2, .ref o])).1 7 pa = some (.inl [.int (nI p0), .int a0, .int v.2.1, .int v.2.2, .ref o]) := wPut_same _ _ _ _
    rw [wPut_put]
    have F0 : (wPut w 7 pa (.inl (yO o p0 (a0, v.2.1, v.2.2)))).1 7 pa = some (.inl (yO o p0 (a0, v.2.1, v.2.2))) := wPut_same _ _ _ _
    have hI0 := h.put (pa := pa) (p := .inl (yO o p0 (a0, v.2.1, v.2.2)))
    have hb0 : p0 ≤ 60 := Nat.le_trans (kNum_end hr0).2 h.1.1
    refine WW.run (pc' := 290) (lv' := [(3, .int (nI 1)), (2, .ref (wdSa G 18)), (0, .ref pa), (1, .ref (wdSa G 18))]) (st' := []) 1 rfl ?_
    rw [show kArg ic n 1 p  = .inr (p0, a0, nI 0, nI 0) by simp only [kArg, kOne, hr0]]
    exact WW.vret rfl rfl ⟨rfl, (a0, v.2.1, v.2.2), ⟨fun _ => rfl, fun q => absurd q (by decide), fun q => absurd q (by decide)⟩, rfl⟩
theorem sY_readNumbers2 (h : yI w o inp n ic) (hP : w.1 7 pa = some (.inl (yO o p v))) (hp : p ≤ 60) : Sp l G MX8_readNumbers 10 6 72 [.ref pa, .ref (wdSa G 21)] w (yA G o pa 2 (kArg ic n 2 p) w) := by
  refine Sp.of rfl (by decide +kernel) kX8_readNumbers (wd_le rfl) ?_
  refine WW.run (pc' := 5) (lv' := [(3, .int (-1)), (2, .ref (wdSa G 21)), (0, .ref pa), (1, .ref (wdSa G 21))]) (st' := [.ref (wdSa G 21)]) 5 rfl ?_
  refine WW.callV [] (wdSa G 21) [] rfl mX8_61 (sG_hash (i := 21) rfl (by decide)) (wdRecv.str (i := 21) rfl) rfl rfl (wd_le rfl) (wd_le rfl) (wd_le rfl) (wd_le rfl) (fun o w' hq => ?_)
  obtain ⟨rfl, hw9⟩ := hq
  show WW _ _ _ 8 _ [.int (3092207 : Int32)] _
  rw [hw9]
  clear hw9 w'
  refine WW.lookup (tgt := 96) (off := 88) rfl (by decide) (by decide +kernel) rfl ?_
  refine WW.run (pc' := 97) (lv' := [(3, .int (-1)), (2, .ref (wdSa G 21)), (0, .ref pa), (1, .ref (wdSa G 21))]) (st' := [.ref (wdSa G 21)]) 1 rfl ?_
  refine WW.ldcS (i := 21) rfl rfl ⟨rfl, rfl⟩ ?_
  refine WW.callV [.ref (wdSa G 21)] (wdSa G 21) [] rfl mX8_67 (sG_equals (wdSa G 21)) (wdRecv.str (i := 21) rfl) rfl rfl (wd_le rfl) (wd_le rfl) (wd_le rfl) (wd_le rfl) (fun o w' hq => ?_)
  obtain ⟨rfl, hw9⟩ := hq
  show WW _ _ _ 102 _ [.int (nI 1)] _
  rw [hw9]
  clear hw9 w'
  refine WW.if_eq (tgt := 149) rfl rfl (fun hno => absurd hno (by decide)) (fun _ => ?_)
  refine WW.run (pc' := 150) (lv' := [(3, .int (nI 2)), (2, .ref (wdSa G 21)), (0, .ref pa), (1, .ref (wdSa G 21))]) (st' := [.int (nI 2)]) 4 rfl ?_
  refine WW.tableIn (tgt := 191) (off := 41) rfl (by decide +kernel) (by decide +kernel) (by decide +kernel) rfl ?_
  refine WW.run (pc' := 194) (lv' := [(3, .int (nI 2)), (2, .ref (wdSa G 21)), (0, .ref pa), (1, .ref (wdSa G 21))]) (st' := [.int (nI 1), .ref pa, .ref pa]) 3 rfl ?_
  refine WW.callV [.int (nI 1)] pa [.ref pa] rfl mX8_71 (sY_number h hP hp (k := 0) (by decide)) (wdRecv.obj hP rfl) rfl rfl (wd_le rfl) (wd_le rfl) (wd_le rfl) (wd_le rfl) (fun o w' hq => ?_)
  cases hr0 : kNum ic n 0 p with
  | inl e =>
    rw [hr0] at hq
    obtain ⟨x, g1, rfl, g3, g4⟩ := hq
    show WX _ _ _ 194 _ [.ref pa] _ _ _
    rw [show kArg ic n 2 p  = .inl e by simp only [kArg, kOne, hr0]]
    exact WX.out (fun _ h => nomatch h) ⟨x, g1, rfl, g3, g4⟩
  | inr z0 =>
    obtain ⟨p0, a0⟩ := z0
    rw [hr0] at hq
    obtain ⟨rfl, hw9⟩ := hq
    dsimp only at hw9
    show WW _ _ _ 197 _ [.int a0, .ref pa] _
    rw [hw9]
    clear hw9 w'
    have e0 : (wPut w 7 pa (.inl (yO o p0 (v.1, v.2.1, v.2.2)))).1 7 pa = some (.inl (yO o p0 (v.1, v.2.1, v.2.2))) := wPut_same _ _ _ _
    refine WW.put [.int (nI p0), .int a0, .int v.2.1, .int v.2.2, .ref o] rfl pfX8_75 e0 (wd_le rfl) rfl rfl rfl ?_
    have f0 : (wPut (wPut w 7 pa (.inl (yO o p0 (v.1, v.2.1, v.2.2)))) 7 pa (.inl [.int (nI p0), .int a0, .int v.2.1, .int v.2.2, .ref o])).1 7 pa = some (.inl [.int (nI p0), .int a0, .int v.2.1, .int v.2.2, .ref o]) := wPut_same _ _ _ _
    rw [wPut_put]
    have F0 : (wPut w 7 pa (.inl (yO o p0 (a0, v.2.1, v.2.2)))).1 7 pa = some (.inl (yO o p0 (a0, v.2.1, v.2.2))) := wPut_same _ _ _ _
    have hI0 := h.put (pa := pa) (p := .inl (yO o p0 (a0, v.2.1, v.2.2)))
    have hb0 : p0 ≤ 60 := Nat.le_trans (kNum_end hr0).2 h.1.1
    refine WW.run (pc' := 290) (lv' := [(3, .int (nI 2)), (2, .ref (wdSa G 21)), (0, .ref pa), (1, .ref (wdSa G 21))]) (st' := []) 1 rfl ?_
    rw [show kArg ic n 2 p  = .inr (p0, a0, nI 0, nI 0) by simp only [kArg, kOne, hr0]]
    exact WW.vret rfl rfl ⟨rfl, (a0, v.2.1, v.2.2), ⟨fun _ => rfl, fun q => absurd q (by decide), fun q => absurd q (by decide)⟩, rfl⟩
theorem sY_readNumbers3 (h : yI w o inp n ic) (hP : w.1 7 pa = some (.inl (yO o p v))) (hp : p ≤ 60) : Sp l G MX8_readNumbers 10 6 72 [.ref pa, .ref (wdSa G 19)] w (yA G o pa 3 (kArg ic n 3 p) w) := by
  refine Sp.of rfl (by decide +kernel) kX8_readNumbers (wd_le rfl) ?_
  refine WW.run (pc' := 5) (lv' := [(3, .int (-1)), (2, .ref (wdSa G 19)), (0, .ref pa), (1, .ref (wdSa G 19))]) (st' := [.ref (wdSa G 19)]) 5 rfl ?_
  refine WW.callV [] (wdSa G 19) [] rfl mX8_61 (sG_hash (i := 19) rfl (by decide)) (wdRecv.str (i := 19) rfl) rfl rfl (wd_le rfl) (wd_le rfl) (wd_le rfl) (wd_le rfl) (fun o w' hq => ?_)
  obtain ⟨rfl, hw9⟩ := hq
  show WW _ _ _ 8 _ [.int (110034 : Int32)] _
  rw [hw9]
  clear hw9 w'
  refine WW.lookup (tgt := 110) (off := 102) rfl (by decide) (by decide +kernel) rfl ?_
  refine WW.run (pc' := 111) (lv' := [(3, .int (-1)), (2, .ref (wdSa G 19)), (0, .ref pa), (1, .ref (wdSa G 19))]) (st' := [.ref (wdSa G 19)]) 1 rfl ?_
  refine WW.ldcS (i := 19) rfl rfl ⟨rfl, rfl⟩ ?_
  refine WW.callV [.ref (wdSa G 19)] (wdSa G 19) [] rfl mX8_67 (sG_equals (wdSa G 19)) (wdRecv.str (i := 19) rfl) rfl rfl (wd_le rfl) (wd_le rfl) (wd_le rfl) (wd_le rfl) (fun o w' hq => ?_)
  obtain ⟨rfl, hw9⟩ := hq
  show WW _ _ _ 116 _ [.int (nI 1)] _
  rw [hw9]
  clear hw9 w'
  refine WW.if_eq (tgt := 149) rfl rfl (fun hno => absurd hno (by decide)) (fun _ => ?_)
  refine WW.run (pc' := 150) (lv' := [(3, .int (nI 3)), (2, .ref (wdSa G 19)), (0, .ref pa), (1, .ref (wdSa G 19))]) (st' := [.int (nI 3)]) 4 rfl ?_
  refine WW.tableIn (tgt := 203) (off := 53) rfl (by decide +kernel) (by decide +kernel) (by decide +kernel) rfl ?_
  refine WW.run (pc' := 206) (lv' := [(3, .int (nI 3)), (2, .ref (wdSa G 19)), (0, .ref pa), (1, .ref (wdSa G 19))]) (st' := [.int (nI 3), .ref pa, .ref pa]) 3 rfl ?_
  refine WW.callV [.int (nI 3)] pa [.ref pa] rfl mX8_71 (sY_number h hP hp (k := 2) (by decide)) (wdRecv.obj hP rfl) rfl rfl (wd_le rfl) (wd_le rfl) (wd_le rfl) (wd_le rfl) (fun o w' hq => ?_)
  cases hr0 : kNum ic n 2 p with
  | inl e =>
    rw [hr0] at hq
    obtain ⟨x, g1, rfl, g3, g4⟩ := hq
    show WX _ _ _ 206 _ [.ref pa] _ _ _
    rw [show kArg ic n 3 p  = .inl e by simp only [kArg, kOne, hr0]]
    exact WX.out (fun _ h => nomatch h) ⟨x, g1, rfl, g3, g4⟩
  | inr z0 =>
    obtain ⟨p0, a0⟩ := z0
    rw [hr0] at hq
    obtain ⟨rfl, hw9⟩ := hq
    dsimp only at hw9
    show WW _ _ _ 209 _ [.int a0, .ref pa] _
    rw [hw9]
    clear hw9 w'
    have e0 : (wPut w 7 pa (.inl (yO o p0 (v.1, v.2.1, v.2.2)))).1 7 pa = some (.inl (yO o p0 (v.1, v.2.1, v.2.2))) := wPut_same _ _ _ _
    refine WW.put [.int (nI p0), .int a0, .int v.2.1, .int v.2.2, .ref o] rfl pfX8_75 e0 (wd_le rfl) rfl rfl rfl ?_
    have f0 : (wPut (wPut w 7 pa (.inl (yO o p0 (v.1, v.2.1, v.2.2)))) 7 pa (.inl [.int (nI p0), .int a0, .int v.2.1, .int v.2.2, .ref o])).1 7 pa = some (.inl [.int (nI p0), .int a0, .int v.2.1, .int v.2.2, .ref o]) := wPut_same _ _ _ _
    rw [wPut_put]
    have F0 : (wPut w 7 pa (.inl (yO o p0 (a0, v.2.1, v.2.2)))).1 7 pa = some (.inl (yO o p0 (a0, v.2.1, v.2.2))) := wPut_same _ _ _ _
    have hI0 := h.put (pa := pa) (p := .inl (yO o p0 (a0, v.2.1, v.2.2)))
    have hb0 : p0 ≤ 60 := Nat.le_trans (kNum_end hr0).2 h.1.1
    refine WW.run (pc' := 290) (lv' := [(3, .int (nI 3)), (2, .ref (wdSa G 19)), (0, .ref pa), (1, .ref (wdSa G 19))]) (st' := []) 1 rfl ?_
    rw [show kArg ic n 3 p  = .inr (p0, a0, nI 0, nI 0) by simp only [kArg, kOne, hr0]]
    exact WW.vret rfl rfl ⟨rfl, (a0, v.2.1, v.2.2), ⟨fun _ => rfl, fun q => absurd q (by decide), fun q => absurd q (by decide)⟩, rfl⟩
theorem sY_readNumbers4 (h : yI w o inp n ic) (hP : w.1 7 pa = some (.inl (yO o p v))) (hp : p ≤ 60) : Sp l G MX8_readNumbers 10 6 72 [.ref pa, .ref (wdSa G 22)] w (yA G o pa 4 (kArg ic n 4 p) w) := by
  refine Sp.of rfl (by decide +kernel) kX8_readNumbers (wd_le rfl) ?_
  refine WW.run (pc' := 5) (lv' := [(3, .int (-1)), (2, .ref (wdSa G 22)), (0, .ref pa), (1, .ref (wdSa G 22))]) (st' := [.ref (wdSa G 22)]) 5 rfl ?_
  refine WW.callV [] (wdSa G 22) [] rfl mX8_61 (sG_hash (i := 22) rfl (by decide)) (wdRecv.str (i := 22) rfl) rfl rfl (wd_le rfl) (wd_le rfl) (wd_le rfl) (wd_le rfl) (fun o w' hq => ?_)
  obtain ⟨rfl, hw9⟩ := hq
  show WW _ _ _ 8 _ [.int (3641717 : Int32)] _
  rw [hw9]
  clear hw9 w'
  refine WW.lookup (tgt := 124) (off := 116) rfl (by decide) (by decide +kernel) rfl ?_
  refine WW.run (pc' := 125) (lv' := [(3, .int (-1)), (2, .ref (wdSa G 22)), (0, .ref pa), (1, .ref (wdSa G 22))]) (st' := [.ref (wdSa G 22)]) 1 rfl ?_
  refine WW.ldcS (i := 22) rfl rfl ⟨rfl, rfl⟩ ?_
  refine WW.callV [.ref (wdSa G 22)] (wdSa G 22) [] rfl mX8_67 (sG_equals (wdSa G 22)) (wdRecv.str (i := 22) rfl) rfl rfl (wd_le rfl) (wd_le rfl) (wd_le rfl) (wd_le rfl) (fun o w' hq => ?_)
  obtain ⟨rfl, hw9⟩ := hq
  show WW _ _ _ 130 _ [.int (nI 1)] _
  rw [hw9]
  clear hw9 w'
  refine WW.if_eq (tgt := 149) rfl rfl (fun hno => absurd hno (by decide)) (fun _ => ?_)
  refine WW.run (pc' := 150) (lv' := [(3, .int (nI 4)), (2, .ref (wdSa G 22)), (0, .ref pa), (1, .ref (wdSa G 22))]) (st' := [.int (nI 4)]) 4 rfl ?_
  refine WW.tableIn (tgt := 215) (off := 65) rfl (by decide +kernel) (by decide +kernel) (by decide +kernel) rfl ?_
  refine WW.run (pc' := 221) (lv' := [(3, .int (nI 4)), (2, .ref (wdSa G 22)), (0, .ref pa), (1, .ref (wdSa G 22))]) (st' := [.int (nI 32), .int (nI 32), .ref pa, .ref pa]) 4 rfl ?_
  refine WW.callV [.int (nI 32), .int (nI 32)] pa [.ref pa] rfl mX8_30 (sY_sees h hP hp (nI 32) (nI 32)) (wdRecv.obj hP rfl) rfl rfl (wd_le rfl) (wd_le rfl) (wd_le rfl) (wd_le rfl) (fun o w' hq => ?_)
  obtain ⟨rfl, hw9⟩ := hq
  show WW _ _ _ 224 _ [.int (bI (kAt ic n p (nI 32) (nI 32))), .ref pa] _
  rw [hw9]
  clear hw9 w'
  cases hc : kAt ic n p (nI 32) (nI 32) with
  | false =>
    refine WW.if_eq (tgt := 235) rfl rfl (fun _ => ?_) (fun hno => absurd rfl hno)
    refine WW.run (pc' := 236) (lv' := [(3, .int (nI 4)), (2, .ref (wdSa G 22)), (0, .ref pa), (1, .ref (wdSa G 22))]) (st' := [.int (nI 1), .ref pa]) 1 rfl ?_
    refine WW.put [.int (nI p), .int (nI 1), .int v.2.1, .int v.2.2, .ref o] rfl pfX8_75 hP (wd_le rfl) rfl rfl rfl ?_
    have f0 : (wPut w 7 pa (.inl [.int (nI p), .int (nI 1), .int v.2.1, .int v.2.2, .ref o])).1 7 pa = some (.inl [.int (nI p), .int (nI 1), .int v.2.1, .int v.2.2, .ref o]) := wPut_same _ _ _ _
    refine WW.run (pc' := 290) (lv' := [(3, .int (nI 4)), (2, .ref (wdSa G 22)), (0, .ref pa), (1, .ref (wdSa G 22))]) (st' := []) 1 rfl ?_
    rw [show kArg ic n 4 p = .inr (p, nI 1, nI 0, nI 0) by simp only [kArg, hc, cond_false]]
    exact WW.vret rfl rfl ⟨rfl, (nI 1, v.2.1, v.2.2), ⟨fun _ => rfl, fun q => absurd q (by decide), fun q => absurd q (by decide)⟩, rfl⟩
  | true =>
    refine WW.if_eq (tgt := 235) rfl rfl (fun hno => absurd hno (by decide)) (fun _ => ?_)
    refine WW.run (pc' := 229) (lv' := [(3, .int (nI 4)), (2, .ref (wdSa G 22)), (0, .ref pa), (1, .ref (wdSa G 22))]) (st' := [.int (nI 2), .ref pa, .ref pa]) 2 rfl ?_
    refine WW.callV [.int (nI 2)] pa [.ref pa] rfl mX8_71 (sY_number h hP hp (k := 1) (by decide)) (wdRecv.obj hP rfl) rfl rfl (wd_le rfl) (wd_le rfl) (wd_le rfl) (wd_le rfl) (fun o w' hq => ?_)
    cases hr0 : kNum ic n 1 p with
    | inl e =>
      rw [hr0] at hq
      obtain ⟨x, g1, rfl, g3, g4⟩ := hq
      show WX _ _ _ 229 _ [.ref pa] _ _ _
      rw [show kArg ic n 4 p = .inl e by simp only [kArg, hc, cond_true, kOne, hr0]]
      exact WX.out (fun _ h => nomatch h) ⟨x, g1, rfl, g3, g4⟩
    | inr z0 =>
      obtain ⟨p0, a0⟩ := z0
      rw [hr0] at hq
      obtain ⟨rfl, hw9⟩ := hq
      dsimp only at hw9
      show WW _ _ _ 232 _ [.int a0, .ref pa] _
      rw [hw9]
      clear hw9 w'
      have e0 : (wPut w 7 pa (.inl (yO o p0 (v.1, v.2.1, v.2.2)))).1 7 pa = some (.inl (yO o p0 (v.1, v.2.1, v.2.2))) := wPut_same _ _ _ _
      refine WW.run (pc' := 236) (lv' := [(3, .int (nI 4)), (2, .ref (wdSa G 22)), (0, .ref pa), (1, .ref (wdSa G 22))]) (st' := [.int a0, .ref pa]) 1 rfl ?_
      refine WW.put [.int (nI p0), .int a0, .int v.2.1, .int v.2.2, .ref o] rfl pfX8_75 e0 (wd_le rfl) rfl rfl rfl ?_
      have f0 : (wPut (wPut w 7 pa (.inl (yO o p0 (v.1, v.2.1, v.2.2)))) 7 pa (.inl [.int (nI p0), .int a0, .int v.2.1, .int v.2.2, .ref o])).1 7 pa = some (.inl [.int (nI p0), .int a0, .int v.2.1, .int v.2.2, .ref o]) := wPut_same _ _ _ _
      rw [wPut_put]
      have F0 : (wPut w 7 pa (.inl (yO o p0 (a0, v.2.1, v.2.2)))).1 7 pa = some (.inl (yO o p0 (a0, v.2.1, v.2.2))) := wPut_same _ _ _ _
      have hI0 := h.put (pa := pa) (p := .inl (yO o p0 (a0, v.2.1, v.2.2)))
      have hb0 : p0 ≤ 60 := Nat.le_trans (kNum_end hr0).2 h.1.1
      refine WW.run (pc' := 290) (lv' := [(3, .int (nI 4)), (2, .ref (wdSa G 22)), (0, .ref pa), (1, .ref (wdSa G 22))]) (st' := []) 1 rfl ?_
      rw [show kArg ic n 4 p = .inr (p0, a0, nI 0, nI 0) by simp only [kArg, hc, cond_true, kOne, hr0]]
      exact WW.vret rfl rfl ⟨rfl, (a0, v.2.1, v.2.2), ⟨fun _ => rfl, fun q => absurd q (by decide), fun q => absurd q (by decide)⟩, rfl⟩
theorem sY_readNumbers5 (h : yI w o inp n ic) (hP : w.1 7 pa = some (.inl (yO o p v))) (hp : p ≤ 60) : Sp l G MX8_readNumbers 10 6 72 [.ref pa, .ref (wdSa G 20)] w (yA G o pa 5 (kArg ic n 5 p) w) := by
  refine Sp.of rfl (by decide +kernel) kX8_readNumbers (wd_le rfl) ?_
  refine WW.run (pc' := 5) (lv' := [(3, .int (-1)), (2, .ref (wdSa G 20)), (0, .ref pa), (1, .ref (wdSa G 20))]) (st' := [.ref (wdSa G 20)]) 5 rfl ?_
  refine WW.callV [] (wdSa G 20) [] rfl mX8_61 (sG_hash (i := 20) rfl (by decide)) (wdRecv.str (i := 20) rfl) rfl rfl (wd_le rfl) (wd_le rfl) (wd_le rfl) (wd_le rfl) (fun o w' hq => ?_)
  obtain ⟨rfl, hw9⟩ := hq
  show WW _ _ _ 8 _ [.int (108399245 : Int32)] _
  rw [hw9]
  clear hw9 w'
  refine WW.lookup (tgt := 138) (off := 130) rfl (by decide) (by decide +kernel) rfl ?_
  refine WW.run (pc' := 139) (lv' := [(3, .int (-1)), (2, .ref (wdSa G 20)), (0, .ref pa), (1, .ref (wdSa G 20))]) (st' := [.ref (wdSa G 20)]) 1 rfl ?_
  refine WW.ldcS (i := 20) rfl rfl ⟨rfl, rfl⟩ ?_
  refine WW.callV [.ref (wdSa G 20)] (wdSa G 20) [] rfl mX8_67 (sG_equals (wdSa G 20)) (wdRecv.str (i := 20) rfl) rfl rfl (wd_le rfl) (wd_le rfl) (wd_le rfl) (wd_le rfl) (fun o w' hq => ?_)
  obtain ⟨rfl, hw9⟩ := hq
  show WW _ _ _ 144 _ [.int (nI 1)] _
  rw [hw9]
  clear hw9 w'
  refine WW.if_eq (tgt := 149) rfl rfl (fun hno => absurd hno (by decide)) (fun _ => ?_)
  refine WW.run (pc' := 150) (lv' := [(3, .int (nI 5)), (2, .ref (wdSa G 20)), (0, .ref pa), (1, .ref (wdSa G 20))]) (st' := [.int (nI 5)]) 3 rfl ?_
  refine WW.tableIn (tgt := 242) (off := 92) rfl (by decide +kernel) (by decide +kernel) (by decide +kernel) rfl ?_
  refine WW.run (pc' := 245) (lv' := [(3, .int (nI 5)), (2, .ref (wdSa G 20)), (0, .ref pa), (1, .ref (wdSa G 20))]) (st' := [.int (nI 1), .ref pa, .ref pa]) 3 rfl ?_
  refine WW.callV [.int (nI 1)] pa [.ref pa] rfl mX8_71 (sY_number h hP hp (k := 0) (by decide)) (wdRecv.obj hP rfl) rfl rfl (wd_le rfl) (wd_le rfl) (wd_le rfl) (wd_le rfl) (fun o w' hq => ?_)
  cases hr0 : kNum ic n 0 p with
  | inl e =>
    rw [hr0] at hq
    obtain ⟨x, g1, rfl, g3, g4⟩ := hq
    show WX _ _ _ 245 _ [.ref pa] _ _ _
    rw [show kArg ic n 5 p  = .inl e by simp only [kArg, kTwo, hr0]]
    exact WX.out (fun _ h => nomatch h) ⟨x, g1, rfl, g3, g4⟩
  | inr z0 =>
    obtain ⟨p0, a0⟩ := z0
    rw [hr0] at hq
    obtain ⟨rfl, hw9⟩ := hq
    dsimp only at hw9
    show WW _ _ _ 248 _ [.int a0, .ref pa] _
    rw [hw9]
    clear hw9 w'
    have e0 : (wPut w 7 pa (.inl (yO o p0 (v.1, v.2.1, v.2.2)))).1 7 pa = some (.inl (yO o p0 (v.1, v.2.1, v.2.2))) := wPut_same _ _ _ _
    refine WW.put [.int (nI p0), .int a0, .int v.2.1, .int v.2.2, .ref o] rfl pfX8_75 e0 (wd_le rfl) rfl rfl rfl ?_
    have f0 : (wPut (wPut w 7 pa (.inl (yO o p0 (v.1, v.2.1, v.2.2)))) 7 pa (.inl [.int (nI p0), .int a0, .int v.2.1, .int v.2.2, .ref o])).1 7 pa = some (.inl [.int (nI p0), .int a0, .int v.2.1, .int v.2.2, .ref o]) := wPut_same _ _ _ _
    rw [wPut_put]
    have F0 : (wPut w 7 pa (.inl (yO o p0 (a0, v.2.1, v.2.2)))).1 7 pa = some (.inl (yO o p0 (a0, v.2.1, v.2.2))) := wPut_same _ _ _ _
    have hI0 := h.put (pa := pa) (p := .inl (yO o p0 (a0, v.2.1, v.2.2)))
    have hb0 : p0 ≤ 60 := Nat.le_trans (kNum_end hr0).2 h.1.1
    refine WW.run (pc' := 254) (lv' := [(3, .int (nI 5)), (2, .ref (wdSa G 20)), (0, .ref pa), (1, .ref (wdSa G 20))]) (st' := [.int (nI 2), .ref pa, .ref pa]) 3 rfl ?_
    refine WW.callV [.int (nI 2)] pa [.ref pa] rfl mX8_71 (sY_number hI0 F0 hb0 (k := 1) (by decide)) (wdRecv.obj F0 rfl) rfl rfl (wd_le rfl) (wd_le rfl) (wd_le rfl) (wd_le rfl) (fun o w' hq => ?_)
    cases hr1 : kNum ic n 1 p0 with
    | inl e =>
      rw [hr1] at hq
      obtain ⟨x, g1, rfl, g3, g4⟩ := yE.put hq
      show WX _ _ _ 254 _ [.ref pa] _ _ _
      rw [show kArg ic n 5 p  = .inl e by simp only [kArg, kTwo, hr0, hr1]]
      exact WX.out (fun _ h => nomatch h) ⟨x, g1, rfl, g3, g4⟩
    | inr z1 =>
      obtain ⟨p1, a1⟩ := z1
      rw [hr1] at hq
      obtain ⟨rfl, hw9⟩ := hq
      rw [wPut_put] at hw9
      dsimp only at hw9
      show WW _ _ _ 257 _ [.int a1, .ref pa] _
      rw [hw9]
      clear hw9 w'
      have e1 : (wPut w 7 pa (.inl (yO o p1 (a0, v.2.1, v.2.2)))).1 7 pa = some (.inl (yO o p1 (a0, v.2.1, v.2.2))) := wPut_same _ _ _ _
      refine WW.put [.int (nI p1), .int a0, .int a1, .int v.2.2, .ref o] rfl pfX8_78 e1 (wd_le rfl) rfl rfl rfl ?_
      have f1 : (wPut (wPut w 7 pa (.inl (yO o p1 (a0, v.2.1, v.2.2)))) 7 pa (.inl [.int (nI p1), .int a0, .int a1, .int v.2.2, .ref o])).1 7 pa = some (.inl [.int (nI p1), .int a0, .int a1, .int v.2.2, .ref o]) := wPut_same _ _ _ _
      rw [wPut_put]
      have F1 : (wPut w 7 pa (.inl (yO o p1 (a0, a1, v.2.2)))).1 7 pa = some (.inl (yO o p1 (a0, a1, v.2.2))) := wPut_same _ _ _ _
      have hI1 := h.put (pa := pa) (p := .inl (yO o p1 (a0, a1, v.2.2)))
      have hb1 : p1 ≤ 60 := Nat.le_trans (kNum_end hr1).2 h.1.1
      refine WW.run (pc' := 290) (lv' := [(3, .int (nI 5)), (2, .ref (wdSa G 20)), (0, .ref pa), (1, .ref (wdSa G 20))]) (st' := []) 1 rfl ?_
      rw [show kArg ic n 5 p  = .inr (p1, a0, a1, nI 0) by simp only [kArg, kTwo, hr0, hr1]]
      exact WW.vret rfl rfl ⟨rfl, (a0, a1, v.2.2), ⟨fun _ => rfl, fun _ => rfl, fun q => absurd q (by decide)⟩, rfl⟩
theorem sY_readNumbers6 (h : yI w o inp n ic) (hP : w.1 7 pa = some (.inl (yO o p v))) (hp : p ≤ 60) : Sp l G MX8_readNumbers 10 6 72 [.ref pa, .ref (wdSa G 17)] w (yA G o pa 6 (kArg ic n 6 p) w) := by
  refine Sp.of rfl (by decide +kernel) kX8_readNumbers (wd_le rfl) ?_
  refine WW.run (pc' := 5) (lv' := [(3, .int (-1)), (2, .ref (wdSa G 17)), (0, .ref pa), (1, .ref (wdSa G 17))]) (st' := [.ref (wdSa G 17)]) 5 rfl ?_
  refine WW.callV [] (wdSa G 17) [] rfl mX8_61 (sG_hash (i := 17) rfl (by decide)) (wdRecv.str (i := 17) rfl) rfl rfl (wd_le rfl) (wd_le rfl) (wd_le rfl) (wd_le rfl) (fun o w' hq => ?_)
  obtain ⟨rfl, hw9⟩ := hq
  show WW _ _ _ 8 _ [.int (102846042 : Int32)] _
  rw [hw9]
  clear hw9 w'
  refine WW.lookup (tgt := 149) (off := 141) rfl (by decide) (by decide +kernel) rfl ?_
  refine WW.run (pc' := 150) (lv' := [(3, .int (-1)), (2, .ref (wdSa G 17)), (0, .ref pa), (1, .ref (wdSa G 17))]) (st' := [.int (-1)]) 1 rfl ?_
  refine WW.tableOut (tgt := 263) rfl (Or.inl (by decide)) rfl ?_
  refine WW.run (pc' := 266) (lv' := [(3, .int (-1)), (2, .ref (wdSa G 17)), (0, .ref pa), (1, .ref (wdSa G 17))]) (st' := [.int (nI 1), .ref pa, .ref pa]) 3 rfl ?_
  refine WW.callV [.int (nI 1)] pa [.ref pa] rfl mX8_71 (sY_number h hP hp (k := 0) (by decide)) (wdRecv.obj hP rfl) rfl rfl (wd_le rfl) (wd_le rfl) (wd_le rfl) (wd_le rfl) (fun o w' hq => ?_)
  cases hr0 : kNum ic n 0 p with
  | inl e =>
    rw [hr0] at hq
    obtain ⟨x, g1, rfl, g3, g4⟩ := hq
    show WX _ _ _ 266 _ [.ref pa] _ _ _
    rw [show kArg ic n 6 p  = .inl e by simp only [kArg, kThree, kTwo, hr0]]
    exact WX.out (fun _ h => nomatch h) ⟨x, g1, rfl, g3, g4⟩
  | inr z0 =>
    obtain ⟨p0, a0⟩ := z0
    rw [hr0] at hq
    obtain ⟨rfl, hw9⟩ := hq
    dsimp only at hw9
    show WW _ _ _ 269 _ [.int a0, .ref pa] _
    rw [hw9]
    clear hw9 w'
    have e0 : (wPut w 7 pa (.inl (yO o p0 (v.1, v.2.1, v.2.2)))).1 7 pa = some (.inl (yO o p0 (v.1, v.2.1, v.2.2))) := wPut_same _ _ _ _
    refine WW.put [.int (nI p0), .int a0, .int v.2.1, .int v.2.2, .ref o] rfl pfX8_75 e0 (wd_le rfl) rfl rfl rfl ?_
    have f0 : (wPut (wPut w 7 pa (.inl (yO o p0 (v.1, v.2.1, v.2.2)))) 7 pa (.inl [.int (nI p0), .int a0, .int v.2.1, .int v.2.2, .ref o])).1 7 pa = some (.inl [.int (nI p0), .int a0, .int v.2.1, .int v.2.2, .ref o]) := wPut_same _ _ _ _
    rw [wPut_put]
    have F0 : (wPut w 7 pa (.inl (yO o p0 (a0, v.2.1, v.2.2)))).1 7 pa = some (.inl (yO o p0 (a0, v.2.1, v.2.2))) := wPut_same _ _ _ _
    have hI0 := h.put (pa := pa) (p := .inl (yO o p0 (a0, v.2.1, v.2.2)))
    have hb0 : p0 ≤ 60 := Nat.le_trans (kNum_end hr0).2 h.1.1
    refine WW.run (pc' := 275) (lv' := [(3, .int (-1)), (2, .ref (wdSa G 17)), (0, .ref pa), (1, .ref (wdSa G 17))]) (st' := [.int (nI 1), .ref pa, .ref pa]) 3 rfl ?_
    refine WW.callV [.int (nI 1)] pa [.ref pa] rfl mX8_71 (sY_number hI0 F0 hb0 (k := 0) (by decide)) (wdRecv.obj F0 rfl) rfl rfl (wd_le rfl) (wd_le rfl) (wd_le rfl) (wd_le rfl) (fun o w' hq => ?_)
    cases hr1 : kNum ic n 0 p0 with
    | inl e =>
      rw [hr1] at hq
      obtain ⟨x, g1, rfl, g3, g4⟩ := yE.put hq
      show WX _ _ _ 275 _ [.ref pa] _ _ _
      rw [show kArg ic n 6 p  = .inl e by simp only [kArg, kThree, kTwo, hr0, hr1]]
      exact WX.out (fun _ h => nomatch h) ⟨x, g1, rfl, g3, g4⟩
    | inr z1 =>
      obtain ⟨p1, a1⟩ := z1
      rw [hr1] at hq
      obtain ⟨rfl, hw9⟩ := hq
      rw [wPut_put] at hw9
      dsimp only at hw9
      show WW _ _ _ 278 _ [.int a1, .ref pa] _
      rw [hw9]
      clear hw9 w'
      have e1 : (wPut w 7 pa (.inl (yO o p1 (a0, v.2.1, v.2.2)))).1 7 pa = some (.inl (yO o p1 (a0, v.2.1, v.2.2))) := wPut_same _ _ _ _
      refine WW.put [.int (nI p1), .int a0, .int a1, .int v.2.2, .ref o] rfl pfX8_78 e1 (wd_le rfl) rfl rfl rfl ?_
      have f1 : (wPut (wPut w 7 pa (.inl (yO o p1 (a0, v.2.1, v.2.2)))) 7 pa (.inl [.int (nI p1), .int a0, .int a1, .int v.2.2, .ref o])).1 7 pa = some (.inl [.int (nI p1), .int a0, .int a1, .int v.2.2, .ref o]) := wPut_same _ _ _ _
      rw [wPut_put]
      have F1 : (wPut w 7 pa (.inl (yO o p1 (a0, a1, v.2.2)))).1 7 pa = some (.inl (yO o p1 (a0, a1, v.2.2))) := wPut_same _ _ _ _
      have hI1 := h.put (pa := pa) (p := .inl (yO o p1 (a0, a1, v.2.2)))
      have hb1 : p1 ≤ 60 := Nat.le_trans (kNum_end hr1).2 h.1.1
      refine WW.run (pc' := 284) (lv' := [(3, .int (-1)), (2, .ref (wdSa G 17)), (0, .ref pa), (1, .ref (wdSa G 17))]) (st' := [.int (nI 2), .ref pa, .ref pa]) 3 rfl ?_
      refine WW.callV [.int (nI 2)] pa [.ref pa] rfl mX8_71 (sY_number hI1 F1 hb1 (k := 1) (by decide)) (wdRecv.obj F1 rfl) rfl rfl (wd_le rfl) (wd_le rfl) (wd_le rfl) (wd_le rfl) (fun o w' hq => ?_)
      cases hr2 : kNum ic n 1 p1 with
      | inl e =>
        rw [hr2] at hq
        obtain ⟨x, g1, rfl, g3, g4⟩ := yE.put hq
        show WX _ _ _ 284 _ [.ref pa] _ _ _
        rw [show kArg ic n 6 p  = .inl e by simp only [kArg, kThree, kTwo, hr0, hr1, hr2]]
        exact WX.out (fun _ h => nomatch h) ⟨x, g1, rfl, g3, g4⟩
      | inr z2 =>
        obtain ⟨p2, a2⟩ := z2
        rw [hr2] at hq
        obtain ⟨rfl, hw9⟩ := hq
        rw [wPut_put] at hw9
        dsimp only at hw9
        show WW _ _ _ 287 _ [.int a2, .ref pa] _
        rw [hw9]
        clear hw9 w'
        have e2 : (wPut w 7 pa (.inl (yO o p2 (a0, a1, v.2.2)))).1 7 pa = some (.inl (yO o p2 (a0, a1, v.2.2))) := wPut_same _ _ _ _
        refine WW.put [.int (nI p2), .int a0, .int a1, .int a2, .ref o] rfl pfX8_81 e2 (wd_le rfl) rfl rfl rfl ?_
        have f2 : (wPut (wPut w 7 pa (.inl (yO o p2 (a0, a1, v.2.2)))) 7 pa (.inl [.int (nI p2), .int a0, .int a1, .int a2, .ref o])).1 7 pa = some (.inl [.int (nI p2), .int a0, .int a1, .int a2, .ref o]) := wPut_same _ _ _ _
        rw [wPut_put]
        have F2 : (wPut w 7 pa (.inl (yO o p2 (a0, a1, a2)))).1 7 pa = some (.inl (yO o p2 (a0, a1, a2))) := wPut_same _ _ _ _
        have hI2 := h.put (pa := pa) (p := .inl (yO o p2 (a0, a1, a2)))
        have hb2 : p2 ≤ 60 := Nat.le_trans (kNum_end hr2).2 h.1.1
        rw [show kArg ic n 6 p  = .inr (p2, a0, a1, a2) by simp only [kArg, kThree, kTwo, hr0, hr1, hr2]]
        exact WW.vret rfl rfl ⟨rfl, (a0, a1, a2), ⟨fun _ => rfl, fun _ => rfl, fun _ => rfl⟩, rfl⟩
variable {lo a : Nat} {Z gs gl gr : Nat → Nat} {S : aS} {u : kV}
theorem sY_carryOut0 (hP : w.1 7 pa = some (.inl (yO o p u))) (hS : isS G w lo a Z gs gl gr S) (hW : aWf S) (hlw : lo ≤ w.2) : Sp l G MX8_carryOut 10 1057 4998 [.ref pa, .ref a, .ref (wdSa G 23)] w (yC G lo a (kEs 0) (aDo 0 u S) w) := by
  rw [show aDo 0 u S = S.doShip from aDo0 u S]
  refine Sp.of rfl (by decide +kernel) kX8_carryOut (wd_le rfl) ?_
  refine WW.run (pc' := 6) (lv' := [(4, .int (-1)), (3, .ref (wdSa G 23)), (0, .ref pa), (1, .ref a), (2, .ref (wdSa G 23))]) (st' := [.ref (wdSa G 23)]) 5 rfl ?_
  refine WW.callV [] (wdSa G 23) [] rfl mX8_61 (sG_hash (i := 23) rfl (by decide)) (wdRecv.str (i := 23) rfl) rfl rfl (wd_le rfl) (wd_le rfl) (wd_le rfl) (wd_le rfl) (fun o w' hq => ?_)
  obtain ⟨rfl, hw9⟩ := hq
  show WW _ _ _ 9 _ [.int (3529276 : Int32)] _
  rw [hw9]
  clear hw9 w'
  refine WW.lookup (tgt := 68) (off := 59) rfl (by decide) (by decide +kernel) rfl ?_
  refine WW.run (pc' := 69) (lv' := [(4, .int (-1)), (3, .ref (wdSa G 23)), (0, .ref pa), (1, .ref a), (2, .ref (wdSa G 23))]) (st' := [.ref (wdSa G 23)]) 1 rfl ?_
  refine WW.ldcS (i := 23) rfl rfl ⟨rfl, rfl⟩ ?_
  refine WW.callV [.ref (wdSa G 23)] (wdSa G 23) [] rfl mX8_67 (sG_equals (wdSa G 23)) (wdRecv.str (i := 23) rfl) rfl rfl (wd_le rfl) (wd_le rfl) (wd_le rfl) (wd_le rfl) (fun o w' hq => ?_)
  obtain ⟨rfl, hw9⟩ := hq
  show WW _ _ _ 74 _ [.int (nI 1)] _
  rw [hw9]
  clear hw9 w'
  refine WW.if_eq (tgt := 155) rfl rfl (fun hno => absurd hno (by decide)) (fun _ => ?_)
  refine WW.run (pc' := 157) (lv' := [(4, .int (nI 0)), (3, .ref (wdSa G 23)), (0, .ref pa), (1, .ref a), (2, .ref (wdSa G 23))]) (st' := [.int (nI 0)]) 4 rfl ?_
  refine WW.tableIn (tgt := 196) (off := 39) rfl (by decide +kernel) (by decide +kernel) (by decide +kernel) rfl ?_
  refine WW.run (pc' := 197) (lv' := [(4, .int (nI 0)), (3, .ref (wdSa G 23)), (0, .ref pa), (1, .ref a), (2, .ref (wdSa G 23))]) (st' := [.ref a]) 1 rfl ?_
  refine WW.callV [] a [] rfl mX8_84 (cS_addShip hS hW hlw) (wdRecv.obj hS.1.1 rfl) rfl rfl (wd_le rfl) (wd_le rfl) (wd_le rfl) (wd_le rfl) (fun o w' hq => ?_)
  cases hr : S.doShip with
  | inl e =>
    rw [hr] at hq
    obtain ⟨ci, h1, q, h2, rfl, h3, h4⟩ := hq
    show WX _ _ _ 197 _ [] _ _ _
    exact WX.out (fun _ h => nomatch h) ⟨ci, h1, q, h2, rfl, h3, h4⟩
  | inr z =>
    rw [hr] at hq
    obtain ⟨rfl, h1, h2⟩ := hq
    show WW _ _ _ 200 _ [.int z.1] _
    refine WW.run (pc' := 285) (lv' := [(4, .int (nI 0)), (3, .ref (wdSa G 23)), (0, .ref pa), (1, .ref a), (2, .ref (wdSa G 23))]) (st' := []) 2 rfl ?_
    exact WW.vret rfl rfl ⟨rfl, h1, h2⟩
theorem sY_carryOut1 (hP : w.1 7 pa = some (.inl (yO o p u))) (hS : isS G w lo a Z gs gl gr S) (hW : aWf S) (hlw : lo ≤ w.2) : Sp l G MX8_carryOut 10 1057 4998 [.ref pa, .ref a, .ref (wdSa G 18)] w (yC G lo a (kEs 1) (aDo 1 u S) w) := by
  rw [show aDo 1 u S = S.doLamp u.1 from aDo1 u S]
  refine Sp.of rfl (by decide +kernel) kX8_carryOut (wd_le rfl) ?_
  refine WW.run (pc' := 6) (lv' := [(4, .int (-1)), (3, .ref (wdSa G 18)), (0, .ref pa), (1, .ref a), (2, .ref (wdSa G 18))]) (st' := [.ref (wdSa G 18)]) 5 rfl ?_
  refine WW.callV [] (wdSa G 18) [] rfl mX8_61 (sG_hash (i := 18) rfl (by decide)) (wdRecv.str (i := 18) rfl) rfl rfl (wd_le rfl) (wd_le rfl) (wd_le rfl) (wd_le rfl) (fun o w' hq => ?_)
  obtain ⟨rfl, hw9⟩ := hq
  show WW _ _ _ 9 _ [.int (3314136 : Int32)] _
  rw [hw9]
  clear hw9 w'
  refine WW.lookup (tgt := 83) (off := 74) rfl (by decide) (by decide +kernel) rfl ?_
  refine WW.run (pc' := 84) (lv' := [(4, .int (-1)), (3, .ref (wdSa G 18)), (0, .ref pa), (1, .ref a), (2, .ref (wdSa G 18))]) (st' := [.ref (wdSa G 18)]) 1 rfl ?_
  refine WW.ldcS (i := 18) rfl rfl ⟨rfl, rfl⟩ ?_
  refine WW.callV [.ref (wdSa G 18)] (wdSa G 18) [] rfl mX8_67 (sG_equals (wdSa G 18)) (wdRecv.str (i := 18) rfl) rfl rfl (wd_le rfl) (wd_le rfl) (wd_le rfl) (wd_le rfl) (fun o w' hq => ?_)
  obtain ⟨rfl, hw9⟩ := hq
  show WW _ _ _ 89 _ [.int (nI 1)] _
  rw [hw9]
  clear hw9 w'
  refine WW.if_eq (tgt := 155) rfl rfl (fun hno => absurd hno (by decide)) (fun _ => ?_)
  refine WW.run (pc' := 157) (lv' := [(4, .int (nI 1)), (3, .ref (wdSa G 18)), (0, .ref pa), (1, .ref a), (2, .ref (wdSa G 18))]) (st' := [.int (nI 1)]) 4 rfl ?_
  refine WW.tableIn (tgt := 204) (off := 47) rfl (by decide +kernel) (by decide +kernel) (by decide +kernel) rfl ?_
  refine WW.run (pc' := 206) (lv' := [(4, .int (nI 1)), (3, .ref (wdSa G 18)), (0, .ref pa), (1, .ref a), (2, .ref (wdSa G 18))]) (st' := [.ref pa, .ref a]) 2 rfl ?_
  refine WW.get rfl fX8_75 hP (show _ = some (.int u.1) from rfl) ?_
  refine WW.callV [.int u.1] a [] rfl mX8_89 (cS_addLamp hS hW hlw u.1) (wdRecv.obj hS.1.1 rfl) rfl rfl (wd_le rfl) (wd_le rfl) (wd_le rfl) (wd_le rfl) (fun o w' hq => ?_)
  cases hr : S.doLamp u.1 with
  | inl e =>
    rw [hr] at hq
    obtain ⟨ci, h1, q, h2, rfl, h3, h4⟩ := hq
    show WX _ _ _ 209 _ [] _ _ _
    exact WX.out (fun _ h => nomatch h) ⟨ci, h1, q, h2, rfl, h3, h4⟩
  | inr z =>
    rw [hr] at hq
    obtain ⟨rfl, h1, h2⟩ := hq
    show WW _ _ _ 212 _ [.int z.1] _
    refine WW.run (pc' := 285) (lv' := [(4, .int (nI 1)), (3, .ref (wdSa G 18)), (0, .ref pa), (1, .ref a), (2, .ref (wdSa G 18))]) (st' := []) 2 rfl ?_
    exact WW.vret rfl rfl ⟨rfl, h1, h2⟩
theorem sY_carryOut2 (hP : w.1 7 pa = some (.inl (yO o p u))) (hS : isS G w lo a Z gs gl gr S) (hW : aWf S) (hlw : lo ≤ w.2) : Sp l G MX8_carryOut 10 1057 4998 [.ref pa, .ref a, .ref (wdSa G 21)] w (yC G lo a (kEs 2) (aDo 2 u S) w) := by
  rw [show aDo 2 u S = S.doDrop u.1 from aDo2 u S]
  refine Sp.of rfl (by decide +kernel) kX8_carryOut (wd_le rfl) ?_
  refine WW.run (pc' := 6) (lv' := [(4, .int (-1)), (3, .ref (wdSa G 21)), (0, .ref pa), (1, .ref a), (2, .ref (wdSa G 21))]) (st' := [.ref (wdSa G 21)]) 5 rfl ?_
  refine WW.callV [] (wdSa G 21) [] rfl mX8_61 (sG_hash (i := 21) rfl (by decide)) (wdRecv.str (i := 21) rfl) rfl rfl (wd_le rfl) (wd_le rfl) (wd_le rfl) (wd_le rfl) (fun o w' hq => ?_)
  obtain ⟨rfl, hw9⟩ := hq
  show WW _ _ _ 9 _ [.int (3092207 : Int32)] _
  rw [hw9]
  clear hw9 w'
  refine WW.lookup (tgt := 98) (off := 89) rfl (by decide) (by decide +kernel) rfl ?_
  refine WW.run (pc' := 99) (lv' := [(4, .int (-1)), (3, .ref (wdSa G 21)), (0, .ref pa), (1, .ref a), (2, .ref (wdSa G 21))]) (st' := [.ref (wdSa G 21)]) 1 rfl ?_
  refine WW.ldcS (i := 21) rfl rfl ⟨rfl, rfl⟩ ?_
  refine WW.callV [.ref (wdSa G 21)] (wdSa G 21) [] rfl mX8_67 (sG_equals (wdSa G 21)) (wdRecv.str (i := 21) rfl) rfl rfl (wd_le rfl) (wd_le rfl) (wd_le rfl) (wd_le rfl) (fun o w' hq => ?_)
  obtain ⟨rfl, hw9⟩ := hq
  show WW _ _ _ 104 _ [.int (nI 1)] _
  rw [hw9]
  clear hw9 w'
  refine WW.if_eq (tgt := 155) rfl rfl (fun hno => absurd hno (by decide)) (fun _ => ?_)
  refine WW.run (pc' := 157) (lv' := [(4, .int (nI 2)), (3, .ref (wdSa G 21)), (0, .ref pa), (1, .ref a), (2, .ref (wdSa G 21))]) (st' := [.int (nI 2)]) 4 rfl ?_
  refine WW.tableIn (tgt := 216) (off := 59) rfl (by decide +kernel) (by decide +kernel) (by decide +kernel) rfl ?_
  refine WW.run (pc' := 218) (lv' := [(4, .int (nI 2)), (3, .ref (wdSa G 21)), (0, .ref pa), (1, .ref a), (2, .ref (wdSa G 21))]) (st' := [.ref pa, .ref a]) 2 rfl ?_
  refine WW.get rfl fX8_75 hP (show _ = some (.int u.1) from rfl) ?_
  refine WW.callV [.int u.1] a [] rfl mX8_92 (cS_giveUp hS hW u.1) (wdRecv.obj hS.1.1 rfl) rfl rfl (wd_le rfl) (wd_le rfl) (wd_le rfl) (wd_le rfl) (fun o w' hq => ?_)
  cases hr : S.doDrop u.1 with
  | inl e =>
    rw [hr] at hq
    obtain ⟨ci, h1, q, h2, rfl, h3, h4⟩ := hq
    show WX _ _ _ 221 _ [] _ _ _
    exact WX.out (fun _ h => nomatch h) ⟨ci, h1, q, h2, rfl, h3, h4⟩
  | inr z =>
    rw [hr] at hq
    obtain ⟨rfl, h1, h2⟩ := hq
    show WW _ _ _ 224 _ [.int z.1] _
    refine WW.run (pc' := 285) (lv' := [(4, .int (nI 2)), (3, .ref (wdSa G 21)), (0, .ref pa), (1, .ref a), (2, .ref (wdSa G 21))]) (st' := []) 2 rfl ?_
    exact WW.vret rfl rfl ⟨rfl, h1, h2⟩
theorem sY_carryOut3 (hP : w.1 7 pa = some (.inl (yO o p u))) (hS : isS G w lo a Z gs gl gr S) (hW : aWf S) (hlw : lo ≤ w.2) : Sp l G MX8_carryOut 10 1057 4998 [.ref pa, .ref a, .ref (wdSa G 19)] w (yC G lo a (kEs 3) (aDo 3 u S) w) := by
  rw [show aDo 3 u S = S.doOil u.1 from aDo3 u S]
  refine Sp.of rfl (by decide +kernel) kX8_carryOut (wd_le rfl) ?_
  refine WW.run (pc' := 6) (lv' := [(4, .int (-1)), (3, .ref (wdSa G 19)), (0, .ref pa), (1, .ref a), (2, .ref (wdSa G 19))]) (st' := [.ref (wdSa G 19)]) 5 rfl ?_
  refine WW.callV [] (wdSa G 19) [] rfl mX8_61 (sG_hash (i := 19) rfl (by decide)) (wdRecv.str (i := 19) rfl) rfl rfl (wd_le rfl) (wd_le rfl) (wd_le rfl) (wd_le rfl) (fun o w' hq => ?_)
  obtain ⟨rfl, hw9⟩ := hq
  show WW _ _ _ 9 _ [.int (110034 : Int32)] _
  rw [hw9]
  clear hw9 w'
  refine WW.lookup (tgt := 113) (off := 104) rfl (by decide) (by decide +kernel) rfl ?_
  refine WW.run (pc' := 114) (lv' := [(4, .int (-1)), (3, .ref (wdSa G 19)), (0, .ref pa), (1, .ref a), (2, .ref (wdSa G 19))]) (st' := [.ref (wdSa G 19)]) 1 rfl ?_
  refine WW.ldcS (i := 19) rfl rfl ⟨rfl, rfl⟩ ?_
  refine WW.callV [.ref (wdSa G 19)] (wdSa G 19) [] rfl mX8_67 (sG_equals (wdSa G 19)) (wdRecv.str (i := 19) rfl) rfl rfl (wd_le rfl) (wd_le rfl) (wd_le rfl) (wd_le rfl) (fun o w' hq => ?_)
  obtain ⟨rfl, hw9⟩ := hq
  show WW _ _ _ 119 _ [.int (nI 1)] _
  rw [hw9]
  clear hw9 w'
  refine WW.if_eq (tgt := 155) rfl rfl (fun hno => absurd hno (by decide)) (fun _ => ?_)
  refine WW.run (pc' := 157) (lv' := [(4, .int (nI 3)), (3, .ref (wdSa G 19)), (0, .ref pa), (1, .ref a), (2, .ref (wdSa G 19))]) (st' := [.int (nI 3)]) 4 rfl ?_
  refine WW.tableIn (tgt := 228) (off := 71) rfl (by decide +kernel) (by decide +kernel) (by decide +kernel) rfl ?_
  refine WW.run (pc' := 230) (lv' := [(4, .int (nI 3)), (3, .ref (wdSa G 19)), (0, .ref pa), (1, .ref a), (2, .ref (wdSa G 19))]) (st' := [.ref pa, .ref a]) 2 rfl ?_
  refine WW.get rfl fX8_75 hP (show _ = some (.int u.1) from rfl) ?_
  refine WW.callV [.int u.1] a [] rfl mX8_95 (cS_addOil hS hlw u.1) (wdRecv.obj hS.1.1 rfl) rfl rfl (wd_le rfl) (wd_le rfl) (wd_le rfl) (wd_le rfl) (fun o w' hq => ?_)
  cases hr : S.doOil u.1 with
  | inl e =>
    rw [hr] at hq
    obtain ⟨ci, h1, q, h2, rfl, h3, h4⟩ := hq
    show WX _ _ _ 233 _ [] _ _ _
    exact WX.out (fun _ h => nomatch h) ⟨ci, h1, q, h2, rfl, h3, h4⟩
  | inr z =>
    rw [hr] at hq
    obtain ⟨rfl, h1, h2⟩ := hq
    show WW _ _ _ 236 _ [.int z.1] _
    refine WW.run (pc' := 285) (lv' := [(4, .int (nI 3)), (3, .ref (wdSa G 19)), (0, .ref pa), (1, .ref a), (2, .ref (wdSa G 19))]) (st' := []) 2 rfl ?_
    exact WW.vret rfl rfl ⟨rfl, h1, h2⟩
theorem sY_carryOut4 (hP : w.1 7 pa = some (.inl (yO o p u))) (hS : isS G w lo a Z gs gl gr S) (hW : aWf S) (hlw : lo ≤ w.2) : Sp l G MX8_carryOut 10 1057 4998 [.ref pa, .ref a, .ref (wdSa G 22)] w (yC G lo a (kEs 4) (aDo 4 u S) w) := by
  rw [show aDo 4 u S = S.doWait u.1 from aDo4 u S]
  refine Sp.of rfl (by decide +kernel) kX8_carryOut (wd_le rfl) ?_
  refine WW.run (pc' := 6) (lv' := [(4, .int (-1)), (3, .ref (wdSa G 22)), (0, .ref pa), (1, .ref a), (2, .ref (wdSa G 22))]) (st' := [.ref (wdSa G 22)]) 5 rfl ?_
  refine WW.callV [] (wdSa G 22) [] rfl mX8_61 (sG_hash (i := 22) rfl (by decide)) (wdRecv.str (i := 22) rfl) rfl rfl (wd_le rfl) (wd_le rfl) (wd_le rfl) (wd_le rfl) (fun o w' hq => ?_)
  obtain ⟨rfl, hw9⟩ := hq
  show WW _ _ _ 9 _ [.int (3641717 : Int32)] _
  rw [hw9]
  clear hw9 w'
  refine WW.lookup (tgt := 128) (off := 119) rfl (by decide) (by decide +kernel) rfl ?_
  refine WW.run (pc' := 129) (lv' := [(4, .int (-1)), (3, .ref (wdSa G 22)), (0, .ref pa), (1, .ref a), (2, .ref (wdSa G 22))]) (st' := [.ref (wdSa G 22)]) 1 rfl ?_
  refine WW.ldcS (i := 22) rfl rfl ⟨rfl, rfl⟩ ?_
  refine WW.callV [.ref (wdSa G 22)] (wdSa G 22) [] rfl mX8_67 (sG_equals (wdSa G 22)) (wdRecv.str (i := 22) rfl) rfl rfl (wd_le rfl) (wd_le rfl) (wd_le rfl) (wd_le rfl) (fun o w' hq => ?_)
  obtain ⟨rfl, hw9⟩ := hq
  show WW _ _ _ 134 _ [.int (nI 1)] _
  rw [hw9]
  clear hw9 w'
  refine WW.if_eq (tgt := 155) rfl rfl (fun hno => absurd hno (by decide)) (fun _ => ?_)
  refine WW.run (pc' := 157) (lv' := [(4, .int (nI 4)), (3, .ref (wdSa G 22)), (0, .ref pa), (1, .ref a), (2, .ref (wdSa G 22))]) (st' := [.int (nI 4)]) 4 rfl ?_
  refine WW.tableIn (tgt := 240) (off := 83) rfl (by decide +kernel) (by decide +kernel) (by decide +kernel) rfl ?_
  refine WW.run (pc' := 242) (lv' := [(4, .int (nI 4)), (3, .ref (wdSa G 22)), (0, .ref pa), (1, .ref a), (2, .ref (wdSa G 22))]) (st' := [.ref pa, .ref a]) 2 rfl ?_
  refine WW.get rfl fX8_75 hP (show _ = some (.int u.1) from rfl) ?_
  refine WW.callV [.int u.1] a [] rfl mX8_98 (cS_passHours hS hW u.1) (wdRecv.obj hS.1.1 rfl) rfl rfl (wd_le rfl) (wd_le rfl) (wd_le rfl) (wd_le rfl) (fun o w' hq => ?_)
  cases hr : S.doWait u.1 with
  | inl e =>
    rw [hr] at hq
    obtain ⟨ci, h1, q, h2, rfl, h3, h4⟩ := hq
    show WX _ _ _ 245 _ [] _ _ _
    exact WX.out (fun _ h => nomatch h) ⟨ci, h1, q, h2, rfl, h3, h4⟩
  | inr z =>
    rw [hr] at hq
    obtain ⟨rfl, h1, h2⟩ := hq
    show WW _ _ _ 248 _ [.int z.1] _
    refine WW.run (pc' := 285) (lv' := [(4, .int (nI 4)), (3, .ref (wdSa G 22)), (0, .ref pa), (1, .ref a), (2, .ref (wdSa G 22))]) (st' := []) 2 rfl ?_
    exact WW.vret rfl rfl ⟨rfl, h1, h2⟩
theorem sY_carryOut5 (hP : w.1 7 pa = some (.inl (yO o p u))) (hS : isS G w lo a Z gs gl gr S) (hW : aWf S) (hlw : lo ≤ w.2) : Sp l G MX8_carryOut 10 1057 4998 [.ref pa, .ref a, .ref (wdSa G 20)] w (yC G lo a (kEs 5) (aDo 5 u S) w) := by
  rw [show aDo 5 u S = S.doReq u.1 u.2.1 from aDo5 u S]
  refine Sp.of rfl (by decide +kernel) kX8_carryOut (wd_le rfl) ?_
  refine WW.run (pc' := 6) (lv' := [(4, .int (-1)), (3, .ref (wdSa G 20)), (0, .ref pa), (1, .ref a), (2, .ref (wdSa G 20))]) (st' := [.ref (wdSa G 20)]) 5 rfl ?_
  refine WW.callV [] (wdSa G 20) [] rfl mX8_61 (sG_hash (i := 20) rfl (by decide)) (wdRecv.str (i := 20) rfl) rfl rfl (wd_le rfl) (wd_le rfl) (wd_le rfl) (wd_le rfl) (fun o w' hq => ?_)
  obtain ⟨rfl, hw9⟩ := hq
  show WW _ _ _ 9 _ [.int (108399245 : Int32)] _
  rw [hw9]
  clear hw9 w'
  refine WW.lookup (tgt := 143) (off := 134) rfl (by decide) (by decide +kernel) rfl ?_
  refine WW.run (pc' := 144) (lv' := [(4, .int (-1)), (3, .ref (wdSa G 20)), (0, .ref pa), (1, .ref a), (2, .ref (wdSa G 20))]) (st' := [.ref (wdSa G 20)]) 1 rfl ?_
  refine WW.ldcS (i := 20) rfl rfl ⟨rfl, rfl⟩ ?_
  refine WW.callV [.ref (wdSa G 20)] (wdSa G 20) [] rfl mX8_67 (sG_equals (wdSa G 20)) (wdRecv.str (i := 20) rfl) rfl rfl (wd_le rfl) (wd_le rfl) (wd_le rfl) (wd_le rfl) (fun o w' hq => ?_)
  obtain ⟨rfl, hw9⟩ := hq
  show WW _ _ _ 149 _ [.int (nI 1)] _
  rw [hw9]
  clear hw9 w'
  refine WW.if_eq (tgt := 155) rfl rfl (fun hno => absurd hno (by decide)) (fun _ => ?_)
  refine WW.run (pc' := 157) (lv' := [(4, .int (nI 5)), (3, .ref (wdSa G 20)), (0, .ref pa), (1, .ref a), (2, .ref (wdSa G 20))]) (st' := [.int (nI 5)]) 3 rfl ?_
  refine WW.tableIn (tgt := 252) (off := 95) rfl (by decide +kernel) (by decide +kernel) (by decide +kernel) rfl ?_
  refine WW.run (pc' := 254) (lv' := [(4, .int (nI 5)), (3, .ref (wdSa G 20)), (0, .ref pa), (1, .ref a), (2, .ref (wdSa G 20))]) (st' := [.ref pa, .ref a]) 2 rfl ?_
  refine WW.get rfl fX8_75 hP (show _ = some (.int u.1) from rfl) ?_
  refine WW.run (pc' := 258) (lv' := [(4, .int (nI 5)), (3, .ref (wdSa G 20)), (0, .ref pa), (1, .ref a), (2, .ref (wdSa G 20))]) (st' := [.ref pa, .int u.1, .ref a]) 1 rfl ?_
  refine WW.get rfl fX8_78 hP (show _ = some (.int u.2.1) from rfl) ?_
  refine WW.callV [.int u.1, .int u.2.1] a [] rfl mX8_101 (cS_request hS hW hlw u.1 u.2.1) (wdRecv.obj hS.1.1 rfl) rfl rfl (wd_le rfl) (wd_le rfl) (wd_le rfl) (wd_le rfl) (fun o w' hq => ?_)
  cases hr : S.doReq u.1 u.2.1 with
  | inl e =>
    rw [hr] at hq
    obtain ⟨ci, h1, q, h2, rfl, h3, h4⟩ := hq
    show WX _ _ _ 261 _ [] _ _ _
    exact WX.out (fun _ h => nomatch h) ⟨ci, h1, q, h2, rfl, h3, h4⟩
  | inr z =>
    rw [hr] at hq
    obtain ⟨rfl, h1, h2⟩ := hq
    show WW _ _ _ 264 _ [.int z.1] _
    refine WW.run (pc' := 285) (lv' := [(4, .int (nI 5)), (3, .ref (wdSa G 20)), (0, .ref pa), (1, .ref a), (2, .ref (wdSa G 20))]) (st' := []) 2 rfl ?_
    exact WW.vret rfl rfl ⟨rfl, h1, h2⟩
theorem sY_carryOut6 (hP : w.1 7 pa = some (.inl (yO o p u))) (hS : isS G w lo a Z gs gl gr S) (hW : aWf S) (hlw : lo ≤ w.2) : Sp l G MX8_carryOut 10 1057 4998 [.ref pa, .ref a, .ref (wdSa G 17)] w (yC G lo a (kEs 6) (aDo 6 u S) w) := by
  rw [show aDo 6 u S = S.doLease u.1 u.2.1 u.2.2 from aDo6 0 u S]
  refine Sp.of rfl (by decide +kernel) kX8_carryOut (wd_le rfl) ?_
  refine WW.run (pc' := 6) (lv' := [(4, .int (-1)), (3, .ref (wdSa G 17)), (0, .ref pa), (1, .ref a), (2, .ref (wdSa G 17))]) (st' := [.ref (wdSa G 17)]) 5 rfl ?_
  refine WW.callV [] (wdSa G 17) [] rfl mX8_61 (sG_hash (i := 17) rfl (by decide)) (wdRecv.str (i := 17) rfl) rfl rfl (wd_le rfl) (wd_le rfl) (wd_le rfl) (wd_le rfl) (fun o w' hq => ?_)
  obtain ⟨rfl, hw9⟩ := hq
  show WW _ _ _ 9 _ [.int (102846042 : Int32)] _
  rw [hw9]
  clear hw9 w'
  refine WW.lookup (tgt := 155) (off := 146) rfl (by decide) (by decide +kernel) rfl ?_
  refine WW.run (pc' := 157) (lv' := [(4, .int (-1)), (3, .ref (wdSa G 17)), (0, .ref pa), (1, .ref a), (2, .ref (wdSa G 17))]) (st' := [.int (-1)]) 1 rfl ?_
  refine WW.tableOut (tgt := 268) rfl (Or.inl (by decide)) rfl ?_
  refine WW.run (pc' := 270) (lv' := [(4, .int (-1)), (3, .ref (wdSa G 17)), (0, .ref pa), (1, .ref a), (2, .ref (wdSa G 17))]) (st' := [.ref pa, .ref a]) 2 rfl ?_
  refine WW.get rfl fX8_75 hP (show _ = some (.int u.1) from rfl) ?_
  refine WW.run (pc' := 274) (lv' := [(4, .int (-1)), (3, .ref (wdSa G 17)), (0, .ref pa), (1, .ref a), (2, .ref (wdSa G 17))]) (st' := [.ref pa, .int u.1, .ref a]) 1 rfl ?_
  refine WW.get rfl fX8_78 hP (show _ = some (.int u.2.1) from rfl) ?_
  refine WW.run (pc' := 278) (lv' := [(4, .int (-1)), (3, .ref (wdSa G 17)), (0, .ref pa), (1, .ref a), (2, .ref (wdSa G 17))]) (st' := [.ref pa, .int u.2.1, .int u.1, .ref a]) 1 rfl ?_
  refine WW.get rfl fX8_81 hP (show _ = some (.int u.2.2) from rfl) ?_
  refine WW.callVH [.int u.1, .int u.2.1, .int u.2.2] a [] rfl mX8_105 (cS_lease hS hW u.1 u.2.1 u.2.2) (wdRecv.obj hS.1.1 rfl) rfl rfl (wd_le rfl) (wd_le rfl) (wd_le rfl) (wd_le rfl) (fun o w' hq => ?_)
  cases hr : S.doLease u.1 u.2.1 u.2.2 with
  | inl e =>
    rw [hr] at hq
    obtain ⟨ci, h1, q, h2, rfl, h3, h4⟩ := hq
    show WX _ _ _ 281 _ [] _ _ _
    exact WX.out (fun _ h => nomatch h) ⟨ci, h1, q, h2, rfl, h3, h4⟩
  | inr z =>
    rw [hr] at hq
    obtain ⟨rfl, h1, h2⟩ := hq
    show WW _ _ _ 284 _ [.int z.1] _
    refine WW.run (pc' := 285) (lv' := [(4, .int (-1)), (3, .ref (wdSa G 17)), (0, .ref pa), (1, .ref a), (2, .ref (wdSa G 17))]) (st' := []) 1 rfl ?_
    exact WW.vret rfl rfl ⟨rfl, h1, h2⟩
end
