set_option maxRecDepth 100000
/-! THE OFFICE's QUESTIONS -/
section
variable {G : wdG} {l : Launch} {w : wdW} {hl : Nat} {o inp sb : Nat} {I : Nat → Int32} {cur : aS} {hn : Nat} {hist : Nat → aS} {sv : Option aS} {ic : Nat → Int32} {on : Nat} {oc : Nat → Int32}
/-- a question: it throws, or answers; nothing has changed -/
def oA (G : wdG) (o hl inp sb : Nat) (I : Nat → Int32) (cur : aS) (hn : Nat) (hist : Nat → aS) (sv : Option aS) (ic : Nat → Int32) (on : Nat) (oc : Nat → Int32) (es : List Nat) (r : Nat ⊕ Value) (w : wdW) : wdO → wdW → Prop := fun q w' => oFr inp w w' ∧ isOf G w' o hl inp sb I cur hn hist sv ic on oc ∧ match r with
  | .inl p => ∃ ci x, es[p - 1]? = some ci ∧ q = .inr (eN ci, x)
  | .inr v => q = .inl (some v)
theorem isOf.fr0 {w' : wdW} (h : isOf G w o hl inp sb I cur hn hist sv ic on oc) (ok : wdOk G w) (fr : wFr nP w w') : isOf G w' o hl inp sb I cur hn hist sv ic on oc := by
  obtain ⟨st, harr, hg, sva, sbarr, h⟩ := h
  exact ⟨st, harr, hg, sva, sbarr, h.fr0 ok fr⟩

theorem cO_coins (h : isOf G w o hl inp sb I cur hn hist sv ic on oc) (hWf : aWf cur) (x : Int32) : Sp l G MX1_coins 8 1 6 [.ref o, .int x] w (oA G o hl inp sb I cur hn hist sv ic on oc [13] (bif cur.ixS x then .inr (.int (cur.sh (tn x)).1) else .inl 1) w) := by
  have hO := h
  obtain ⟨st, harr, hg, sva, sbarr, h⟩ := h
  have g := h
  obtain ⟨g1, g2, ⟨lo, Z, gs, gl, gr, g3, -⟩, g4, g5, g6, g7⟩ := h
  have hst := g3.1.1
  refine Sp.of rfl (by decide +kernel) kX1_coins (wd_le rfl) ?_
  refine WW.ok fun ok => ?_
  replace ok : wdOk G w := ok
  refine WW.run (pc' := 1) (lv' := [(0, .ref o), (1, .int x)]) (st' := [.ref o]) 1 rfl ?_
  refine WW.get rfl fX1_10 g1 (show _ = some (.ref st) from rfl) ?_
  refine WW.run (pc' := 5) (lv' := [(0, .ref o), (1, .int x)]) (st' := [.int x, .ref st]) 1 rfl ?_
  refine WW.callV [.int x] st [] rfl mX1_109 (cS_ship g3 hWf x) (wdRecv.obj hst rfl) rfl rfl (wd_le rfl) (wd_le rfl) (wd_le rfl) (wd_le rfl) (fun o w' hq => ?_)
  cases hx : cur.ixS x with
  | false =>
    rw [hx] at hq
    obtain ⟨q, e1, rfl, e3, e4⟩ := hq
    show WX _ _ _ 5 _ [] _ _ _
    exact WX.out (fun _ h => nomatch h) ⟨oFr.of0 ok e3, hO.fr0 ok e3, 13, q, rfl, rfl⟩
  | true =>
    rw [hx] at hq
    obtain ⟨rfl, hw9⟩ := hq
    obtain ⟨j, hj, rfl, tx⟩ := hWf.ixS hx
    show WW _ _ _ 8 _ [.ref (gs (tn (nI j)))] _
    rw [hw9, tx]
    clear hw9 w'
    have hsh := (g3.2.2.2.1.1 j hj).1
    refine WW.get rfl fX1_113 hsh (show _ = some (.int ((cur.sh j).1)) from rfl) ?_
    exact WW.iret rfl rfl rfl ⟨oFr.refl _ _, hO, rfl⟩
theorem cO_finesPaid (h : isOf G w o hl inp sb I cur hn hist sv ic on oc) (hWf : aWf cur) (x : Int32) : Sp l G MX1_finesPaid 8 1 6 [.ref o, .int x] w (oA G o hl inp sb I cur hn hist sv ic on oc [13] (bif cur.ixS x then .inr (.int (cur.sh (tn x)).2.1) else .inl 1) w) := by
  have hO := h
  obtain ⟨st, harr, hg, sva, sbarr, h⟩ := h
  have g := h
  obtain ⟨g1, g2, ⟨lo, Z, gs, gl, gr, g3, -⟩, g4, g5, g6, g7⟩ := h
  have hst := g3.1.1
  refine Sp.of rfl (by decide +kernel) kX1_finesPaid (wd_le rfl) ?_
  refine WW.ok fun ok => ?_
  replace ok : wdOk G w := ok
  refine WW.run (pc' := 1) (lv' := [(0, .ref o), (1, .int x)]) (st' := [.ref o]) 1 rfl ?_
  refine WW.get rfl fX1_10 g1 (show _ = some (.ref st) from rfl) ?_
  refine WW.run (pc' := 5) (lv' := [(0, .ref o), (1, .int x)]) (st' := [.int x, .ref st]) 1 rfl ?_
  refine WW.callV [.int x] st [] rfl mX1_109 (cS_ship g3 hWf x) (wdRecv.obj hst rfl) rfl rfl (wd_le rfl) (wd_le rfl) (wd_le rfl) (wd_le rfl) (fun o w' hq => ?_)
  cases hx : cur.ixS x with
  | false =>
    rw [hx] at hq
    obtain ⟨q, e1, rfl, e3, e4⟩ := hq
    show WX _ _ _ 5 _ [] _ _ _
    exact WX.out (fun _ h => nomatch h) ⟨oFr.of0 ok e3, hO.fr0 ok e3, 13, q, rfl, rfl⟩
  | true =>
    rw [hx] at hq
    obtain ⟨rfl, hw9⟩ := hq
    obtain ⟨j, hj, rfl, tx⟩ := hWf.ixS hx
    show WW _ _ _ 8 _ [.ref (gs (tn (nI j)))] _
    rw [hw9, tx]
    clear hw9 w'
    have hsh := (g3.2.2.2.1.1 j hj).1
    refine WW.get rfl fX1_118 hsh (show _ = some (.int ((cur.sh j).2.1)) from rfl) ?_
    exact WW.iret rfl rfl rfl ⟨oFr.refl _ _, hO, rfl⟩
theorem cO_darkHours (h : isOf G w o hl inp sb I cur hn hist sv ic on oc) (hWf : aWf cur) (x : Int32) : Sp l G MX1_darkHours 8 1 6 [.ref o, .int x] w (oA G o hl inp sb I cur hn hist sv ic on oc [13] (bif cur.ixS x then .inr (.int (cur.sh (tn x)).2.2) else .inl 1) w) := by
  have hO := h
  obtain ⟨st, harr, hg, sva, sbarr, h⟩ := h
  have g := h
  obtain ⟨g1, g2, ⟨lo, Z, gs, gl, gr, g3, -⟩, g4, g5, g6, g7⟩ := h
  have hst := g3.1.1
  refine Sp.of rfl (by decide +kernel) kX1_darkHours (wd_le rfl) ?_
  refine WW.ok fun ok => ?_
  replace ok : wdOk G w := ok
  refine WW.run (pc' := 1) (lv' := [(0, .ref o), (1, .int x)]) (st' := [.ref o]) 1 rfl ?_
  refine WW.get rfl fX1_10 g1 (show _ = some (.ref st) from rfl) ?_
  refine WW.run (pc' := 5) (lv' := [(0, .ref o), (1, .int x)]) (st' := [.int x, .ref st]) 1 rfl ?_
  refine WW.callV [.int x] st [] rfl mX1_109 (cS_ship g3 hWf x) (wdRecv.obj hst rfl) rfl rfl (wd_le rfl) (wd_le rfl) (wd_le rfl) (wd_le rfl) (fun o w' hq => ?_)
  cases hx : cur.ixS x with
  | false =>
    rw [hx] at hq
    obtain ⟨q, e1, rfl, e3, e4⟩ := hq
    show WX _ _ _ 5 _ [] _ _ _
    exact WX.out (fun _ h => nomatch h) ⟨oFr.of0 ok e3, hO.fr0 ok e3, 13, q, rfl, rfl⟩
  | true =>
    rw [hx] at hq
    obtain ⟨rfl, hw9⟩ := hq
    obtain ⟨j, hj, rfl, tx⟩ := hWf.ixS hx
    show WW _ _ _ 8 _ [.ref (gs (tn (nI j)))] _
    rw [hw9, tx]
    clear hw9 w'
    have hsh := (g3.2.2.2.1.1 j hj).1
    refine WW.get rfl fX1_121 hsh (show _ = some (.int ((cur.sh j).2.2)) from rfl) ?_
    exact WW.iret rfl rfl rfl ⟨oFr.refl _ _, hO, rfl⟩
theorem cO_demand (h : isOf G w o hl inp sb I cur hn hist sv ic on oc) (hWf : aWf cur) (x : Int32) : Sp l G MX1_demand 8 2 10 [.ref o, .int x] w (oA G o hl inp sb I cur hn hist sv ic on oc [13] (bif cur.ixS x then .inr (.int (cur.demand (tn x))) else .inl 1) w) := by
  have hO := h
  obtain ⟨st, harr, hg, sva, sbarr, h⟩ := h
  have g := h
  obtain ⟨g1, g2, ⟨lo, Z, gs, gl, gr, g3, -⟩, g4, g5, g6, g7⟩ := h
  have hst := g3.1.1
  refine Sp.of rfl (by decide +kernel) kX1_demand (wd_le rfl) ?_
  refine WW.ok fun ok => ?_
  replace ok : wdOk G w := ok
  refine WW.run (pc' := 1) (lv' := [(0, .ref o), (1, .int x)]) (st' := [.ref o]) 1 rfl ?_
  refine WW.get rfl fX1_10 g1 (show _ = some (.ref st) from rfl) ?_
  refine WW.run (pc' := 5) (lv' := [(0, .ref o), (1, .int x)]) (st' := [.int x, .ref st]) 1 rfl ?_
  refine WW.callV [.int x] st [] rfl mX1_109 (cS_ship g3 hWf x) (wdRecv.obj hst rfl) rfl rfl (wd_le rfl) (wd_le rfl) (wd_le rfl) (wd_le rfl) (fun o w' hq => ?_)
  cases hx : cur.ixS x with
  | false =>
    rw [hx] at hq
    obtain ⟨q, e1, rfl, e3, e4⟩ := hq
    show WX _ _ _ 5 _ [] _ _ _
    exact WX.out (fun _ h => nomatch h) ⟨oFr.of0 ok e3, hO.fr0 ok e3, 13, q, rfl, rfl⟩
  | true =>
    rw [hx] at hq
    obtain ⟨rfl, hw9⟩ := hq
    obtain ⟨j, hj, rfl, tx⟩ := hWf.ixS hx
    show WW _ _ _ 8 _ [.ref (gs (tn (nI j)))] _
    rw [hw9, tx]
    clear hw9 w'
    refine WW.run (pc' := 10) (lv' := [(0, .ref o), (1, .int (nI j))]) (st' := [.ref o]) 2 rfl ?_
    refine WW.get rfl fX1_10 g1 (show _ = some (.ref st) from rfl) ?_
    refine WW.run (pc' := 14) (lv' := [(0, .ref o), (1, .int (nI j))]) (st' := [.int (nI j), .ref st]) 1 rfl ?_
    have h6 := hWf.1
    refine WW.callV [.int (nI j)] st [] rfl mX1_124 (cS_demand g3 hWf (j := j) (by omega)) (wdRecv.obj hst rfl) rfl rfl (wd_le rfl) (wd_le rfl) (wd_le rfl) (wd_le rfl) (fun o w' hq => ?_)
    obtain ⟨rfl, fr⟩ := hq
    show WW _ _ _ 17 _ [.int (cur.demand j)] _
    exact WW.iret rfl rfl rfl ⟨oFr.of0 ok fr, hO.fr0 ok fr, rfl⟩
theorem cO_leasesOf (h : isOf G w o hl inp sb I cur hn hist sv ic on oc) (hWf : aWf cur) (x : Int32) : Sp l G MX1_leasesOf 8 2 10 [.ref o, .int x] w (oA G o hl inp sb I cur hn hist sv ic on oc [13] (bif cur.ixS x then .inr (.int (cur.leasesOf (tn x))) else .inl 1) w) := by
  have hO := h
  obtain ⟨st, harr, hg, sva, sbarr, h⟩ := h
  have g := h
  obtain ⟨g1, g2, ⟨lo, Z, gs, gl, gr, g3, -⟩, g4, g5, g6, g7⟩ := h
  have hst := g3.1.1
  refine Sp.of rfl (by decide +kernel) kX1_leasesOf (wd_le rfl) ?_
  refine WW.ok fun ok => ?_
  replace ok : wdOk G w := ok
  refine WW.run (pc' := 1) (lv' := [(0, .ref o), (1, .int x)]) (st' := [.ref o]) 1 rfl ?_
  refine WW.get rfl fX1_10 g1 (show _ = some (.ref st) from rfl) ?_
  refine WW.run (pc' := 5) (lv' := [(0, .ref o), (1, .int x)]) (st' := [.int x, .ref st]) 1 rfl ?_
  refine WW.callV [.int x] st [] rfl mX1_109 (cS_ship g3 hWf x) (wdRecv.obj hst rfl) rfl rfl (wd_le rfl) (wd_le rfl) (wd_le rfl) (wd_le rfl) (fun o w' hq => ?_)
  cases hx : cur.ixS x with
  | false =>
    rw [hx] at hq
    obtain ⟨q, e1, rfl, e3, e4⟩ := hq
    show WX _ _ _ 5 _ [] _ _ _
    exact WX.out (fun _ h => nomatch h) ⟨oFr.of0 ok e3, hO.fr0 ok e3, 13, q, rfl, rfl⟩
  | true =>
    rw [hx] at hq
    obtain ⟨rfl, hw9⟩ := hq
    obtain ⟨j, hj, rfl, tx⟩ := hWf.ixS hx
    show WW _ _ _ 8 _ [.ref (gs (tn (nI j)))] _
    rw [hw9, tx]
    clear hw9 w'
    refine WW.run (pc' := 10) (lv' := [(0, .ref o), (1, .int (nI j))]) (st' := [.ref o]) 2 rfl ?_
    refine WW.get rfl fX1_10 g1 (show _ = some (.ref st) from rfl) ?_
    refine WW.run (pc' := 14) (lv' := [(0, .ref o), (1, .int (nI j))]) (st' := [.int (nI j), .ref st]) 1 rfl ?_
    have h6 := hWf.1
    refine WW.callV [.int (nI j)] st [] rfl mX1_127 (cS_leasesOf g3 hWf (j := j) (by omega)) (wdRecv.obj hst rfl) rfl rfl (wd_le rfl) (wd_le rfl) (wd_le rfl) (wd_le rfl) (fun o w' hq => ?_)
    obtain ⟨rfl, fr⟩ := hq
    show WW _ _ _ 17 _ [.int (cur.leasesOf j)] _
    exact WW.iret rfl rfl rfl ⟨oFr.of0 ok fr, hO.fr0 ok fr, rfl⟩
theorem cO_level (h : isOf G w o hl inp sb I cur hn hist sv ic on oc) (hWf : aWf cur) (x : Int32) : Sp l G MX1_level 8 1 6 [.ref o, .int x] w (oA G o hl inp sb I cur hn hist sv ic on oc [13] (bif cur.ixL x then .inr (.int ((cur.la (tn x)).lv)) else .inl 1) w) := by
  have hO := h
  obtain ⟨st, harr, hg, sva, sbarr, h⟩ := h
  have g := h
  obtain ⟨g1, g2, ⟨lo, Z, gs, gl, gr, g3, -⟩, g4, g5, g6, g7⟩ := h
  have hst := g3.1.1
  refine Sp.of rfl (by decide +kernel) kX1_level (wd_le rfl) ?_
  refine WW.ok fun ok => ?_
  replace ok : wdOk G w := ok
  refine WW.run (pc' := 1) (lv' := [(0, .ref o), (1, .int x)]) (st' := [.ref o]) 1 rfl ?_
  refine WW.get rfl fX1_10 g1 (show _ = some (.ref st) from rfl) ?_
  refine WW.run (pc' := 5) (lv' := [(0, .ref o), (1, .int x)]) (st' := [.int x, .ref st]) 1 rfl ?_
  refine WW.callV [.int x] st [] rfl mX1_133 (cS_lamp g3 hWf x) (wdRecv.obj hst rfl) rfl rfl (wd_le rfl) (wd_le rfl) (wd_le rfl) (wd_le rfl) (fun o w' hq => ?_)
  cases hx : cur.ixL x with
  | false =>
    rw [hx] at hq
    obtain ⟨q, e1, rfl, e3, e4⟩ := hq
    show WX _ _ _ 5 _ [] _ _ _
    exact WX.out (fun _ h => nomatch h) ⟨oFr.of0 ok e3, hO.fr0 ok e3, 13, q, rfl, rfl⟩
  | true =>
    rw [hx] at hq
    obtain ⟨rfl, hw9⟩ := hq
    obtain ⟨j, hj, rfl, tx⟩ := hWf.ixL hx
    show WW _ _ _ 8 _ [.ref (gl (tn (nI j)))] _
    rw [hw9, tx]
    clear hw9 w'
    have hla := (g3.2.2.2.2.1.1 j hj).1
    refine WW.get rfl fX1_137 hla (show _ = some (.int ((cur.la j).1)) from rfl) ?_
    exact WW.iret rfl rfl rfl ⟨oFr.refl _ _, hO, rfl⟩
theorem cO_isLeased (h : isOf G w o hl inp sb I cur hn hist sv ic on oc) (hWf : aWf cur) (x : Int32) : Sp l G MX1_isLeased 8 1 6 [.ref o, .int x] w (oA G o hl inp sb I cur hn hist sv ic on oc [13] (bif cur.ixL x then .inr (.int (bI (Nat.blt 0 (cur.la (tn x)).le))) else .inl 1) w) := by
  have hO := h
  obtain ⟨st, harr, hg, sva, sbarr, h⟩ := h
  have g := h
  obtain ⟨g1, g2, ⟨lo, Z, gs, gl, gr, g3, -⟩, g4, g5, g6, g7⟩ := h
  have hst := g3.1.1
  refine Sp.of rfl (by decide +kernel) kX1_isLeased (wd_le rfl) ?_
  refine WW.ok fun ok => ?_
  replace ok : wdOk G w := ok
  refine WW.run (pc' := 1) (lv' := [(0, .ref o), (1, .int x)]) (st' := [.ref o]) 1 rfl ?_
  refine WW.get rfl fX1_10 g1 (show _ = some (.ref st) from rfl) ?_
  refine WW.run (pc' := 5) (lv' := [(0, .ref o), (1, .int x)]) (st' := [.int x, .ref st]) 1 rfl ?_
  refine WW.callV [.int x] st [] rfl mX1_133 (cS_lamp g3 hWf x) (wdRecv.obj hst rfl) rfl rfl (wd_le rfl) (wd_le rfl) (wd_le rfl) (wd_le rfl) (fun o w' hq => ?_)
  cases hx : cur.ixL x with
  | false =>
    rw [hx] at hq
    obtain ⟨q, e1, rfl, e3, e4⟩ := hq
    show WX _ _ _ 5 _ [] _ _ _
    exact WX.out (fun _ h => nomatch h) ⟨oFr.of0 ok e3, hO.fr0 ok e3, 13, q, rfl, rfl⟩
  | true =>
    rw [hx] at hq
    obtain ⟨rfl, hw9⟩ := hq
    obtain ⟨j, hj, rfl, tx⟩ := hWf.ixL hx
    show WW _ _ _ 8 _ [.ref (gl (tn (nI j)))] _
    rw [hw9, tx]
    clear hw9 w'
    have hla := (g3.2.2.2.2.1.1 j hj).1
    refine WW.callV [] (gl j) [] rfl mX1_142 (sP_isLeased hla (hWf.le hj)) (wdRecv.obj hla rfl) rfl rfl (wd_le rfl) (wd_le rfl) (wd_le rfl) (wd_le rfl) (fun o w' hq => ?_)
    obtain ⟨rfl, hw9⟩ := hq
    show WW _ _ _ 11 _ [.int (bI (Nat.blt 0 (cur.la j).le))] _
    rw [hw9]
    clear hw9 w'
    exact WW.iret rfl rfl (nar_b _) ⟨oFr.refl _ _, hO, rfl⟩
theorem cO_brightHours (h : isOf G w o hl inp sb I cur hn hist sv ic on oc) (hWf : aWf cur) (x : Int32) : Sp l G MX1_brightHours 8 1 6 [.ref o, .int x] w (oA G o hl inp sb I cur hn hist sv ic on oc [13] (bif cur.ixL x then .inr (.int ((cur.la (tn x)).br)) else .inl 1) w) := by
  have hO := h
  obtain ⟨st, harr, hg, sva, sbarr, h⟩ := h
  have g := h
  obtain ⟨g1, g2, ⟨lo, Z, gs, gl, gr, g3, -⟩, g4, g5, g6, g7⟩ := h
  have hst := g3.1.1
  refine Sp.of rfl (by decide +kernel) kX1_brightHours (wd_le rfl) ?_
  refine WW.ok fun ok => ?_
  replace ok : wdOk G w := ok
  refine WW.run (pc' := 1) (lv' := [(0, .ref o), (1, .int x)]) (st' := [.ref o]) 1 rfl ?_
  refine WW.get rfl fX1_10 g1 (show _ = some (.ref st) from rfl) ?_
  refine WW.run (pc' := 5) (lv' := [(0, .ref o), (1, .int x)]) (st' := [.int x, .ref st]) 1 rfl ?_
  refine WW.callV [.int x] st [] rfl mX1_133 (cS_lamp g3 hWf x) (wdRecv.obj hst rfl) rfl rfl (wd_le rfl) (wd_le rfl) (wd_le rfl) (wd_le rfl) (fun o w' hq => ?_)
  cases hx : cur.ixL x with
  | false =>
    rw [hx] at hq
    obtain ⟨q, e1, rfl, e3, e4⟩ := hq
    show WX _ _ _ 5 _ [] _ _ _
    exact WX.out (fun _ h => nomatch h) ⟨oFr.of0 ok e3, hO.fr0 ok e3, 13, q, rfl, rfl⟩
  | true =>
    rw [hx] at hq
    obtain ⟨rfl, hw9⟩ := hq
    obtain ⟨j, hj, rfl, tx⟩ := hWf.ixL hx
    show WW _ _ _ 8 _ [.ref (gl (tn (nI j)))] _
    rw [hw9, tx]
    clear hw9 w'
    have hla := (g3.2.2.2.2.1.1 j hj).1
    refine WW.get rfl fX1_155 hla (show _ = some (.int ((cur.la j).2.2.2.1)) from rfl) ?_
    exact WW.iret rfl rfl rfl ⟨oFr.refl _ _, hO, rfl⟩
theorem cO_wasBright (h : isOf G w o hl inp sb I cur hn hist sv ic on oc) (hWf : aWf cur) (x : Int32) : Sp l G MX1_wasBright 8 1 6 [.ref o, .int x] w (oA G o hl inp sb I cur hn hist sv ic on oc [13] (bif cur.ixL x then .inr (.int (bI (cur.la (tn x)).was)) else .inl 1) w) := by
  have hO := h
  obtain ⟨st, harr, hg, sva, sbarr, h⟩ := h
  have g := h
  obtain ⟨g1, g2, ⟨lo, Z, gs, gl, gr, g3, -⟩, g4, g5, g6, g7⟩ := h
  have hst := g3.1.1
  refine Sp.of rfl (by decide +kernel) kX1_wasBright (wd_le rfl) ?_
  refine WW.ok fun ok => ?_
  replace ok : wdOk G w := ok
  refine WW.run (pc' := 1) (lv' := [(0, .ref o), (1, .int x)]) (st' := [.ref o]) 1 rfl ?_
  refine WW.get rfl fX1_10 g1 (show _ = some (.ref st) from rfl) ?_
  refine WW.run (pc' := 5) (lv' := [(0, .ref o), (1, .int x)]) (st' := [.int x, .ref st]) 1 rfl ?_
  refine WW.callV [.int x] st [] rfl mX1_133 (cS_lamp g3 hWf x) (wdRecv.obj hst rfl) rfl rfl (wd_le rfl) (wd_le rfl) (wd_le rfl) (wd_le rfl) (fun o w' hq => ?_)
  cases hx : cur.ixL x with
  | false =>
    rw [hx] at hq
    obtain ⟨q, e1, rfl, e3, e4⟩ := hq
    show WX _ _ _ 5 _ [] _ _ _
    exact WX.out (fun _ h => nomatch h) ⟨oFr.of0 ok e3, hO.fr0 ok e3, 13, q, rfl, rfl⟩
  | true =>
    rw [hx] at hq
    obtain ⟨rfl, hw9⟩ := hq
    obtain ⟨j, hj, rfl, tx⟩ := hWf.ixL hx
    show WW _ _ _ 8 _ [.ref (gl (tn (nI j)))] _
    rw [hw9, tx]
    clear hw9 w'
    have hla := (g3.2.2.2.2.1.1 j hj).1
    refine WW.get rfl fX1_158 hla (show _ = some (.int (bI (cur.la j).2.2.2.2)) from rfl) ?_
    exact WW.iret rfl rfl (nar_b _) ⟨oFr.refl _ _, hO, rfl⟩
theorem cO_lessee (h : isOf G w o hl inp sb I cur hn hist sv ic on oc) (hWf : aWf cur) (x : Int32) : Sp l G MX1_lessee 9 2 12 [.ref o, .int x] w (oA G o hl inp sb I cur hn hist sv ic on oc [13, 16] (bif cur.ixL x then (bif Nat.blt 0 (cur.la (tn x)).le then .inr (.int (nI (cur.la (tn x)).le - nI 1)) else .inl 2) else .inl 1) w) := by
  have hO := h
  obtain ⟨st, harr, hg, sva, sbarr, h⟩ := h
  have g := h
  obtain ⟨g1, g2, ⟨lo, Z, gs, gl, gr, g3, -⟩, g4, g5, g6, g7⟩ := h
  have hst := g3.1.1
  refine Sp.of rfl (by decide +kernel) kX1_lessee (wd_le rfl) ?_
  refine WW.ok fun ok => ?_
  replace ok : wdOk G w := ok
  refine WW.run (pc' := 1) (lv' := [(0, .ref o), (1, .int x)]) (st' := [.ref o]) 1 rfl ?_
  refine WW.get rfl fX1_10 g1 (show _ = some (.ref st) from rfl) ?_
  refine WW.run (pc' := 5) (lv' := [(0, .ref o), (1, .int x)]) (st' := [.int x, .ref st]) 1 rfl ?_
  refine WW.callV [.int x] st [] rfl mX1_146 (cS_leasedLamp g3 hWf x) (wdRecv.obj hst rfl) rfl rfl (wd_le rfl) (wd_le rfl) (wd_le rfl) (wd_le rfl) (fun o w' hq => ?_)
  cases hx : cur.ixL x with
  | false =>
    rw [hx] at hq
    obtain ⟨q, e1, rfl, e3, e4⟩ := hq
    show WX _ _ _ 5 _ [] _ _ _
    exact WX.out (fun _ h => nomatch h) ⟨oFr.of0 ok e3, hO.fr0 ok e3, 13, q, rfl, rfl⟩
  | true =>
    rw [hx] at hq
    obtain ⟨j, hj, rfl, tx⟩ := hWf.ixL hx
    rw [tx] at hq ⊢
    cases hb : Nat.blt 0 (cur.la j).le with
    | false =>
      rw [hb] at hq
      obtain ⟨q, e1, rfl, e3, e4⟩ := hq
      show WX _ _ _ 5 _ [] _ _ _
      exact WX.out (fun _ h => nomatch h) ⟨oFr.of0 ok e3, hO.fr0 ok e3, 16, q, rfl, rfl⟩
    | true =>
      rw [hb] at hq
      obtain ⟨rfl, hw9⟩ := hq
      show WW _ _ _ 8 _ [.ref (gl j)] _
      rw [hw9]
      clear hw9 w'
      have hla := (g3.2.2.2.2.1.1 j hj).1
      refine WW.get rfl fX1_149 hla (show _ = some (.int (nI (cur.la j).2.1 - nI 1)) from rfl) ?_
      exact WW.iret rfl rfl rfl ⟨oFr.refl _ _, hO, rfl⟩
theorem cO_endHour (h : isOf G w o hl inp sb I cur hn hist sv ic on oc) (hWf : aWf cur) (x : Int32) : Sp l G MX1_endHour 9 2 12 [.ref o, .int x] w (oA G o hl inp sb I cur hn hist sv ic on oc [13, 16] (bif cur.ixL x then (bif Nat.blt 0 (cur.la (tn x)).le then .inr (.int ((cur.la (tn x)).en)) else .inl 2) else .inl 1) w) := by
  have hO := h
  obtain ⟨st, harr, hg, sva, sbarr, h⟩ := h
  have g := h
  obtain ⟨g1, g2, ⟨lo, Z, gs, gl, gr, g3, -⟩, g4, g5, g6, g7⟩ := h
  have hst := g3.1.1
  refine Sp.of rfl (by decide +kernel) kX1_endHour (wd_le rfl) ?_
  refine WW.ok fun ok => ?_
  replace ok : wdOk G w := ok
  refine WW.run (pc' := 1) (lv' := [(0, .ref o), (1, .int x)]) (st' := [.ref o]) 1 rfl ?_
  refine WW.get rfl fX1_10 g1 (show _ = some (.ref st) from rfl) ?_
  refine WW.run (pc' := 5) (lv' := [(0, .ref o), (1, .int x)]) (st' := [.int x, .ref st]) 1 rfl ?_
  refine WW.callV [.int x] st [] rfl mX1_146 (cS_leasedLamp g3 hWf x) (wdRecv.obj hst rfl) rfl rfl (wd_le rfl) (wd_le rfl) (wd_le rfl) (wd_le rfl) (fun o w' hq => ?_)
  cases hx : cur.ixL x with
  | false =>
    rw [hx] at hq
    obtain ⟨q, e1, rfl, e3, e4⟩ := hq
    show WX _ _ _ 5 _ [] _ _ _
    exact WX.out (fun _ h => nomatch h) ⟨oFr.of0 ok e3, hO.fr0 ok e3, 13, q, rfl, rfl⟩
  | true =>
    rw [hx] at hq
    obtain ⟨j, hj, rfl, tx⟩ := hWf.ixL hx
    rw [tx] at hq ⊢
    cases hb : Nat.blt 0 (cur.la j).le with
    | false =>
      rw [hb] at hq
      obtain ⟨q, e1, rfl, e3, e4⟩ := hq
      show WX _ _ _ 5 _ [] _ _ _
      exact WX.out (fun _ h => nomatch h) ⟨oFr.of0 ok e3, hO.fr0 ok e3, 16, q, rfl, rfl⟩
    | true =>
      rw [hb] at hq
      obtain ⟨rfl, hw9⟩ := hq
      show WW _ _ _ 8 _ [.ref (gl j)] _
      rw [hw9]
      clear hw9 w'
      have hla := (g3.2.2.2.2.1.1 j hj).1
      refine WW.get rfl fX1_152 hla (show _ = some (.int ((cur.la j).2.2.1)) from rfl) ?_
      exact WW.iret rfl rfl rfl ⟨oFr.refl _ _, hO, rfl⟩
theorem cO_hour (h : isOf G w o hl inp sb I cur hn hist sv ic on oc) (hWf : aWf cur) : Sp l G MX1_hour 1 0 0 [.ref o] w (oA G o hl inp sb I cur hn hist sv ic on oc [] (.inr (.int cur.hour)) w) := by
  have hO := h
  obtain ⟨st, harr, hg, sva, sbarr, h⟩ := h
  have g := h
  obtain ⟨g1, g2, ⟨lo, Z, gs, gl, gr, g3, -⟩, g4, g5, g6, g7⟩ := h
  have hst := g3.1.1
  refine Sp.of rfl (by decide +kernel) kX1_hour (wd_le rfl) ?_
  refine WW.ok fun ok => ?_
  replace ok : wdOk G w := ok
  refine WW.run (pc' := 1) (lv' := [(0, .ref o)]) (st' := [.ref o]) 1 rfl ?_
  refine WW.get rfl fX1_10 g1 (show _ = some (.ref st) from rfl) ?_
  refine WW.get rfl fX1_103 hst (show _ = some (.int cur.hour) from rfl) ?_
  exact WW.iret rfl rfl rfl ⟨oFr.refl _ _, hO, rfl⟩
theorem cO_oil (h : isOf G w o hl inp sb I cur hn hist sv ic on oc) (hWf : aWf cur) : Sp l G MX1_oil 1 0 0 [.ref o] w (oA G o hl inp sb I cur hn hist sv ic on oc [] (.inr (.int cur.oil)) w) := by
  have hO := h
  obtain ⟨st, harr, hg, sva, sbarr, h⟩ := h
  have g := h
  obtain ⟨g1, g2, ⟨lo, Z, gs, gl, gr, g3, -⟩, g4, g5, g6, g7⟩ := h
  have hst := g3.1.1
  refine Sp.of rfl (by decide +kernel) kX1_oil (wd_le rfl) ?_
  refine WW.ok fun ok => ?_
  replace ok : wdOk G w := ok
  refine WW.run (pc' := 1) (lv' := [(0, .ref o)]) (st' := [.ref o]) 1 rfl ?_
  refine WW.get rfl fX1_10 g1 (show _ = some (.ref st) from rfl) ?_
  refine WW.get rfl fX1_165 hst (show _ = some (.int cur.oil) from rfl) ?_
  exact WW.iret rfl rfl rfl ⟨oFr.refl _ _, hO, rfl⟩
theorem cO_refusedRenewals (h : isOf G w o hl inp sb I cur hn hist sv ic on oc) (hWf : aWf cur) : Sp l G MX1_refusedRenewals 1 0 0 [.ref o] w (oA G o hl inp sb I cur hn hist sv ic on oc [] (.inr (.int cur.refused)) w) := by
  have hO := h
  obtain ⟨st, harr, hg, sva, sbarr, h⟩ := h
  have g := h
  obtain ⟨g1, g2, ⟨lo, Z, gs, gl, gr, g3, -⟩, g4, g5, g6, g7⟩ := h
  have hst := g3.1.1
  refine Sp.of rfl (by decide +kernel) kX1_refusedRenewals (wd_le rfl) ?_
  refine WW.ok fun ok => ?_
  replace ok : wdOk G w := ok
  refine WW.run (pc' := 1) (lv' := [(0, .ref o)]) (st' := [.ref o]) 1 rfl ?_
  refine WW.get rfl fX1_10 g1 (show _ = some (.ref st) from rfl) ?_
  refine WW.get rfl fX1_220 hst (show _ = some (.int cur.refused) from rfl) ?_
  exact WW.iret rfl rfl rfl ⟨oFr.refl _ _, hO, rfl⟩
theorem cO_officeCoins (h : isOf G w o hl inp sb I cur hn hist sv ic on oc) (hWf : aWf cur) : Sp l G MX1_officeCoins 1 0 0 [.ref o] w (oA G o hl inp sb I cur hn hist sv ic on oc [] (.inr (.int cur.office)) w) := by
  have hO := h
  obtain ⟨st, harr, hg, sva, sbarr, h⟩ := h
  have g := h
  obtain ⟨g1, g2, ⟨lo, Z, gs, gl, gr, g3, -⟩, g4, g5, g6, g7⟩ := h
  have hst := g3.1.1
  refine Sp.of rfl (by decide +kernel) kX1_officeCoins (wd_le rfl) ?_
  refine WW.ok fun ok => ?_
  replace ok : wdOk G w := ok
  refine WW.run (pc' := 1) (lv' := [(0, .ref o)]) (st' := [.ref o]) 1 rfl ?_
  refine WW.get rfl fX1_10 g1 (show _ = some (.ref st) from rfl) ?_
  refine WW.get rfl fX1_223 hst (show _ = some (.int cur.office) from rfl) ?_
  exact WW.iret rfl rfl rfl ⟨oFr.refl _ _, hO, rfl⟩
theorem cO_shipCount (h : isOf G w o hl inp sb I cur hn hist sv ic on oc) (hWf : aWf cur) : Sp l G MX1_shipCount 1 0 0 [.ref o] w (oA G o hl inp sb I cur hn hist sv ic on oc [] (.inr (.int (nI cur.ns))) w) := by
  have hO := h
  obtain ⟨st, harr, hg, sva, sbarr, h⟩ := h
  have g := h
  obtain ⟨g1, g2, ⟨lo, Z, gs, gl, gr, g3, -⟩, g4, g5, g6, g7⟩ := h
  have hst := g3.1.1
  refine Sp.of rfl (by decide +kernel) kX1_shipCount (wd_le rfl) ?_
  refine WW.ok fun ok => ?_
  replace ok : wdOk G w := ok
  refine WW.run (pc' := 1) (lv' := [(0, .ref o)]) (st' := [.ref o]) 1 rfl ?_
  refine WW.get rfl fX1_10 g1 (show _ = some (.ref st) from rfl) ?_
  refine WW.get rfl fX1_106 hst (show _ = some (.ref (Z 0)) from rfl) ?_
  have hz := g3.2.1.1
  obtain ⟨mc0, hl0⟩ := hz.1
  refine WW.callV [] (Z 0) [] rfl mX1_59 (sL_size hz) (wdRecv.obj hl0 rfl) rfl rfl (wd_le rfl) (wd_le rfl) (wd_le rfl) (wd_le rfl) (fun o w' hq => ?_)
  obtain ⟨rfl, hw9⟩ := hq
  show WW _ _ _ 10 _ [.int (nI cur.ns)] _
  rw [hw9]
  clear hw9 w'
  exact WW.iret rfl rfl rfl ⟨oFr.refl _ _, hO, rfl⟩
theorem cO_lampCount (h : isOf G w o hl inp sb I cur hn hist sv ic on oc) (hWf : aWf cur) : Sp l G MX1_lampCount 1 0 0 [.ref o] w (oA G o hl inp sb I cur hn hist sv ic on oc [] (.inr (.int (nI cur.nl))) w) := by
  have hO := h
  obtain ⟨st, harr, hg, sva, sbarr, h⟩ := h
  have g := h
  obtain ⟨g1, g2, ⟨lo, Z, gs, gl, gr, g3, -⟩, g4, g5, g6, g7⟩ := h
  have hst := g3.1.1
  refine Sp.of rfl (by decide +kernel) kX1_lampCount (wd_le rfl) ?_
  refine WW.ok fun ok => ?_
  replace ok : wdOk G w := ok
  refine WW.run (pc' := 1) (lv' := [(0, .ref o)]) (st' := [.ref o]) 1 rfl ?_
  refine WW.get rfl fX1_10 g1 (show _ = some (.ref st) from rfl) ?_
  refine WW.get rfl fX1_130 hst (show _ = some (.ref (Z 1)) from rfl) ?_
  have hz := g3.2.1.2.1
  obtain ⟨mc0, hl0⟩ := hz.1
  refine WW.callV [] (Z 1) [] rfl mX1_59 (sL_size hz) (wdRecv.obj hl0 rfl) rfl rfl (wd_le rfl) (wd_le rfl) (wd_le rfl) (wd_le rfl) (fun o w' hq => ?_)
  obtain ⟨rfl, hw9⟩ := hq
  show WW _ _ _ 10 _ [.int (nI cur.nl)] _
  rw [hw9]
  clear hw9 w'
  exact WW.iret rfl rfl rfl ⟨oFr.refl _ _, hO, rfl⟩
theorem cO_requestCount (h : isOf G w o hl inp sb I cur hn hist sv ic on oc) (hWf : aWf cur) : Sp l G MX1_requestCount 1 0 0 [.ref o] w (oA G o hl inp sb I cur hn hist sv ic on oc [] (.inr (.int (nI cur.nr))) w) := by
  have hO := h
  obtain ⟨st, harr, hg, sva, sbarr, h⟩ := h
  have g := h
  obtain ⟨g1, g2, ⟨lo, Z, gs, gl, gr, g3, -⟩, g4, g5, g6, g7⟩ := h
  have hst := g3.1.1
  refine Sp.of rfl (by decide +kernel) kX1_requestCount (wd_le rfl) ?_
  refine WW.ok fun ok => ?_
  replace ok : wdOk G w := ok
  refine WW.run (pc' := 1) (lv' := [(0, .ref o)]) (st' := [.ref o]) 1 rfl ?_
  refine WW.get rfl fX1_10 g1 (show _ = some (.ref st) from rfl) ?_
  refine WW.get rfl fX1_200 hst (show _ = some (.ref (Z 2)) from rfl) ?_
  have hz := g3.2.1.2.2
  obtain ⟨mc0, hl0⟩ := hz.1
  refine WW.callV [] (Z 2) [] rfl mX1_59 (sL_size hz) (wdRecv.obj hl0 rfl) rfl rfl (wd_le rfl) (wd_le rfl) (wd_le rfl) (wd_le rfl) (fun o w' hq => ?_)
  obtain ⟨rfl, hw9⟩ := hq
  show WW _ _ _ 10 _ [.int (nI cur.nr)] _
  rw [hw9]
  clear hw9 w'
  exact WW.iret rfl rfl rfl ⟨oFr.refl _ _, hO, rfl⟩
theorem cO_leasedLamps (h : isOf G w o hl inp sb I cur hn hist sv ic on oc) (hWf : aWf cur) : Sp l G MX1_leasedLamps 4 1 4 [.ref o] w (oA G o hl inp sb I cur hn hist sv ic on oc [] (.inr (.int cur.leased)) w) := by
  have hO := h
  obtain ⟨st, harr, hg, sva, sbarr, h⟩ := h
  have g := h
  obtain ⟨g1, g2, ⟨lo, Z, gs, gl, gr, g3, -⟩, g4, g5, g6, g7⟩ := h
  have hst := g3.1.1
  refine Sp.of rfl (by decide +kernel) kX1_leasedLamps (wd_le rfl) ?_
  refine WW.ok fun ok => ?_
  replace ok : wdOk G w := ok
  refine WW.run (pc' := 1) (lv' := [(0, .ref o)]) (st' := [.ref o]) 1 rfl ?_
  refine WW.get rfl fX1_10 g1 (show _ = some (.ref st) from rfl) ?_
  refine WW.callV [] st [] rfl mX1_162 (cS_leased g3 hWf) (wdRecv.obj hst rfl) rfl rfl (wd_le rfl) (wd_le rfl) (wd_le rfl) (wd_le rfl) (fun o w' hq => ?_)
  obtain ⟨rfl, fr⟩ := hq
  show WW _ _ _ 7 _ [.int cur.leased] _
  exact WW.iret rfl rfl rfl ⟨oFr.of0 ok fr, hO.fr0 ok fr, rfl⟩
theorem cO_consumption (h : isOf G w o hl inp sb I cur hn hist sv ic on oc) (hWf : aWf cur) : Sp l G MX1_consumption 4 1 4 [.ref o] w (oA G o hl inp sb I cur hn hist sv ic on oc [] (.inr (.int cur.needs)) w) := by
  have hO := h
  obtain ⟨st, harr, hg, sva, sbarr, h⟩ := h
  have g := h
  obtain ⟨g1, g2, ⟨lo, Z, gs, gl, gr, g3, -⟩, g4, g5, g6, g7⟩ := h
  have hst := g3.1.1
  refine Sp.of rfl (by decide +kernel) kX1_consumption (wd_le rfl) ?_
  refine WW.ok fun ok => ?_
  replace ok : wdOk G w := ok
  refine WW.run (pc' := 1) (lv' := [(0, .ref o)]) (st' := [.ref o]) 1 rfl ?_
  refine WW.get rfl fX1_10 g1 (show _ = some (.ref st) from rfl) ?_
  refine WW.callV [] st [] rfl mX1_168 (cS_needs g3 hWf) (wdRecv.obj hst rfl) rfl rfl (wd_le rfl) (wd_le rfl) (wd_le rfl) (wd_le rfl) (fun o w' hq => ?_)
  obtain ⟨rfl, fr⟩ := hq
  show WW _ _ _ 7 _ [.int cur.needs] _
  exact WW.iret rfl rfl rfl ⟨oFr.of0 ok fr, hO.fr0 ok fr, rfl⟩
end
