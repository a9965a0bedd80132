set_option maxRecDepth 100000
/-! THE OFFICE: share, shareByRank, most bright by sums -/
section
variable {G : wdG} {l : Launch} {w : wdW} {hl : Nat} {o inp sb : Nat} {I : Nat → Int32} {cur : aS} {hn : Nat} {hist : Nat → aS} {sv : Option aS} {ic : Nat → Int32} {on : Nat} {oc : Nat → Int32}
theorem cO_sums (h : isOf G w o hl inp sb I cur hn hist sv ic on oc) (hWf : aWf cur) (hL : ∀ i, i < cur.nl → 0 < (cur.la i).le → ∃ m, 1 ≤ m ∧ m ≤ 24 ∧ (cur.la i).lv = nI m) : Sp l G MX1_mostBrightBySums 8 2061 8346 [.ref o] w (oA G o hl inp sb I cur hn hist sv ic on oc [] (.inr (.int (cur.top 25 0 (nI 0)))) w) := by
  have hO := h
  obtain ⟨st, harr, hg, sva, sbarr, h⟩ := h
  have g := h
  obtain ⟨g1, g2, ⟨lo, Z, gs, gl, gr, g3, -⟩, g4, g5, g6, g7⟩ := h
  have hst := g3.1.1
  refine Sp.of rfl (by decide +kernel) kX1_mostBrightBySums (wd_le rfl) ?_
  refine WW.ok fun ok => ?_
  replace ok : wdOk G w := ok
  refine WW.run (pc' := 1) (lv' := [(0, .ref o)]) (st' := [.ref o]) 1 rfl ?_
  refine WW.get rfl fX1_10 g1 (show _ = some (.ref st) from rfl) ?_
  refine WW.callV [] st [] rfl mX1_190 (cS_sums g3 hWf hL) (wdRecv.obj hst rfl) rfl rfl (wd_le rfl) (wd_le rfl) (wd_le rfl) (wd_le rfl) (fun o w2 hq => ?_)
  obtain ⟨rfl, frT⟩ := hq
  show WW _ _ _ 7 _ [.int (cur.top 25 0 (nI 0))] _
  exact WW.iret rfl rfl rfl ⟨oFr.of0 ok frT, hO.fr0 ok frT, rfl⟩
theorem cO_share (h : isOf G w o hl inp sb I cur hn hist sv ic on oc) (hWf : aWf cur) (x : Int32) {L : Nat} (hL : cur.shl cur.ns = nI L) (hL2 : L < 1000) (hL3 : 0 < L → 0 < cur.ns) : Sp l G MX1_share 8 2061 8346 [.ref o, .int x] w (oA G o hl inp sb I cur hn hist sv ic on oc [13] (bif cur.ixS x then .inr (.int (shG cur.ns L cur.quo cur.rem (tn x))) else .inl 1) w) := by
  have hO := h
  obtain ⟨st, harr, hg, sva, sbarr, h⟩ := h
  have g := h
  obtain ⟨g1, g2, ⟨lo, Z, gs, gl, gr, g3, -⟩, g4, g5, g6, g7⟩ := h
  have hst := g3.1.1
  have hns := hWf.1
  refine Sp.of rfl (by decide +kernel) kX1_share (wd_le rfl) ?_
  refine WW.ok fun ok => ?_
  replace ok : wdOk G w := ok
  refine WW.run (pc' := 1) (lv' := [(0, .ref o), (1, .int x)]) (st' := [.ref o]) 1 rfl ?_
  refine WW.get rfl fX1_10 g1 (show _ = some (.ref st) from rfl) ?_
  refine WW.run (pc' := 5) (lv' := [(0, .ref o), (1, .int x)]) (st' := [.int x, .ref st]) 1 rfl ?_
  refine WW.callV [.int x] st [] rfl mX1_109 (cS_ship g3 hWf x) (wdRecv.obj hst rfl) rfl rfl (wd_le rfl) (wd_le rfl) (wd_le rfl) (wd_le rfl) (fun o w' hq => ?_)
  cases hx : cur.ixS x with
  | false =>
    rw [hx] at hq
    obtain ⟨q, e1, rfl, e3, e4⟩ := hq
    show WX _ _ _ 5 _ [] _ _ _
    exact WX.out (fun _ h => nomatch h) ⟨oFr.of0 ok e3, hO.fr0 ok e3, 13, q, rfl, rfl⟩
  | true =>
    rw [hx] at hq
    obtain ⟨rfl, hw9⟩ := hq
    obtain ⟨j, hj, rfl, tx⟩ := hWf.ixS hx
    show WW _ _ _ 8 _ [.ref (gs (tn (nI j)))] _
    rw [hw9, tx]
    clear hw9 w'
    refine WW.run (pc' := 10) (lv' := [(0, .ref o), (1, .int (nI j))]) (st' := [.ref o]) 2 rfl ?_
    refine WW.get rfl fX1_10 g1 (show _ = some (.ref st) from rfl) ?_
    refine WW.callV [] st [] rfl mX1_193 (cS_shares g3 hWf hL hL2 hL3) (wdRecv.obj hst rfl) rfl rfl (wd_le rfl) (wd_le rfl) (wd_le rfl) (wd_le rfl) (fun o w2 hq => ?_)
    obtain ⟨q, f, hq0, rfl, hA, hf, frT⟩ := hq
    show WW _ _ _ 16 _ [.ref q] _
    refine WW.run (pc' := 17) (lv' := [(0, .ref o), (1, .int (nI j))]) (st' := [.int (nI j), .ref q]) 1 rfl ?_
    refine WW.ialdN j rfl hA rfl hj (by omega) (hf j hj) ?_
    exact WW.iret rfl rfl rfl ⟨oFr.of0 ok frT, hO.fr0 ok frT, rfl⟩
theorem cO_byRank (h : isOf G w o hl inp sb I cur hn hist sv ic on oc) (hWf : aWf cur) (x : Int32) : Sp l G MX1_shareByRank 8 2061 8346 [.ref o, .int x] w (oA G o hl inp sb I cur hn hist sv ic on oc [13] (bif cur.ixS x then .inr (.int (cur.byRank (tn x))) else .inl 1) w) := by
  have hO := h
  obtain ⟨st, harr, hg, sva, sbarr, h⟩ := h
  have g := h
  obtain ⟨g1, g2, ⟨lo, Z, gs, gl, gr, g3, -⟩, g4, g5, g6, g7⟩ := h
  have hst := g3.1.1
  have hns := hWf.1
  refine Sp.of rfl (by decide +kernel) kX1_shareByRank (wd_le rfl) ?_
  refine WW.ok fun ok => ?_
  replace ok : wdOk G w := ok
  refine WW.run (pc' := 1) (lv' := [(0, .ref o), (1, .int x)]) (st' := [.ref o]) 1 rfl ?_
  refine WW.get rfl fX1_10 g1 (show _ = some (.ref st) from rfl) ?_
  refine WW.run (pc' := 5) (lv' := [(0, .ref o), (1, .int x)]) (st' := [.int x, .ref st]) 1 rfl ?_
  refine WW.callV [.int x] st [] rfl mX1_109 (cS_ship g3 hWf x) (wdRecv.obj hst rfl) rfl rfl (wd_le rfl) (wd_le rfl) (wd_le rfl) (wd_le rfl) (fun o w' hq => ?_)
  cases hx : cur.ixS x with
  | false =>
    rw [hx] at hq
    obtain ⟨q, e1, rfl, e3, e4⟩ := hq
    show WX _ _ _ 5 _ [] _ _ _
    exact WX.out (fun _ h => nomatch h) ⟨oFr.of0 ok e3, hO.fr0 ok e3, 13, q, rfl, rfl⟩
  | true =>
    rw [hx] at hq
    obtain ⟨rfl, hw9⟩ := hq
    obtain ⟨j, hj, rfl, tx⟩ := hWf.ixS hx
    show WW _ _ _ 8 _ [.ref (gs (tn (nI j)))] _
    rw [hw9, tx]
    clear hw9 w'
    refine WW.run (pc' := 10) (lv' := [(0, .ref o), (1, .int (nI j))]) (st' := [.ref o]) 2 rfl ?_
    refine WW.get rfl fX1_10 g1 (show _ = some (.ref st) from rfl) ?_
    refine WW.run (pc' := 14) (lv' := [(0, .ref o), (1, .int (nI j))]) (st' := [.int (nI j), .ref st]) 1 rfl ?_
    refine WW.callV [.int (nI j)] st [] rfl mX1_197 (cS_byRank g3 hWf hj) (wdRecv.obj hst rfl) rfl rfl (wd_le rfl) (wd_le rfl) (wd_le rfl) (wd_le rfl) (fun o w2 hq => ?_)
    obtain ⟨rfl, frT⟩ := hq
    show WW _ _ _ 17 _ [.int (cur.byRank j)] _
    exact WW.iret rfl rfl rfl ⟨oFr.of0 ok frT, hO.fr0 ok frT, rfl⟩
end
