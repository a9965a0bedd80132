set_option maxRecDepth 100000
/-! THE OFFICE: most bright, hours of oil by ends -/
section
variable {G : wdG} {l : Launch} {w : wdW} {hl : Nat} {o inp sb : Nat} {I : Nat → Int32} {cur : aS} {hn : Nat} {hist : Nat → aS} {sv : Option aS} {ic : Nat → Int32} {on : Nat} {oc : Nat → Int32}
theorem cO_most (h : isOf G w o hl inp sb I cur hn hist sv ic on oc) (hWf : aWf cur) : Sp l G MX1_mostBright 8 2061 8346 [.ref o] w (oA G o hl inp sb I cur hn hist sv ic on oc [] (.inr (.int cur.most)) w) := by
  have hO := h
  obtain ⟨st, harr, hg, sva, sbarr, h⟩ := h
  have g := h
  obtain ⟨g1, g2, ⟨lo, Z, gs, gl, gr, g3, -⟩, g4, g5, g6, g7⟩ := h
  have hst := g3.1.1
  refine Sp.of rfl (by decide +kernel) kX1_mostBright (wd_le rfl) ?_
  refine WW.ok fun ok => ?_
  replace ok : wdOk G w := ok
  refine WW.run (pc' := 1) (lv' := [(0, .ref o)]) (st' := [.ref o]) 1 rfl ?_
  refine WW.get rfl fX1_10 g1 (show _ = some (.ref st) from rfl) ?_
  refine WW.callV [] st [] rfl mX1_187 (cS_most g3 hWf) (wdRecv.obj hst rfl) rfl rfl (wd_le rfl) (wd_le rfl) (wd_le rfl) (wd_le rfl) (fun o w2 hq => ?_)
  obtain ⟨rfl, frT⟩ := hq
  show WW _ _ _ 7 _ [.int cur.most] _
  exact WW.iret rfl rfl rfl ⟨oFr.of0 ok frT, hO.fr0 ok frT, rfl⟩
theorem cO_byEnds (h : isOf G w o hl inp sb I cur hn hist sv ic on oc) (hWf : aWf cur) (hA : ∀ x, cur.next x cur.nl ≠ -1 → ¬ cur.after x = 0) (m : Int32 → Nat) (hB : ∀ x, cur.next x cur.nl ≠ -1 → m (cur.next x cur.nl) < m x) (hm : m cur.hour ≤ 600) : Sp l G MX1_hoursOfOilByEnds 8 2061 8346 [.ref o] w (oA G o hl inp sb I cur hn hist sv ic on oc [16] (bif decide (cur.byEnds 601 cur.oil cur.hour = -1) then .inl 1 else .inr (.int (cur.byEnds 601 cur.oil cur.hour))) w) := by
  have hO := h
  obtain ⟨st, harr, hg, sva, sbarr, h⟩ := h
  have g := h
  obtain ⟨g1, g2, ⟨lo, Z, gs, gl, gr, g3, -⟩, g4, g5, g6, g7⟩ := h
  have hst := g3.1.1
  refine Sp.of rfl (by decide +kernel) kX1_hoursOfOilByEnds (wd_le rfl) ?_
  refine WW.ok fun ok => ?_
  replace ok : wdOk G w := ok
  refine WW.run (pc' := 1) (lv' := [(0, .ref o)]) (st' := [.ref o]) 1 rfl ?_
  refine WW.get rfl fX1_10 g1 (show _ = some (.ref st) from rfl) ?_
  refine WW.callV [] st [] rfl mX1_181 (cS_byEnds g3 hWf hA m hB hm) (wdRecv.obj hst rfl) rfl rfl (wd_le rfl) (wd_le rfl) (wd_le rfl) (wd_le rfl) (fun o w2 hq => ?_)
  obtain ⟨rfl, frT⟩ := hq
  generalize cur.byEnds 601 cur.oil cur.hour = x
  show WW _ _ _ 7 _ [.int x] _
  refine WW.callS [.int x] [] rfl mX1_178 (cO_requireHours x) rfl rfl (wd_le rfl) (wd_le rfl) (wd_le rfl) (wd_le rfl) (fun o w3 hq => ?_)
  cases hb : decide (x = -1) with
  | true =>
    rw [hb] at hq
    obtain ⟨q, e1, rfl, e3, e4⟩ := hq
    have frU : wFr nP w w3 := frT.thn0 e3
    show WX _ _ _ 7 _ [] _ _ _
    exact WX.out (fun _ h => nomatch h) ⟨oFr.of0 ok frU, hO.fr0 ok frU, 16, q, rfl, rfl⟩
  | false =>
    rw [hb] at hq
    obtain ⟨rfl, hw9⟩ := hq
    show WW _ _ _ 10 _ [.int x] _
    rw [hw9]
    exact WW.iret rfl rfl rfl ⟨oFr.of0 ok frT, hO.fr0 ok frT, rfl⟩
end
