set_option maxRecDepth 100000
/-! THE OFFICE: leased share, mean coins -/
section
variable {G : wdG} {l : Launch} {w : wdW} {hl : Nat} {o inp sb : Nat} {I : Nat → Int32} {cur : aS} {hn : Nat} {hist : Nat → aS} {sv : Option aS} {ic : Nat → Int32} {on : Nat} {oc : Nat → Int32}
theorem sO_requireNonZero (x : Int32) : Sp l G MX1_requireNonZero 6 1 6 [.int x] w (fun q w' => bif decide (x = 0) then tQ nP 18 w q w' else q = .inl none ∧ w' = w) := by
  refine Sp.of rfl (by decide +kernel) kX1_requireNonZero (wd_le rfl) ?_
  refine WW.run (pc' := 1) (lv' := [(0, .int x)]) (st' := [.int x]) 1 rfl ?_
  refine WW.if_ne (tgt := 12) rfl rfl (fun e => ?_) (fun e => ?_)
  · skip
    rw [decide_eq_false e]
    exact WW.vret rfl rfl ⟨rfl, rfl⟩
  rw [decide_eq_true e]
  refine WW.make0 rfl rfl rfl mkX1_58 moX1_58 (ci := 18) rfl (by decide) (wd_le rfl) (wd_le rfl) (wd_le rfl) (wd_le rfl) (wd_le rfl) (wd_le rfl) (fun q hq => ?_)
  have ha : (wNew w 18 q (.inl [])).1 18 q = some (.inl []) := wNew_same _ _ _ _
  refine WW.athrow rfl ha rfl ?_
  exact WX.out (fun _ h => nomatch h) ⟨q, hq, rfl, (wFr.refl _ _).new hq, ha⟩
theorem cO_leasedShare (h : isOf G w o hl inp sb I cur hn hist sv ic on oc) (hWf : aWf cur) (hN : 0 < cur.nl → vf_n32 (FP.fdiv (FP.i2f cur.leased) (FP.i2f (nI cur.nl)))) : Sp l G MX1_leasedShare 8 2061 8346 [.ref o] w (oA G o hl inp sb I cur hn hist sv ic on oc [18] (bif Nat.blt 0 cur.nl then .inr (.float (FP.fdiv (FP.i2f cur.leased) (FP.i2f (nI cur.nl)))) else .inl 1) w) := by
  have hO := h
  obtain ⟨st, harr, hg, sva, sbarr, h⟩ := h
  have g := h
  obtain ⟨g1, g2, ⟨lo, Z, gs, gl, gr, g3, -⟩, g4, g5, g6, g7⟩ := h
  have hst := g3.1.1
  have hnl := hWf.2.1
  refine Sp.of rfl (by decide +kernel) kX1_leasedShare (wd_le rfl) ?_
  refine WW.ok fun ok => ?_
  replace ok : wdOk G w := ok
  refine WW.run (pc' := 1) (lv' := [(0, .ref o)]) (st' := [.ref o]) 1 rfl ?_
  refine WW.get rfl fX1_10 g1 (show _ = some (.ref st) from rfl) ?_
  refine WW.get rfl fX1_130 hst (show _ = some (.ref (Z 1)) from rfl) ?_
  have hL := g3.2.1.2.1
  obtain ⟨mc0, hl0⟩ := hL.1
  refine WW.callV [] (Z 1) [] rfl mX1_59 (sL_size hL) (wdRecv.obj hl0 rfl) rfl rfl (wd_le rfl) (wd_le rfl) (wd_le rfl) (wd_le rfl) (fun o w' hq => ?_)
  obtain ⟨rfl, hw9⟩ := hq
  show WW _ _ _ 10 _ [.int (nI cur.nl)] _
  rw [hw9]
  clear hw9 w'
  refine WW.callS [.int (nI cur.nl)] [] rfl mX1_234 (sO_requireNonZero (nI cur.nl)) rfl rfl (wd_le rfl) (wd_le rfl) (wd_le rfl) (wd_le rfl) (fun o w' hq => ?_)
  cases hx : Nat.blt 0 cur.nl with
  | false =>
    have h0 : cur.nl = 0 := Nat.eq_zero_of_not_pos (fun q => by rw [show Nat.blt 0 cur.nl = true from Nat.ble_eq_true_of_le q] at hx; cases hx)
    rw [decide_eq_true (show nI cur.nl = 0 by rw [h0]; rfl)] at hq
    obtain ⟨q, e1, rfl, e3, e4⟩ := hq
    show WX _ _ _ 10 _ [] _ _ _
    exact WX.out (fun _ h => nomatch h) ⟨oFr.of0 ok e3, hO.fr0 ok e3, 18, q, rfl, rfl⟩
  | true =>
    have h0 : 0 < cur.nl := Nat.le_of_ble_eq_true hx
    rw [decide_eq_false (nI_ne0 h0 (by omega))] at hq
    obtain ⟨rfl, hw9⟩ := hq
    show WW _ _ _ 13 _ [] _
    rw [hw9]
    clear hw9 w'
    refine WW.run (pc' := 14) (lv' := [(0, .ref o)]) (st' := [.ref o]) 1 rfl ?_
    refine WW.get rfl fX1_10 g1 (show _ = some (.ref st) from rfl) ?_
    refine WW.callV [] st [] rfl mX1_162 (cS_leased g3 hWf) (wdRecv.obj hst rfl) rfl rfl (wd_le rfl) (wd_le rfl) (wd_le rfl) (wd_le rfl) (fun o w2 hq => ?_)
    obtain ⟨rfl, fr⟩ := hq
    show WW _ _ _ 20 _ [.int cur.leased] _
    have hO2 := hO.fr0 ok fr
    have g1' := fr.eq g1 (ok.1 _ _ _ g1).2 (fun h => h)
    have g3' := g3.fr ok fr
    have hst' := g3'.1.1
    refine WW.i2f rfl ?_
    refine WW.run (pc' := 22) (lv' := [(0, .ref o)]) (st' := [.ref o, .float (FP.i2f cur.leased)]) 1 rfl ?_
    refine WW.get rfl fX1_10 g1' (show _ = some (.ref st) from rfl) ?_
    refine WW.get rfl fX1_130 hst' (show _ = some (.ref (Z 1)) from rfl) ?_
    have hL' := g3'.2.1.2.1
    obtain ⟨mc1, hl1⟩ := hL'.1
    refine WW.callV [] (Z 1) [.float (FP.i2f cur.leased)] rfl mX1_59 (sL_size hL') (wdRecv.obj hl1 rfl) rfl rfl (wd_le rfl) (wd_le rfl) (wd_le rfl) (wd_le rfl) (fun o w' hq => ?_)
    obtain ⟨rfl, hw9⟩ := hq
    show WW _ _ _ 31 _ [.int (nI cur.nl), .float (FP.i2f cur.leased)] _
    rw [hw9]
    clear hw9 w'
    refine WW.i2f rfl ?_
    refine WW.fdiv rfl (hN h0) ?_
    exact WW.fret rfl rfl ⟨oFr.of0 ok fr, hO2, rfl⟩
end
