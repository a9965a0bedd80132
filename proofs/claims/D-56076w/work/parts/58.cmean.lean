set_option maxRecDepth 100000
/-! THE OFFICE: mean coins -/
def aS.coins (S : aS) : Int32 := aSum (fun z => (S.sh z).1) S.ns
section
variable {G : wdG} {l : Launch} {w : wdW} {hl : Nat} {o inp sb : Nat} {I : Nat → Int32} {S : aS} {hn : Nat} {hist : Nat → aS} {sv : Option aS} {ic : Nat → Int32} {on : Nat} {oc : Nat → Int32}
theorem cO_meanCoins (h : isOf G w o hl inp sb I S hn hist sv ic on oc) (hWf : aWf S) (hN : 0 < S.ns → vf_n64 (FP.ddiv (FP.i2d S.coins) (FP.i2d (nI S.ns)))) : Sp l G MX1_meanCoins 8 2061 8346 [.ref o] w (oA G o hl inp sb I S hn hist sv ic on oc [18] (bif Nat.blt 0 S.ns then .inr (.double (FP.ddiv (FP.i2d S.coins) (FP.i2d (nI S.ns)))) else .inl 1) w) := by
  have hO := h
  obtain ⟨st, harr, hg, sva, sbarr, h⟩ := h
  have g := h
  obtain ⟨g1, g2, ⟨lo, Z, gs, gl, gr, hS, -⟩, g4, g5, g6, g7⟩ := h
  have hst := hS.1.1
  have hns := hWf.1
  refine Sp.of rfl (by decide +kernel) kX1_meanCoins (wd_le rfl) ?_
  refine WW.ok fun ok => ?_
  replace ok : wdOk G w := ok
  refine WW.run (pc' := 1) (lv' := [(0, .ref o)]) (st' := [.ref o]) 1 rfl ?_
  refine WW.get rfl fX1_10 g1 (show _ = some (.ref st) from rfl) ?_
  refine WW.get rfl fX1_106 hst (show _ = some (.ref (Z 0)) from rfl) ?_
  have hL := hS.2.1.1
  obtain ⟨mc9, hl9⟩ := hL.1
  refine WW.callV [] (Z 0) [] rfl mX1_59 (sL_size hL) (wdRecv.obj hl9 rfl) rfl rfl (wd_le rfl) (wd_le rfl) (wd_le rfl) (wd_le rfl) (fun o w' hq => ?_)
  obtain ⟨rfl, hw9⟩ := hq
  show WW _ _ _ 10 _ [.int (nI S.ns)] _
  rw [hw9]
  clear hw9 w'
  refine WW.callS [.int (nI S.ns)] [] rfl mX1_234 (sO_requireNonZero (nI S.ns)) rfl rfl (wd_le rfl) (wd_le rfl) (wd_le rfl) (wd_le rfl) (fun o w' hq => ?_)
  cases hx : Nat.blt 0 S.ns with
  | false =>
    have h0 : S.ns = 0 := Nat.eq_zero_of_not_pos (fun q => by rw [show Nat.blt 0 S.ns = true from Nat.ble_eq_true_of_le q] at hx; cases hx)
    rw [decide_eq_true (show nI S.ns = 0 by rw [h0]; rfl)] at hq
    obtain ⟨q, e1, rfl, e3, e4⟩ := hq
    show WX _ _ _ 10 _ [] _ _ _
    exact WX.out (fun _ h => nomatch h) ⟨oFr.of0 ok e3, hO.fr0 ok e3, 18, q, rfl, rfl⟩
  | true =>
    have h0 : 0 < S.ns := Nat.le_of_ble_eq_true hx
    rw [decide_eq_false (nI_ne0 h0 (by omega))] at hq
    obtain ⟨rfl, hw9⟩ := hq
    show WW _ _ _ 13 _ [] _
    rw [hw9]
    clear hw9 w'
    refine WW.run (pc' := 16) (lv' := [(1, .int (nI 0)), (0, .ref o)]) (st' := [.ref o]) 3 rfl ?_
    refine WW.get rfl fX1_10 g1 (show _ = some (.ref st) from rfl) ?_
    refine WW.get rfl fX1_106 hst (show _ = some (.ref (Z 0)) from rfl) ?_
    have hl := hS.2.1.1
    obtain ⟨mc0, hl0⟩ := hl.1
    refine WW.callV [] (Z 0) [] rfl mX1_238 (sL_iterator hl) (wdRecv.obj hl0 rfl) rfl rfl (wd_le rfl) (wd_le rfl) (wd_le rfl) (wd_le rfl) (fun o w' hq => ?_)
    obtain ⟨it, mc, hit, rfl, hw, hmc⟩ := hq
    show WW _ _ _ 25 _ [.ref it] _
    refine WW.run (pc' := 26) (lv' := [(2, .ref it), (1, .int (nI 0)), (0, .ref o)]) (st' := []) 1 rfl ?_
    have hq0 := qInv.start ok hl hmc hit (.inl [.int (nI 0), .int (-1), .int mc, .ref (Z 0)])
    rw [← hw] at hq0
    refine WW.each 3 26 45 55 (fun _ => 2059) (fun _ => 8336) (fun i => [(2, .ref it), (1, .int (aSum (fun z => (S.sh z).1) i)), (0, .ref o)]) (fun i => [(3, .ref (gs i)), (2, .ref it), (1, .int (aSum (fun z => (S.sh z).1) i)), (0, .ref o)]) (fun _ u => qInv G w (Z 0) (Z 3) S.ns gs mc u) (fun _ _ h => h.2) (fun i u hi h => ⟨_, ((hS.fr ok h.1).2.2.2.1.1 i hi).1⟩) (fun _ _ p h => h.put hit p) (fun _ => rfl) rfl mX1_242 rfl rfl (fun _ => rfl) rfl mX1_247 rfl rfl lX1_114 (fun _ => rfl) (wd_le rfl) (fun i u hi hI hIt ih => ?_) (fun u hI => ?_) hq0 ⟨-1, by rw [hw]; exact wNew_same _ _ _ _⟩
    · skip
      have hla := ((hS.fr ok hI.1).2.2.2.1.1 i hi).1
      refine WW.run (pc' := 47) (lv' := [(3, .ref (gs i)), (2, .ref it), (1, .int (aSum (fun z => (S.sh z).1) i)), (0, .ref o)]) (st' := [.ref (gs i), .int (aSum (fun z => (S.sh z).1) i)]) 2 rfl ?_
      refine WW.get rfl fX1_113 hla (show _ = some (.int ((S.sh i).1)) from rfl) ?_
      refine WW.run (pc' := 26) (lv' := [(1, .int ((aSum (fun z => (S.sh z).1) i) + ((S.sh i).1))), (3, .ref (gs i)), (2, .ref it), (0, .ref o)]) (st' := []) 3 rfl ?_
      refine WW.pick (lv' := [(2, .ref it), (1, .int ((aSum (fun z => (S.sh z).1) i) + ((S.sh i).1))), (0, .ref o)]) [2, 0, 3] rfl ?_
      exact ih _ hI hIt
    have fr := hI.1
    have hO2 := hO.fr0 ok fr
    have g1' := fr.eq g1 (ok.1 _ _ _ g1).2 (fun h => h)
    have g3' := hS.fr ok fr
    have hst' := g3'.1.1
    refine WW.run (pc' := 56) (lv' := [(2, .ref it), (1, .int (aSum (fun z => (S.sh z).1) S.ns)), (0, .ref o)]) (st' := [.int (aSum (fun z => (S.sh z).1) S.ns)]) 1 rfl ?_
    refine WW.i2d rfl ?_
    refine WW.run (pc' := 58) (lv' := [(2, .ref it), (1, .int (aSum (fun z => (S.sh z).1) S.ns)), (0, .ref o)]) (st' := [.ref o, .double (FP.i2d (aSum (fun z => (S.sh z).1) S.ns))]) 1 rfl ?_
    refine WW.get rfl fX1_10 g1' (show _ = some (.ref st) from rfl) ?_
    refine WW.get rfl fX1_106 hst' (show _ = some (.ref (Z 0)) from rfl) ?_
    have hL' := g3'.2.1.1
    obtain ⟨mc1, hl1⟩ := hL'.1
    refine WW.callV [] (Z 0) [.double (FP.i2d (aSum (fun z => (S.sh z).1) S.ns))] rfl mX1_59 (sL_size hL') (wdRecv.obj hl1 rfl) rfl rfl (wd_le rfl) (wd_le rfl) (wd_le rfl) (wd_le rfl) (fun o w' hq => ?_)
    obtain ⟨rfl, hw9⟩ := hq
    show WW _ _ _ 67 _ [.int (nI S.ns), .double (FP.i2d (aSum (fun z => (S.sh z).1) S.ns))] _
    rw [hw9]
    clear hw9 w'
    refine WW.i2d rfl ?_
    refine WW.ddiv rfl (hN h0) ?_
    exact WW.dret rfl rfl ⟨oFr.of0 ok fr, hO2, rfl⟩
end
