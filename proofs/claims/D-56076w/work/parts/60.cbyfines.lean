set_option maxRecDepth 100000
section
variable {G : wdG} {l : Launch} {w : wdW} {hl : Nat} {o inp sb : Nat} {I : Nat → Int32} {S : aS} {hn : Nat} {hist : Nat → aS} {sv : Option aS} {ic : Nat → Int32} {on : Nat} {oc : Nat → Int32}
theorem cO_byFines (h : isOf G w o hl inp sb I S hn hist sv ic on oc) (hWf : aWf S) (x : Int32) : Sp l G MX1_shipByFines 8 2061 8346 [.ref o, .int x] w (oA G o hl inp sb I S hn hist sv ic on oc [16] (match aSeek (fun i => S.fRank i S.ns) x S.ns 0 with | some i => .inr (.int (nI i)) | none => .inl 1) w) := by
  have hO := h
  obtain ⟨st, harr, hg, sva, sbarr, h⟩ := h
  have g := h
  obtain ⟨g1, g2, ⟨lo, Z, gs, gl, gr, hS, -⟩, g4, g5, g6, g7⟩ := h
  have hst := hS.1.1
  have hns := hWf.1
  have hL := hS.2.1.1
  obtain ⟨mc9, hl9⟩ := hL.1
  refine Sp.of rfl (by decide +kernel) kX1_shipByFines (wd_le rfl) ?_
  refine WW.ok fun ok => ?_
  replace ok : wdOk G w := ok
  refine WW.run (pc' := 2) (lv' := [(2, .int (nI 0)), (0, .ref o), (1, .int x)]) (st' := []) 2 rfl ?_
  have key : ∀ (n i : Nat) (r : Nat ⊕ Value), n + i = S.ns → (match aSeek (fun i => S.fRank i S.ns) x n i with | some i => .inr (.int (nI i)) | none => .inl 1) = r → WW (l, G, MX1_shipByFines, 8, 2061, 8346, oA G o hl inp sb I S hn hist sv ic on oc [16] r w) 2061 8346 2 [(2, .int (nI i)), (0, .ref o), (1, .int x)] [] w := by
    intro n
    induction n with
    | zero =>
      intro i r hi hr
      have hr : .inl 1 = r := hr
      subst hr
      refine WW.run (pc' := 4) (lv' := [(2, .int (nI i)), (0, .ref o), (1, .int x)]) (st' := [.ref o, .int (nI i)]) 2 rfl ?_
      refine WW.get rfl fX1_10 g1 (show _ = some (.ref st) from rfl) ?_
      refine WW.get rfl fX1_106 hst (show _ = some (.ref (Z 0)) from rfl) ?_
      refine WW.callV [] (Z 0) [.int (nI i)] rfl mX1_59 (sL_size hL) (wdRecv.obj hl9 rfl) rfl rfl (wd_le rfl) (wd_le rfl) (wd_le rfl) (wd_le rfl) (fun o w' hq => ?_)
      obtain ⟨rfl, hw9⟩ := hq
      show WW _ _ _ 13 _ [.int (nI S.ns), .int (nI i)] _
      rw [hw9]
      clear hw9 w'
      refine WW.icmp_ge (tgt := 115) rfl rfl (fun _ => ?_) (fun hno => absurd (nI_le (show S.ns ≤ i by omega) (by omega)) hno)
      refine WW.make0 rfl rfl rfl mkX1_52 moX1_52 (ci := 16) rfl (by decide) (wd_le rfl) (wd_le rfl) (wd_le rfl) (wd_le rfl) (wd_le rfl) (wd_le rfl) (fun q hq => ?_)
      have ha : (wNew w 16 q (.inl [])).1 16 q = some (.inl []) := wNew_same _ _ _ _
      refine WW.athrow rfl ha rfl ?_
      have fr : wFr nP w (wNew w 16 q (.inl [])) := (wFr.refl _ _).new hq
      exact WX.out (fun _ h => nomatch h) ⟨oFr.of0 ok fr, hO.fr0 ok fr, 16, q, rfl, rfl⟩
    | succ n ih =>
      intro i r hi hr
      refine WW.run (pc' := 4) (lv' := [(2, .int (nI i)), (0, .ref o), (1, .int x)]) (st' := [.ref o, .int (nI i)]) 2 rfl ?_
      refine WW.get rfl fX1_10 g1 (show _ = some (.ref st) from rfl) ?_
      refine WW.get rfl fX1_106 hst (show _ = some (.ref (Z 0)) from rfl) ?_
      refine WW.callV [] (Z 0) [.int (nI i)] rfl mX1_59 (sL_size hL) (wdRecv.obj hl9 rfl) rfl rfl (wd_le rfl) (wd_le rfl) (wd_le rfl) (wd_le rfl) (fun o w' hq => ?_)
      obtain ⟨rfl, hw9⟩ := hq
      show WW _ _ _ 13 _ [.int (nI S.ns), .int (nI i)] _
      rw [hw9]
      clear hw9 w'
      refine WW.icmp_ge (tgt := 115) rfl rfl (fun hno => absurd hno (nI_ge (show i < S.ns by omega) (by omega))) (fun _ => ?_)
      refine WW.run (pc' := 21) (lv' := [(4, .int (nI 0)), (3, .int (nI 0)), (2, .int (nI i)), (0, .ref o), (1, .int x)]) (st' := []) 4 rfl ?_
      refine cO_fRank g1 hS hWf (show i < S.ns by omega) x ?_
      have e0 : aSeek (fun i => S.fRank i S.ns) x (n + 1) i = bif decide (S.fRank i S.ns = x) then some i else aSeek (fun i => S.fRank i S.ns) x n (i + 1) := rfl
      rw [e0] at hr
      refine WW.run (pc' := 104) (lv' := [(4, .int (nI S.ns)), (3, .int (S.fRank i S.ns)), (2, .int (nI i)), (0, .ref o), (1, .int x)]) (st' := [.int x, .int (S.fRank i S.ns)]) 2 rfl ?_
      refine WW.icmp_ne (tgt := 109) rfl rfl (fun e1 => ?_) (fun e1 => ?_)
      · skip
        rw [decide_eq_false e1] at hr
        refine WW.run (pc' := 2) (lv' := [(2, .int ((nI i) + nI 1)), (4, .int (nI S.ns)), (3, .int (S.fRank i S.ns)), (0, .ref o), (1, .int x)]) (st' := []) 2 rfl ?_
        rw [((wn_add rfl rfl) : (nI i) + nI 1 = nI (i + 1))]
        refine WW.pick (lv' := [(2, .int (nI (i + 1))), (0, .ref o), (1, .int x)]) [0, 3, 4] rfl ?_
        exact ih (i + 1) r (by omega) hr
      rw [decide_eq_true e1] at hr
      have hr : .inr (.int (nI i)) = r := hr
      subst hr
      refine WW.run (pc' := 108) (lv' := [(4, .int (nI S.ns)), (3, .int (S.fRank i S.ns)), (2, .int (nI i)), (0, .ref o), (1, .int x)]) (st' := [.int (nI i)]) 1 rfl ?_
      exact WW.iret rfl rfl rfl ⟨oFr.refl _ _, hO, rfl⟩
  exact key S.ns 0 _ rfl rfl
end
