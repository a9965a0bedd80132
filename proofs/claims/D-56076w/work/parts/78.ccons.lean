set_option maxRecDepth 100000
/-! THE OFFICE: consistency -/
section
variable {G : wdG} {l : Launch} {w : wdW} {hl : Nat} {o inp sb : Nat} {I : Nat → Int32} {S : aS} {hn : Nat} {hist : Nat → aS} {sv : Option aS} {ic : Nat → Int32} {on : Nat} {oc : Nat → Int32}
theorem cO_consTail {Q : wdO → wdW → Prop} {st r lo : Nat} {Z gs gl gr : Nat → Nat} {fs : List Value} {f : Nat → Int32} {cs sh : Int32} (g1 : w.1 0 o = some (.inl (.ref st :: fs))) (hS : isS G w lo st Z gs gl gr S) (hWf : aWf S) (hA : w.1 32 r = some (.inr (S.ns, .inl f))) (h3 : cs = nI 100 * nI S.ns) (h4 : sh = bif decide (S.needs = 0) then nI 0 else S.oil) (k : ∀ u, wFr nP w u → Q (.inl (some (.int (nI 1)))) u) : WW (l, G, MX1_isConsistent, 10, 3000, 12000, Q) 10 40 112 [(4, .int (nI 1)), (3, .ref r), (2, .int sh), (1, .int cs), (0, .ref o)] [] w := by
  have hst := hS.1.1
  have hns := hWf.1
  refine WW.ok fun ok => ?_
  replace ok : wdOk G w := ok
  refine WW.run (pc' := 113) (lv' := [(4, .int (nI 1)), (3, .ref r), (2, .int sh), (1, .int cs), (0, .ref o)]) (st' := [.ref o]) 1 rfl ?_
  refine WW.get rfl fX1_10 g1 (show _ = some (.ref st) from rfl) ?_
  refine WW.get rfl fX1_200 hst (show _ = some (.ref (Z 2)) from rfl) ?_
  have hl := hS.2.1.2.2
  obtain ⟨mc0, hl0⟩ := hl.1
  refine WW.callV [] (Z 2) [] rfl mX1_238 (sL_iterator hl) (wdRecv.obj hl0 rfl) rfl rfl (wd_le rfl) (wd_le rfl) (wd_le rfl) (wd_le rfl) (fun o w' hq => ?_)
  obtain ⟨it, mc, hit, rfl, hw, hmc⟩ := hq
  show WW _ _ _ 122 _ [.ref it] _
  refine WW.run (pc' := 124) (lv' := [(5, .ref it), (4, .int (nI 1)), (3, .ref r), (2, .int sh), (1, .int cs), (0, .ref o)]) (st' := []) 1 rfl ?_
  have hq0 := qInv.start ok hl hmc hit (.inl [.int (nI 0), .int (-1), .int mc, .ref (Z 2)])
  rw [← hw] at hq0
  refine WW.each 6 124 146 175 (fun _ => 9) (fun _ => 36) (fun i => [(5, .ref it), (4, .int (nI 1)), (3, .ref r), (2, .int sh), (1, .int cs), (0, .ref o)]) (fun i => [(6, .ref (gr i)), (5, .ref it), (4, .int (nI 1)), (3, .ref r), (2, .int sh), (1, .int cs), (0, .ref o)]) (fun _ u => qInv G w (Z 2) (Z 5) S.nr gr mc u) (fun _ _ h => h.2) (fun i u hi h => ⟨_, ((hS.fr ok h.1).2.2.2.2.2 i hi)⟩) (fun _ _ p h => h.put hit p) (fun _ => rfl) rfl mX1_242 rfl rfl (fun _ => rfl) rfl mX1_247 rfl rfl lX1_210 (fun _ => rfl) (wd_le rfl) (fun i u hi hI hIt ih => ?_) (fun u hI => ?_) hq0 ⟨-1, by rw [hw]; exact wNew_same _ _ _ _⟩
  · skip
    have hla := ((hS.fr ok hI.1).2.2.2.2.2 i hi)
    have fr := hI.1
    have g1' := fr.at ok g1 (fun z => z)
    have hS' := hS.fr ok fr
    have hst' := hS'.1.1
    have hzl := hS'.2.1.2.1
    obtain ⟨mc5, hl5⟩ := hzl.1
    obtain ⟨hq1, hq2⟩ := hWf.2.2.2.2.1 i hi
    have hlm := (hS'.2.2.2.2.1.1 (S.rq i).1 hq1).1
    refine WW.run (pc' := 149) (lv' := [(6, .ref (gr i)), (5, .ref it), (4, .int (nI 1)), (3, .ref r), (2, .int sh), (1, .int cs), (0, .ref o)]) (st' := [.ref o, .int (nI 1)]) 2 rfl ?_
    refine WW.get rfl fX1_10 g1' (show _ = some (.ref st) from rfl) ?_
    refine WW.get rfl fX1_130 hst' (show _ = some (.ref (Z 1)) from rfl) ?_
    refine WW.run (pc' := 157) (lv' := [(6, .ref (gr i)), (5, .ref it), (4, .int (nI 1)), (3, .ref r), (2, .int sh), (1, .int cs), (0, .ref o)]) (st' := [.ref (gr i), .ref (Z 1), .int (nI 1)]) 1 rfl ?_
    refine WW.get rfl fX1_215 hla (show _ = some (.int (nI (S.rq i).1)) from rfl) ?_
    refine WW.callV [.int (nI (S.rq i).1)] (Z 1) [.int (nI 1)] rfl mX1_207 (sL_get hzl hq1) (wdRecv.obj hl5 rfl) rfl rfl (wd_le rfl) (wd_le rfl) (wd_le rfl) (wd_le rfl) (fun o w' hq => ?_)
    obtain ⟨rfl, hw9⟩ := hq
    show WW _ _ _ 163 _ [.ref (gl (S.rq i).1), .int (nI 1)] _
    rw [hw9]
    clear hw9 w'
    refine WW.castY rfl hlm rfl lX1_138 (Or.inl rfl) ?_
    refine WW.callV [] (gl (S.rq i).1) [.int (nI 1)] rfl mX1_142 (sP_isLeased hlm (hWf.le hq1)) (wdRecv.obj hlm rfl) rfl rfl (wd_le rfl) (wd_le rfl) (wd_le rfl) (wd_le rfl) (fun o w' hq => ?_)
    obtain ⟨rfl, hw9⟩ := hq
    show WW _ _ _ 169 _ [.int (bI (Nat.blt 0 (S.la (S.rq i).1).le)), .int (nI 1)] _
    rw [hw9]
    clear hw9 w'
    rw [show Nat.blt 0 (S.la (S.rq i).1).le = true from Nat.ble_eq_true_of_le hq2]
    refine WW.run (pc' := 170) (lv' := [(6, .ref (gr i)), (5, .ref it), (4, .int (nI 1)), (3, .ref r), (2, .int sh), (1, .int cs), (0, .ref o)]) (st' := [.int ((nI 1) &&& (bI (true)))]) 1 rfl ?_
    rw [show nI 1 &&& bI true = nI 1 from rfl]
    refine WW.run (pc' := 124) (lv' := [(4, .int (nI 1)), (6, .ref (gr i)), (5, .ref it), (3, .ref r), (2, .int sh), (1, .int cs), (0, .ref o)]) (st' := []) 2 rfl ?_
    refine WW.pick (lv' := [(5, .ref it), (4, .int (nI 1)), (3, .ref r), (2, .int sh), (1, .int cs), (0, .ref o)]) [2, 0, 3, 4, 5, 6] rfl ?_
    exact ih _ hI hIt
  have fr := hI.1
  have g1' := fr.at ok g1 (fun z => z)
  have hS' := hS.fr ok fr
  have hst' := hS'.1.1
  have hA' := fr.at ok hA (fun z => z)
  have ok9 := ok
  refine WW.run (pc' := 177) (lv' := [(5, .ref it), (4, .int (nI 1)), (3, .ref r), (2, .int sh), (1, .int cs), (0, .ref o)]) (st' := [.int (nI 1)]) 1 rfl ?_
  refine WW.if_eq (tgt := 218) rfl rfl (fun hno => absurd hno (by decide)) (fun _ => ?_)
  refine WW.run (pc' := 184) (lv' := [(5, .ref it), (4, .int (nI 1)), (3, .ref r), (2, .int sh), (1, .int cs), (0, .ref o)]) (st' := [.ref r, .int (nI 100), .int cs]) 3 rfl ?_
  refine WW.alen (v := nI S.ns) 32 0 rfl rfl hA' rfl ?_
  refine WW.run (pc' := 186) (lv' := [(5, .ref it), (4, .int (nI 1)), (3, .ref r), (2, .int sh), (1, .int cs), (0, .ref o)]) (st' := [.int ((nI 100) * (nI S.ns)), .int cs]) 1 rfl ?_
  refine WW.icmp_ne (tgt := 218) rfl rfl (fun hno => absurd h3 hno) (fun _ => ?_)
  refine WW.run (pc' := 191) (lv' := [(5, .ref it), (4, .int (nI 1)), (3, .ref r), (2, .int sh), (1, .int cs), (0, .ref o)]) (st' := [.ref o, .int sh]) 2 rfl ?_
  refine WW.get rfl fX1_10 g1' (show _ = some (.ref st) from rfl) ?_
  refine WW.ok fun ok => ?_
  replace ok : wdOk G u := ok
  refine WW.callV [] st [.int sh] rfl mX1_168 (cS_needs hS' hWf) (wdRecv.obj hst' rfl) rfl rfl (wd_le rfl) (wd_le rfl) (wd_le rfl) (wd_le rfl) (fun o u2 hq => ?_)
  obtain ⟨rfl, fr2⟩ := hq
  show WW _ _ _ 197 _ [.int S.needs, .int sh] _
  have g1'' := fr2.at ok g1' (fun z => z)
  have hS'' := hS'.fr ok fr2
  have hst'' := hS''.1.1
  by_cases e0 : S.needs = 0
  · skip
    rw [decide_eq_true e0] at h4
    refine WW.if_ne (tgt := 204) rfl rfl (fun hno => absurd e0 hno) (fun _ => ?_)
    refine WW.run (pc' := 211) (lv' := [(5, .ref it), (4, .int (nI 1)), (3, .ref r), (2, .int sh), (1, .int cs), (0, .ref o)]) (st' := [.int (nI 0), .int sh]) 2 rfl ?_
    refine WW.icmp_ne (tgt := 218) rfl rfl (fun hno => absurd h4 hno) (fun _ => ?_)
    refine WW.run (pc' := 219) (lv' := [(5, .ref it), (4, .int (nI 1)), (3, .ref r), (2, .int sh), (1, .int cs), (0, .ref o)]) (st' := [.int (nI 1)]) 2 rfl ?_
    exact WW.iret rfl rfl rfl (k _ (fr.trans fr2))
  · skip
    rw [decide_eq_false e0] at h4
    refine WW.if_ne (tgt := 204) rfl rfl (fun _ => ?_) (fun hno => absurd hno e0)
    refine WW.run (pc' := 205) (lv' := [(5, .ref it), (4, .int (nI 1)), (3, .ref r), (2, .int sh), (1, .int cs), (0, .ref o)]) (st' := [.ref o, .int sh]) 1 rfl ?_
    refine WW.get rfl fX1_10 g1'' (show _ = some (.ref st) from rfl) ?_
    refine WW.get rfl fX1_165 hst'' (show _ = some (.int S.oil) from rfl) ?_
    refine WW.icmp_ne (tgt := 218) rfl rfl (fun hno => absurd h4 hno) (fun _ => ?_)
    refine WW.run (pc' := 219) (lv' := [(5, .ref it), (4, .int (nI 1)), (3, .ref r), (2, .int sh), (1, .int cs), (0, .ref o)]) (st' := [.int (nI 1)]) 2 rfl ?_
    exact WW.iret rfl rfl rfl (k _ (fr.trans fr2))
def aS.coinTo (S : aS) : Nat → Int32
  | 0 => S.office
  | k + 1 => S.coinTo k + (S.sh k).1
theorem cO_consistent (h : isOf G w o hl inp sb I S hn hist sv ic on oc) (hWf : aWf S) (hLv : ∀ i, i < S.nl → 0 < (S.la i).le → ∃ m, 1 ≤ m ∧ m ≤ 24 ∧ (S.la i).lv = nI m) {L : Nat} (hL : S.shl S.ns = nI L) (hL2 : L < 1000) (hL3 : 0 < L → 0 < S.ns) (p1 : S.most = S.top 25 0 (nI 0)) (p2 : ∀ k, k < S.ns → shG S.ns L S.quo S.rem k = S.byRank k) (p3 : S.coinTo S.ns = nI 100 * nI S.ns) (p4 : aSum S.byRank S.ns = bif decide (S.needs = 0) then nI 0 else S.oil) : Sp l G MX1_isConsistent 10 3000 12000 [.ref o] w (oA G o hl inp sb I S hn hist sv ic on oc [] (.inr (.int (nI 1))) w) := by
  have hO := h
  obtain ⟨st, harr, hg, sva, sbarr, h⟩ := h
  have g := h
  obtain ⟨g1, g2, ⟨lo, Z, gs, gl, gr, hS, -⟩, g4, g5, g6, g7⟩ := h
  have hst := hS.1.1
  have hns := hWf.1
  refine Sp.of rfl (by decide +kernel) kX1_isConsistent (wd_le rfl) ?_
  refine WW.ok fun ok => ?_
  replace ok : wdOk G w := ok
  have ok0 := ok
  refine WW.run (pc' := 1) (lv' := [(0, .ref o)]) (st' := [.ref o]) 1 rfl ?_
  refine WW.get rfl fX1_10 g1 (show _ = some (.ref st) from rfl) ?_
  refine WW.get rfl fX1_223 hst (show _ = some (.int S.office) from rfl) ?_
  refine WW.run (pc' := 11) (lv' := [(2, .int (nI 0)), (1, .int S.office), (0, .ref o)]) (st' := [.ref o]) 4 rfl ?_
  refine WW.get rfl fX1_10 g1 (show _ = some (.ref st) from rfl) ?_
  refine WW.callV [] st [] rfl mX1_193 (cS_shares hS hWf hL hL2 hL3) (wdRecv.obj hst rfl) rfl rfl (wd_le rfl) (wd_le rfl) (wd_le rfl) (wd_le rfl) (fun o w1 hq => ?_)
  obtain ⟨r, f, hr0, rfl, hA, hf, fr1⟩ := hq
  show WW _ _ _ 17 _ [.ref r] _
  have k1 := fr1.at ok0 g1 (fun z => z)
  have hS1 := hS.fr ok0 fr1
  have hst1 := hS1.1.1
  refine WW.ok fun ok => ?_
  replace ok : wdOk G w1 := ok
  refine WW.run (pc' := 19) (lv' := [(3, .ref r), (2, .int (nI 0)), (1, .int S.office), (0, .ref o)]) (st' := [.ref o]) 2 rfl ?_
  refine WW.get rfl fX1_10 k1 (show _ = some (.ref st) from rfl) ?_
  refine WW.callV [] st [] rfl mX1_187 (cS_most hS1 hWf) (wdRecv.obj hst1 rfl) rfl rfl (wd_le rfl) (wd_le rfl) (wd_le rfl) (wd_le rfl) (fun o w2 hq => ?_)
  obtain ⟨rfl, fr2⟩ := hq
  show WW _ _ _ 25 _ [.int S.most] _
  have k2 := fr2.at ok k1 (fun z => z)
  have hS2 := hS1.fr ok fr2
  have hst2 := hS2.1.1
  have hA2 := fr2.at ok hA (fun z => z)
  refine WW.ok fun ok => ?_
  replace ok : wdOk G w2 := ok
  refine WW.run (pc' := 26) (lv' := [(3, .ref r), (2, .int (nI 0)), (1, .int S.office), (0, .ref o)]) (st' := [.ref o, .int S.most]) 1 rfl ?_
  refine WW.get rfl fX1_10 k2 (show _ = some (.ref st) from rfl) ?_
  refine WW.callV [] st [.int S.most] rfl mX1_190 (cS_sums hS2 hWf hLv) (wdRecv.obj hst2 rfl) rfl rfl (wd_le rfl) (wd_le rfl) (wd_le rfl) (wd_le rfl) (fun o w3 hq => ?_)
  obtain ⟨rfl, fr3⟩ := hq
  show WW _ _ _ 32 _ [.int (S.top 25 0 (nI 0)), .int S.most] _
  have hA3 := fr3.at ok hA2 (fun z => z)
  have frA : wFr nP w w3 := fr1.trans (fr2.trans fr3)
  refine WW.ok fun ok => ?_
  replace ok : wdOk G w3 := ok
  refine WW.icmp_ne (tgt := 39) rfl rfl (fun hno => absurd p1 hno) (fun _ => ?_)
  refine WW.run (pc' := 45) (lv' := [(5, .int (nI 0)), (4, .int (nI 1)), (3, .ref r), (2, .int (nI 0)), (1, .int S.office), (0, .ref o)]) (st' := []) 5 rfl ?_
  refine WW.less (kc' := 31 * (S.ns - 0) + 10) (ks' := 130 * (S.ns - 0) + 40) (by omega) (by omega) ?_
  refine WW.upW S.ns (fun i => 31 * (S.ns - i) + 10) (fun i => 130 * (S.ns - i) + 40) (fun i => [(5, .int (nI i)), (4, .int (nI 1)), (3, .ref r), (2, .int (aSum S.byRank i)), (1, .int (S.coinTo i)), (0, .ref o)]) (fun i u => wFr nP w u ∧ u.1 32 r = some (.inr (S.ns, .inl f))) (fun i u hi hI ih => ?_) (fun u hI => ?_) ⟨frA, hA3⟩
  · skip
    obtain ⟨fr, hAu⟩ := hI
    replace ih : ∀ u', wFr nP w u' → u'.1 32 r = some (.inr (S.ns, .inl f)) → WW (l, G, MX1_isConsistent, 10, 3000, 12000, oA G o hl inp sb I S hn hist sv ic on oc [] (.inr (.int (nI 1))) w) (31 * (S.ns - (i + 1)) + 10) (130 * (S.ns - (i + 1)) + 40) 45 [(5, .int (nI (i + 1))), (4, .int (nI 1)), (3, .ref r), (2, .int (aSum S.byRank i + S.byRank i)), (1, .int (S.coinTo i + (S.sh i).1)), (0, .ref o)] [] u' := fun u' h1 h2 => ih u' ⟨h1, h2⟩
    generalize aSum S.byRank i = sa at ih
    generalize S.coinTo i = ca at ih
    have k4 := fr.at ok0 g1 (fun z => z)
    have hS4 := hS.fr ok0 fr
    have hst4 := hS4.1.1
    have hz := hS4.2.1.1
    obtain ⟨mc5, hl5⟩ := hz.1
    have hsh := (hS4.2.2.2.1.1 i hi).1
    have ef := (hf i hi).trans (p2 i hi)
    refine WW.ok fun ok => ?_
    replace ok : wdOk G u := ok
    refine WW.run (pc' := 48) (lv' := [(5, .int (nI i)), (4, .int (nI 1)), (3, .ref r), (2, .int sa), (1, .int ca), (0, .ref o)]) (st' := [.ref r, .int (nI i)]) 2 rfl ?_
    refine WW.alen (v := nI S.ns) 32 0 rfl rfl hAu rfl ?_
    refine WW.icmp_ge (tgt := 112) rfl rfl (fun hno => absurd hno (nI_ge hi (by omega))) (fun _ => ?_)
    refine WW.run (pc' := 54) (lv' := [(5, .int (nI i)), (4, .int (nI 1)), (3, .ref r), (2, .int sa), (1, .int ca), (0, .ref o)]) (st' := [.ref o, .int ca]) 2 rfl ?_
    refine WW.get rfl fX1_10 k4 (show _ = some (.ref st) from rfl) ?_
    refine WW.get rfl fX1_106 hst4 (show _ = some (.ref (Z 0)) from rfl) ?_
    refine WW.run (pc' := 62) (lv' := [(5, .int (nI i)), (4, .int (nI 1)), (3, .ref r), (2, .int sa), (1, .int ca), (0, .ref o)]) (st' := [.int (nI i), .ref (Z 0), .int ca]) 1 rfl ?_
    refine WW.callV [.int (nI i)] (Z 0) [.int ca] rfl mX1_207 (sL_get hz hi) (wdRecv.obj hl5 rfl) rfl rfl (wd_le rfl) (wd_le rfl) (by omega) (by omega) (fun o w' hq => ?_)
    obtain ⟨rfl, hw9⟩ := hq
    show WW _ _ _ 65 _ [.ref (gs i), .int ca] _
    rw [hw9]
    clear hw9 w'
    refine WW.castY rfl hsh rfl lX1_114 (Or.inl rfl) ?_
    refine WW.get rfl fX1_113 hsh (show _ = some (.int ((S.sh i).1)) from rfl) ?_
    refine WW.run (pc' := 77) (lv' := [(1, .int (ca + ((S.sh i).1))), (5, .int (nI i)), (4, .int (nI 1)), (3, .ref r), (2, .int sa), (0, .ref o)]) (st' := [.int (nI i), .ref r, .int sa]) 5 rfl ?_
    refine WW.ialdN i rfl hAu rfl hi (by omega) ef ?_
    refine WW.run (pc' := 85) (lv' := [(2, .int (sa + (S.byRank i))), (1, .int (ca + ((S.sh i).1))), (5, .int (nI i)), (4, .int (nI 1)), (3, .ref r), (0, .ref o)]) (st' := [.int (nI i), .ref r, .int (nI 1)]) 5 rfl ?_
    refine WW.ialdN i rfl hAu rfl hi (by omega) ef ?_
    refine WW.run (pc' := 87) (lv' := [(2, .int (sa + (S.byRank i))), (1, .int (ca + ((S.sh i).1))), (5, .int (nI i)), (4, .int (nI 1)), (3, .ref r), (0, .ref o)]) (st' := [.ref o, .int (S.byRank i), .int (nI 1)]) 1 rfl ?_
    refine WW.get rfl fX1_10 k4 (show _ = some (.ref st) from rfl) ?_
    refine WW.run (pc' := 92) (lv' := [(2, .int (sa + (S.byRank i))), (1, .int (ca + ((S.sh i).1))), (5, .int (nI i)), (4, .int (nI 1)), (3, .ref r), (0, .ref o)]) (st' := [.int (nI i), .ref st, .int (S.byRank i), .int (nI 1)]) 1 rfl ?_
    refine WW.callV [.int (nI i)] st [.int (S.byRank i), .int (nI 1)] rfl mX1_197 (cS_byRank hS4 hWf hi) (wdRecv.obj hst4 rfl) rfl rfl (wd_le rfl) (wd_le rfl) (by omega) (by omega) (fun o u2 hq => ?_)
    obtain ⟨rfl, fr5⟩ := hq
    show WW _ _ _ 95 _ [.int (S.byRank i), .int (S.byRank i), .int (nI 1)] _
    have hA5 := fr5.at ok hAu (fun z => z)
    refine WW.icmp_ne (tgt := 102) rfl rfl (fun hno => absurd rfl hno) (fun _ => ?_)
    refine WW.run (pc' := 104) (lv' := [(2, .int (sa + (S.byRank i))), (1, .int (ca + ((S.sh i).1))), (5, .int (nI i)), (4, .int (nI 1)), (3, .ref r), (0, .ref o)]) (st' := [.int ((nI 1) &&& (nI 1))]) 3 rfl ?_
    rw [show nI 1 &&& nI 1 = nI 1 from rfl]
    refine WW.run (pc' := 45) (lv' := [(5, .int ((nI i) + nI 1)), (4, .int (nI 1)), (2, .int (sa + (S.byRank i))), (1, .int (ca + ((S.sh i).1))), (3, .ref r), (0, .ref o)]) (st' := []) 3 rfl ?_
    refine WW.pick (lv' := [(5, .int ((nI i) + nI 1)), (4, .int (nI 1)), (3, .ref r), (2, .int (sa + (S.byRank i))), (1, .int (ca + ((S.sh i).1))), (0, .ref o)]) [0, 1, 4, 2, 3, 5] rfl ?_
    rw [nI_add]
    exact WW.less (by omega) (by omega) (ih u2 (fr.trans fr5) hA5)
  · skip
    obtain ⟨fr, hAu⟩ := hI
    have k4 := fr.at ok0 g1 (fun z => z)
    have hS4 := hS.fr ok0 fr
    refine WW.run (pc' := 48) (lv' := [(5, .int (nI S.ns)), (4, .int (nI 1)), (3, .ref r), (2, .int (aSum S.byRank S.ns)), (1, .int (S.coinTo S.ns)), (0, .ref o)]) (st' := [.ref r, .int (nI S.ns)]) 2 rfl ?_
    refine WW.alen (v := nI S.ns) 32 0 rfl rfl hAu rfl ?_
    refine WW.icmp_ge (tgt := 112) rfl rfl (fun _ => ?_) (fun hno => absurd (nI_le (Nat.le_refl _) (by omega)) hno)
    refine WW.pick (lv' := [(4, .int (nI 1)), (3, .ref r), (2, .int (aSum S.byRank S.ns)), (1, .int (S.coinTo S.ns)), (0, .ref o)]) [1, 2, 3, 4, 5] rfl ?_
    refine WW.less (by omega) (by omega) (cO_consTail k4 hS4 hWf hAu p3 p4 (fun v frv => ?_))
    exact ⟨oFr.of0 ok0 (fr.trans frv), hO.fr0 ok0 (fr.trans frv), rfl⟩
end
