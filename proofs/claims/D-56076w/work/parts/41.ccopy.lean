set_option maxRecDepth 100000
/-! A STATE IS MADE, A STATE IS COPIED -/
section
variable {l : Launch} {G : wdG} {w : wdW} {lo a : Nat} {Z gs gl gr : Nat → Nat} {S : aS}
theorem isL.empty {u : wdW} {L : Nat} {mc : Int32} (h : u.1 10 L = some (.inl [.int mc, .ref (G.2.2.2.1 0), .int (nI 0)])) (g : Nat → Nat) : isL G u L (G.2.2.2.1 0) 0 g := ⟨⟨mc, h⟩, by decide, Or.inl ⟨rfl, rfl⟩⟩
theorem cS_init {q : Nat} (hq : w.1 1 q = some (.inl wdB1)) (hlo : lo ≤ q) (hlw : lo ≤ w.2) (f1 : Nat → aSh) (f2 : Nat → aLa) (f3 : Nat → aRe) : Sp l G MX2_init 4 3 9 [.ref q] w (fun o w' => o = .inl none ∧ (∃ Z, isS G w' lo q Z Z Z Z ((0, f1), (0, f2), (0, f3), nI 0, nI 0, nI 0, nI 0)) ∧ wFr (fun b => b = q) w w') := by
  refine Sp.of rfl (by decide +kernel) kX2_init (wd_le rfl) ?_
  refine WW.ok fun ok => ?_
  replace ok : wdOk G w := ok
  have hqlt := (ok.1 _ _ _ hq).2
  refine WW.run (pc' := 1) (lv' := [(0, .ref q)]) (st' := [.ref q]) 1 rfl ?_
  refine WW.objInit rfl q117 q110 q111 (wd_le rfl) (wd_le rfl) ?_
  refine WW.run (pc' := 5) (lv' := [(0, .ref q)]) (st' := [.ref q]) 1 rfl ?_
  refine WW.new (fs := [.int 0, .null, .int 0]) rfl kX2_9 wdBl10 (wd_le rfl) (wd_le rfl) (fun q1 hq1 => ?_)
  have ha : (wNew w 10 q1 (.inl [.int 0, .null, .int 0])).1 10 q1 = some (.inl [.int 0, .null, .int 0]) := wNew_same _ _ _ _
  refine WW.run (pc' := 9) (lv' := [(0, .ref q)]) (st' := [.ref q1, .ref q1, .ref q]) 1 rfl ?_
  refine WW.callI [] q1 [.ref q1, .ref q] rfl mX2_11 (sL_init ha) rfl rfl (wd_le rfl) (wd_le rfl) (wd_le rfl) (wd_le rfl) (fun o w1 hq => ?_)
  obtain ⟨rfl, hw1⟩ := hq
  rw [wNew_put] at hw1
  show WW _ _ _ 12 _ [.ref q1, .ref q] _
  have fr1 : wFr nP w w1 := by rw [hw1]; exact (wFr.refl _ _).new hq1
  have c1 : w1.1 10 q1 = some (.inl [.int (nI 0), .ref (G.2.2.2.1 0), .int 0]) := by rw [hw1]; exact wNew_same _ _ _ _
  have d1 := fr1.at ok ‹w.1 1 q = _› (fun z => z)
  refine WW.putF [.ref q1, .null, .null, .int 0, .int 0, .int 0, .int 0] rfl pfX2_12 rfl d1 (wd_le rfl) rfl rfl rfl ?_
  have e1 : (wPut w1 1 q (.inl [.ref q1, .null, .null, .int 0, .int 0, .int 0, .int 0])).1 1 q = some (.inl [.ref q1, .null, .null, .int 0, .int 0, .int 0, .int 0]) := wPut_same _ _ _ _
  have c2 : (wPut w1 1 q (.inl [.ref q1, .null, .null, .int 0, .int 0, .int 0, .int 0])).1 10 q1 = some (.inl [.int (nI 0), .ref (G.2.2.2.1 0), .int 0]) := (wPut_k (by decide)).trans c1
  have fr2 : wFr (fun b => b = q) w (wPut w1 1 q (.inl [.ref q1, .null, .null, .int 0, .int 0, .int 0, .int 0])) := (fr1.mono (fun _ _ z => absurd z (fun z => z))).put (Or.inl rfl)
  obtain ⟨w2, hw2⟩ : ∃ z, z = (wPut w1 1 q (.inl [.ref q1, .null, .null, .int 0, .int 0, .int 0, .int 0])) := ⟨_, rfl⟩
  rw [← hw2] at c2 fr2 e1 ⊢
  refine WW.ok fun ok => ?_
  replace ok : wdOk G w2 := ok
  have q1lt := (ok.1 _ _ _ c2).2
  refine WW.run (pc' := 16) (lv' := [(0, .ref q)]) (st' := [.ref q]) 1 rfl ?_
  refine WW.new (fs := [.int 0, .null, .int 0]) rfl kX2_9 wdBl10 (wd_le rfl) (wd_le rfl) (fun q2 hq2 => ?_)
  have ha2 : (wNew w2 10 q2 (.inl [.int 0, .null, .int 0])).1 10 q2 = some (.inl [.int 0, .null, .int 0]) := wNew_same _ _ _ _
  refine WW.run (pc' := 20) (lv' := [(0, .ref q)]) (st' := [.ref q2, .ref q2, .ref q]) 1 rfl ?_
  refine WW.callI [] q2 [.ref q2, .ref q] rfl mX2_11 (sL_init ha2) rfl rfl (wd_le rfl) (wd_le rfl) (wd_le rfl) (wd_le rfl) (fun o w3 hq => ?_)
  obtain ⟨rfl, hw3⟩ := hq
  rw [wNew_put] at hw3
  show WW _ _ _ 23 _ [.ref q2, .ref q] _
  have fr3 : wFr nP w2 w3 := by rw [hw3]; exact (wFr.refl _ _).new hq2
  have c3 : w3.1 10 q2 = some (.inl [.int (nI 0), .ref (G.2.2.2.1 0), .int 0]) := by rw [hw3]; exact wNew_same _ _ _ _
  have d3 := fr3.at ok e1 (fun z => z)
  replace c2 := fr3.at ok c2 (fun z => z)
  refine WW.putF [.ref q1, .ref q2, .null, .int 0, .int 0, .int 0, .int 0] rfl pfX2_18 rfl d3 (wd_le rfl) rfl rfl rfl ?_
  have e3 : (wPut w3 1 q (.inl [.ref q1, .ref q2, .null, .int 0, .int 0, .int 0, .int 0])).1 1 q = some (.inl [.ref q1, .ref q2, .null, .int 0, .int 0, .int 0, .int 0]) := wPut_same _ _ _ _
  replace c2 : (wPut w3 1 q (.inl [.ref q1, .ref q2, .null, .int 0, .int 0, .int 0, .int 0])).1 10 q1 = some (.inl [.int (nI 0), .ref (G.2.2.2.1 0), .int 0]) := (wPut_k (by decide)).trans c2
  replace c3 : (wPut w3 1 q (.inl [.ref q1, .ref q2, .null, .int 0, .int 0, .int 0, .int 0])).1 10 q2 = some (.inl [.int (nI 0), .ref (G.2.2.2.1 0), .int 0]) := (wPut_k (by decide)).trans c3
  have fr4 : wFr (fun b => b = q) w (wPut w3 1 q (.inl [.ref q1, .ref q2, .null, .int 0, .int 0, .int 0, .int 0])) := (fr2.thn0 fr3).put (Or.inl rfl)
  obtain ⟨w4, hw4⟩ : ∃ z, z = (wPut w3 1 q (.inl [.ref q1, .ref q2, .null, .int 0, .int 0, .int 0, .int 0])) := ⟨_, rfl⟩
  rw [← hw4] at c2 c3 fr4 e3 ⊢
  refine WW.ok fun ok => ?_
  replace ok : wdOk G w4 := ok
  have q2lt := (ok.1 _ _ _ c3).2
  refine WW.run (pc' := 27) (lv' := [(0, .ref q)]) (st' := [.ref q]) 1 rfl ?_
  refine WW.new (fs := [.int 0, .null, .int 0]) rfl kX2_9 wdBl10 (wd_le rfl) (wd_le rfl) (fun q3 hq3 => ?_)
  have ha3 : (wNew w4 10 q3 (.inl [.int 0, .null, .int 0])).1 10 q3 = some (.inl [.int 0, .null, .int 0]) := wNew_same _ _ _ _
  refine WW.run (pc' := 31) (lv' := [(0, .ref q)]) (st' := [.ref q3, .ref q3, .ref q]) 1 rfl ?_
  refine WW.callI [] q3 [.ref q3, .ref q] rfl mX2_11 (sL_init ha3) rfl rfl (wd_le rfl) (wd_le rfl) (wd_le rfl) (wd_le rfl) (fun o w5 hq => ?_)
  obtain ⟨rfl, hw5⟩ := hq
  rw [wNew_put] at hw5
  show WW _ _ _ 34 _ [.ref q3, .ref q] _
  have fr5 : wFr nP w4 w5 := by rw [hw5]; exact (wFr.refl _ _).new hq3
  have c4 : w5.1 10 q3 = some (.inl [.int (nI 0), .ref (G.2.2.2.1 0), .int 0]) := by rw [hw5]; exact wNew_same _ _ _ _
  have d5 := fr5.at ok e3 (fun z => z)
  replace c2 := fr5.at ok c2 (fun z => z)
  replace c3 := fr5.at ok c3 (fun z => z)
  have q1lo := (fr2.2)
  refine WW.putF [.ref q1, .ref q2, .ref q3, .int 0, .int 0, .int 0, .int 0] rfl pfX2_21 rfl d5 (wd_le rfl) rfl rfl rfl ?_
  have e5 : (wPut w5 1 q (.inl [.ref q1, .ref q2, .ref q3, .int 0, .int 0, .int 0, .int 0])).1 1 q = some (.inl [.ref q1, .ref q2, .ref q3, .int 0, .int 0, .int 0, .int 0]) := wPut_same _ _ _ _
  replace c2 : (wPut w5 1 q (.inl [.ref q1, .ref q2, .ref q3, .int 0, .int 0, .int 0, .int 0])).1 10 q1 = some (.inl [.int (nI 0), .ref (G.2.2.2.1 0), .int (nI 0)]) := (wPut_k (by decide)).trans c2
  replace c3 : (wPut w5 1 q (.inl [.ref q1, .ref q2, .ref q3, .int 0, .int 0, .int 0, .int 0])).1 10 q2 = some (.inl [.int (nI 0), .ref (G.2.2.2.1 0), .int (nI 0)]) := (wPut_k (by decide)).trans c3
  replace c4 : (wPut w5 1 q (.inl [.ref q1, .ref q2, .ref q3, .int 0, .int 0, .int 0, .int 0])).1 10 q3 = some (.inl [.int (nI 0), .ref (G.2.2.2.1 0), .int (nI 0)]) := (wPut_k (by decide)).trans c4
  have fr6 : wFr (fun b => b = q) w (wPut w5 1 q (.inl [.ref q1, .ref q2, .ref q3, .int 0, .int 0, .int 0, .int 0])) := (fr4.thn0 fr5).put (Or.inl rfl)
  have g2 := fr2.2
  have g4 := fr4.2
  exact WW.vret rfl rfl ⟨rfl, ⟨fun i => match i with | 0 => q1 | 1 => q2 | 2 => q3 | _ => G.2.2.2.1 0, ⟨e5, hlo⟩, ⟨isL.empty c2 _, isL.empty c3 _, isL.empty c4 _⟩, ⟨⟨by show lo ≤ q1; omega, by show lo ≤ q2; omega, by show lo ≤ q3; omega⟩, ⟨by show q1 ≠ q2; omega, by show q1 ≠ q3; omega, by show q2 ≠ q3; omega⟩, Or.inl rfl, Or.inl rfl, Or.inl rfl, Or.inl rfl, Or.inl rfl, Or.inl rfl⟩, ⟨fun i hi => absurd hi (Nat.not_lt_zero i), fun i j hi => absurd hi (Nat.not_lt_zero i)⟩, ⟨fun i hi => absurd hi (Nat.not_lt_zero i), fun i j hi => absurd hi (Nat.not_lt_zero i)⟩, fun i hi => absurd hi (Nat.not_lt_zero i)⟩, fr6⟩
theorem cS_copy (hS : isS G w lo a Z gs gl gr S) (hW : aWf S) : Sp l G MX2_copy 5 60 340 [.ref a] w (fun o w' => ∃ q, w.2 ≤ q ∧ o = .inl (some (.ref q)) ∧ (∃ Z gs gl gr, isS G w' w.2 q Z gs gl gr S) ∧ wFr nP w w') := by
  have h6 := hW.1
  have h8 := hW.2.1
  have h9 := hW.2.2.1
  refine Sp.of rfl (by decide +kernel) kX2_copy (wd_le rfl) ?_
  refine WW.ok fun ok => ?_
  replace ok : wdOk G w := ok
  have ok0 := ok
  refine WW.new (fs := [.null, .null, .null, .int 0, .int 0, .int 0, .int 0]) rfl kX2_13 wdBl1 (wd_le rfl) (wd_le rfl) (fun q hq => ?_)
  have ha : (wNew w 1 q (.inl [.null, .null, .null, .int 0, .int 0, .int 0, .int 0])).1 1 q = some (.inl [.null, .null, .null, .int 0, .int 0, .int 0, .int 0]) := wNew_same _ _ _ _
  have fr0 : wFr nP w (wNew w 1 q (.inl [.null, .null, .null, .int 0, .int 0, .int 0, .int 0])) := (wFr.refl _ _).new hq
  refine WW.run (pc' := 4) (lv' := [(0, .ref a)]) (st' := [.ref q, .ref q]) 1 rfl ?_
  refine WW.callI [] q [.ref q] rfl mX2_24 (cS_init (lo := w.2) ha hq fr0.2 S.sh S.la S.rq) rfl rfl (wd_le rfl) (wd_le rfl) (wd_le rfl) (wd_le rfl) (fun o w1 hq => ?_)
  obtain ⟨rfl, ⟨Z1, hC⟩, fr1⟩ := hq
  show WW _ _ _ 7 _ [.ref q] _
  have frA : wFr nP w w1 := fr0.thn fr1 (fun b hb e => by
    have : w.2 ≤ q := ‹_›
    omega)
  have hwq : w.2 ≤ q := ‹_›
  have hS0 := hS.fr ok0 frA
  have hb0 := hS0.1.1
  refine WW.ok fun ok => ?_
  replace ok : wdOk G w1 := ok
  have hl0 := hS0.2.1.1
  obtain ⟨mc0, hl00⟩ := hl0.1
  obtain ⟨mw0, hlw0⟩ := hS.2.1.1.1
  refine WW.run (pc' := 9) (lv' := [(1, .ref q), (0, .ref a)]) (st' := [.ref a]) 2 rfl ?_
  refine WW.get rfl fX2_12 hb0 (show _ = some (.ref (Z 0)) from rfl) ?_
  refine WW.callV [] (Z 0) [] rfl mX2_25 (sL_iterator hl0) (wdRecv.obj hl00 rfl) rfl rfl (wd_le rfl) (wd_le rfl) (wd_le rfl) (wd_le rfl) (fun o v0 hq => ?_)
  obtain ⟨it0, nc0, hit0, rfl, hw0, hmc0⟩ := hq
  replace hlw0 := (frA.1.1 _ (ok0.1 _ _ _ hlw0).2 (fun z => z) 10).symm.trans hmc0
  show WW _ _ _ 15 _ [.ref it0] _
  refine WW.run (pc' := 16) (lv' := [(2, .ref it0), (1, .ref q), (0, .ref a)]) (st' := []) 1 rfl ?_
  have frI0 : wFr nP w1 v0 := by rw [hw0]; exact (wFr.refl _ _).new hit0
  have hC0' := hC.fr ok frI0
  have frN0 : wFr nP w v0 := frA.thn0 frI0
  have hitw0 : w.2 ≤ it0 := Nat.le_trans frA.2 hit0
  refine WW.each (X := (l, G, MX2_copy, 5, 60, 340, _)) (r := (RX4, TX4, 3)) (g := gs) 3 16 35 50 (fun i => 55 - 2 * i) (fun i => 320 - 13 * i) (fun i => [(2, .ref it0), (1, .ref q), (0, .ref a)]) (fun i => [(3, .ref (gs i)), (2, .ref it0), (1, .ref q), (0, .ref a)]) (fun i u => wFr nP w u ∧ ∃ Zc gsc glc grc, isS G u w.2 q Zc gsc glc grc ((i, S.sh), (0, S.la), (0, S.rq), nI 0, nI 0, nI 0, nI 0)) (fun i u h => ⟨(hS.fr ok0 h.1).2.1.1, h.1.at ok0 hlw0 (fun z => z)⟩) (fun i u hi h => ⟨_, ((hS.fr ok0 h.1).2.2.2.1.1 i hi).1⟩) (fun i u p h => ?_) (fun _ => rfl) rfl mX2_29 rfl rfl (fun _ => rfl) rfl mX2_35 rfl rfl lX2_39 (fun _ => rfl) (wd_le rfl) (fun i u hi hI hIt ih => ?_) (fun u hI => ?_) ⟨frN0, _, _, _, _, hC0'⟩ ⟨-1, by rw [hw0]; exact wNew_same _ _ _ _⟩
  · obtain ⟨e1, Zc, gsc, glc, grc, e2⟩ := h
    exact ⟨e1.put (Or.inr hitw0), Zc, gsc, glc, grc, e2.k11 it0 p⟩
  · obtain ⟨fr, Zc, gsc, glc, grc, hC2⟩ := hI
    obtain ⟨lr, hIt⟩ := hIt
    have hcb := hC2.1.1
    have hel := ((hS.fr ok0 fr).2.2.2.1.1 i hi).1
    refine WW.ok fun ok => ?_
    replace ok : wdOk G u := ok
    refine WW.run (pc' := 36) (lv' := [(3, .ref (gs i)), (2, .ref it0), (1, .ref q), (0, .ref a)]) (st' := [.ref q]) 1 rfl ?_
    refine WW.get rfl fX2_12 hcb (show _ = some (.ref (Zc 0)) from rfl) ?_
    refine WW.run (pc' := 40) (lv' := [(3, .ref (gs i)), (2, .ref it0), (1, .ref q), (0, .ref a)]) (st' := [.ref (gs i), .ref (Zc 0)]) 1 rfl ?_
    refine WW.callV [] (gs i) [.ref (Zc 0)] rfl mX2_41 (sH_copy hel) (wdRecv.obj hel rfl) rfl rfl (wd_le rfl) (wd_le rfl) (by omega) (by omega) (fun o u1 hq => ?_)
    obtain ⟨q2, hq2, rfl, hwc⟩ := hq
    show WW _ _ _ 43 _ [.ref q2, .ref (Zc 0)] _
    have fr1 : wFr nP u u1 := by rw [hwc]; exact (wFr.refl _ _).new hq2
    have hC3 := hC2.fr ok fr1
    have hq3 : u1.1 3 q2 = some (.inl (shF (S.sh i))) := by rw [hwc]; exact wNew_same _ _ _ _
    have hl3 := hC3.2.1.1
    obtain ⟨mc3, hl03⟩ := hl3.1
    have hIt1 := fr1.at ok hIt (fun z => z)
    have oku := ok
    refine WW.ok fun ok => ?_
    replace ok : wdOk G u1 := ok
    refine WW.callV [.ref q2] (Zc 0) [] rfl mX2_45 (sL_add (x := q2) ⟨3, _, _, hq3, rfl, by decide, by decide, nq2211⟩ hl3 (by show i < 10; omega)) (wdRecv.obj hl03 rfl) rfl rfl (wd_le rfl) (wd_le rfl) (by omega) (by omega) (fun o u2 hq => ?_)
    obtain ⟨arr', rfl, hz, hz0, hL, fr2⟩ := hq
    show WW _ _ _ 46 _ [.int 1] _
    have hC4 := hC3.pushSh ok hL hz hz0 fr2 (fr2.keepO ok hl3 hq3 (by decide) (by decide)) (Nat.le_trans fr.2 hq2) (Nat.le_trans fr.2 fr1.2) (fun j hj e2 => by
      have h9 := (oku.1 _ _ _ (hC2.2.2.2.1.1 j hj).1).2
      omega)
    refine WW.run (pc' := 16) (lv' := [(3, .ref (gs i)), (2, .ref it0), (1, .ref q), (0, .ref a)]) (st' := []) 2 rfl ?_
    refine WW.pick (lv' := [(2, .ref it0), (1, .ref q), (0, .ref a)]) [1, 2, 3] rfl ?_
    have frB : wFr nP w u2 := (fr.thn0 fr1).thn fr2 (fun b hb hl => by
      have := hC3.lP0 hl
      omega)
    have hC5 : ∃ Zc gsc glc grc, isS G u2 w.2 q Zc gsc glc grc ((i + 1, va_up S.sh i (S.sh i)), (0, S.la), (0, S.rq), nI 0, nI 0, nI 0, nI 0) := ⟨_, _, _, _, hC4⟩
    rw [va_up_id] at hC5
    exact WW.less (by omega) (by omega) (ih _ ⟨frB, hC5⟩ ⟨lr, fr2.keepO ok hl3 hIt1 (by decide) (by decide)⟩)
  obtain ⟨frA, Zc, gsc, glc, grc, hC⟩ := hI
  refine WW.less (kc' := 43) (ks' := 242) (by omega) (by omega) ?_
  have hS1 := hS.fr ok0 frA
  have hb1 := hS1.1.1
  refine WW.ok fun ok => ?_
  replace ok : wdOk G u := ok
  have hl1 := hS1.2.1.2.1
  obtain ⟨mc1, hl01⟩ := hl1.1
  obtain ⟨mw1, hlw1⟩ := hS.2.1.2.1.1
  refine WW.run (pc' := 51) (lv' := [(2, .ref it0), (1, .ref q), (0, .ref a)]) (st' := [.ref a]) 1 rfl ?_
  refine WW.get rfl fX2_18 hb1 (show _ = some (.ref (Z 1)) from rfl) ?_
  refine WW.callV [] (Z 1) [] rfl mX2_25 (sL_iterator hl1) (wdRecv.obj hl01 rfl) rfl rfl (wd_le rfl) (wd_le rfl) (wd_le rfl) (wd_le rfl) (fun o v1 hq => ?_)
  obtain ⟨it1, nc1, hit1, rfl, hw1, hmc1⟩ := hq
  replace hlw1 := (frA.1.1 _ (ok0.1 _ _ _ hlw1).2 (fun z => z) 10).symm.trans hmc1
  show WW _ _ _ 57 _ [.ref it1] _
  refine WW.run (pc' := 58) (lv' := [(2, .ref it1), (1, .ref q), (0, .ref a)]) (st' := []) 1 rfl ?_
  have frI1 : wFr nP u v1 := by rw [hw1]; exact (wFr.refl _ _).new hit1
  have hC1' := hC.fr ok frI1
  have frN1 : wFr nP w v1 := frA.thn0 frI1
  have hitw1 : w.2 ≤ it1 := Nat.le_trans frA.2 hit1
  refine WW.each (X := (l, G, MX2_copy, 5, 60, 340, _)) (r := (RX5, TX5, 5)) (g := gl) 4 58 77 92 (fun i => 42 - 2 * i) (fun i => 238 - 15 * i) (fun i => [(2, .ref it1), (1, .ref q), (0, .ref a)]) (fun i => [(3, .ref (gl i)), (2, .ref it1), (1, .ref q), (0, .ref a)]) (fun i u => wFr nP w u ∧ ∃ Zc gsc glc grc, isS G u w.2 q Zc gsc glc grc ((S.ns, S.sh), (i, S.la), (0, S.rq), nI 0, nI 0, nI 0, nI 0)) (fun i u h => ⟨(hS.fr ok0 h.1).2.1.2.1, h.1.at ok0 hlw1 (fun z => z)⟩) (fun i u hi h => ⟨_, ((hS.fr ok0 h.1).2.2.2.2.1.1 i hi).1⟩) (fun i u p h => ?_) (fun _ => rfl) rfl mX2_29 rfl rfl (fun _ => rfl) rfl mX2_35 rfl rfl lX2_49 (fun _ => rfl) (wd_le rfl) (fun i u hi hI hIt ih => ?_) (fun u hI => ?_) ⟨frN1, _, _, _, _, hC1'⟩ ⟨-1, by rw [hw1]; exact wNew_same _ _ _ _⟩
  · obtain ⟨e1, Zc, gsc, glc, grc, e2⟩ := h
    exact ⟨e1.put (Or.inr hitw1), Zc, gsc, glc, grc, e2.k11 it1 p⟩
  · obtain ⟨fr, Zc, gsc, glc, grc, hC2⟩ := hI
    obtain ⟨lr, hIt⟩ := hIt
    have hcb := hC2.1.1
    have hel := ((hS.fr ok0 fr).2.2.2.2.1.1 i hi).1
    refine WW.ok fun ok => ?_
    replace ok : wdOk G u := ok
    refine WW.run (pc' := 78) (lv' := [(3, .ref (gl i)), (2, .ref it1), (1, .ref q), (0, .ref a)]) (st' := [.ref q]) 1 rfl ?_
    refine WW.get rfl fX2_18 hcb (show _ = some (.ref (Zc 1)) from rfl) ?_
    refine WW.run (pc' := 82) (lv' := [(3, .ref (gl i)), (2, .ref it1), (1, .ref q), (0, .ref a)]) (st' := [.ref (gl i), .ref (Zc 1)]) 1 rfl ?_
    refine WW.callV [] (gl i) [.ref (Zc 1)] rfl mX2_51 (sP_copy hel) (wdRecv.obj hel rfl) rfl rfl (wd_le rfl) (wd_le rfl) (by omega) (by omega) (fun o u1 hq => ?_)
    obtain ⟨q2, hq2, rfl, hwc⟩ := hq
    show WW _ _ _ 85 _ [.ref q2, .ref (Zc 1)] _
    have fr1 : wFr nP u u1 := by rw [hwc]; exact (wFr.refl _ _).new hq2
    have hC3 := hC2.fr ok fr1
    have hq3 : u1.1 4 q2 = some (.inl (laF (S.la i))) := by rw [hwc]; exact wNew_same _ _ _ _
    have hl3 := hC3.2.1.2.1
    obtain ⟨mc3, hl03⟩ := hl3.1
    have hIt1 := fr1.at ok hIt (fun z => z)
    have oku := ok
    refine WW.ok fun ok => ?_
    replace ok : wdOk G u1 := ok
    refine WW.callV [.ref q2] (Zc 1) [] rfl mX2_45 (sL_add (x := q2) ⟨4, _, _, hq3, rfl, by decide, by decide, nq2212⟩ hl3 (by show i < 10; omega)) (wdRecv.obj hl03 rfl) rfl rfl (wd_le rfl) (wd_le rfl) (by omega) (by omega) (fun o u2 hq => ?_)
    obtain ⟨arr', rfl, hz, hz0, hL, fr2⟩ := hq
    show WW _ _ _ 88 _ [.int 1] _
    have hC4 := hC3.pushLa ok hL hz hz0 fr2 (fr2.keepO ok hl3 hq3 (by decide) (by decide)) (Nat.le_trans fr.2 hq2) (Nat.le_trans fr.2 fr1.2) (fun j hj e2 => by
      have h9 := (oku.1 _ _ _ (hC2.2.2.2.2.1.1 j hj).1).2
      omega)
    refine WW.run (pc' := 58) (lv' := [(3, .ref (gl i)), (2, .ref it1), (1, .ref q), (0, .ref a)]) (st' := []) 2 rfl ?_
    refine WW.pick (lv' := [(2, .ref it1), (1, .ref q), (0, .ref a)]) [1, 2, 3] rfl ?_
    have frB : wFr nP w u2 := (fr.thn0 fr1).thn fr2 (fun b hb hl => by
      have := hC3.lP1 hl
      omega)
    have hC5 : ∃ Zc gsc glc grc, isS G u2 w.2 q Zc gsc glc grc ((S.ns, S.sh), (i + 1, va_up S.la i (S.la i)), (0, S.rq), nI 0, nI 0, nI 0, nI 0) := ⟨_, _, _, _, hC4⟩
    rw [va_up_id] at hC5
    exact WW.less (by omega) (by omega) (ih _ ⟨frB, hC5⟩ ⟨lr, fr2.keepO ok hl3 hIt1 (by decide) (by decide)⟩)
  obtain ⟨frA, Zc, gsc, glc, grc, hC⟩ := hI
  refine WW.less (kc' := 26) (ks' := 118) (by omega) (by omega) ?_
  have hS2 := hS.fr ok0 frA
  have hb2 := hS2.1.1
  refine WW.ok fun ok => ?_
  replace ok : wdOk G u := ok
  have hl2 := hS2.2.1.2.2
  obtain ⟨mc2, hl02⟩ := hl2.1
  obtain ⟨mw2, hlw2⟩ := hS.2.1.2.2.1
  refine WW.run (pc' := 93) (lv' := [(2, .ref it1), (1, .ref q), (0, .ref a)]) (st' := [.ref a]) 1 rfl ?_
  refine WW.get rfl fX2_21 hb2 (show _ = some (.ref (Z 2)) from rfl) ?_
  refine WW.callV [] (Z 2) [] rfl mX2_25 (sL_iterator hl2) (wdRecv.obj hl02 rfl) rfl rfl (wd_le rfl) (wd_le rfl) (wd_le rfl) (wd_le rfl) (fun o v2 hq => ?_)
  obtain ⟨it2, nc2, hit2, rfl, hw2, hmc2⟩ := hq
  replace hlw2 := (frA.1.1 _ (ok0.1 _ _ _ hlw2).2 (fun z => z) 10).symm.trans hmc2
  show WW _ _ _ 99 _ [.ref it2] _
  refine WW.run (pc' := 100) (lv' := [(2, .ref it2), (1, .ref q), (0, .ref a)]) (st' := []) 1 rfl ?_
  have frI2 : wFr nP u v2 := by rw [hw2]; exact (wFr.refl _ _).new hit2
  have hC2' := hC.fr ok frI2
  have frN2 : wFr nP w v2 := frA.thn0 frI2
  have hitw2 : w.2 ≤ it2 := Nat.le_trans frA.2 hit2
  refine WW.each (X := (l, G, MX2_copy, 5, 60, 340, _)) (r := (RX7, TX7, 2)) (g := gr) 6 100 119 131 (fun i => 25 - 1 * i) (fun i => 114 - 10 * i) (fun i => [(2, .ref it2), (1, .ref q), (0, .ref a)]) (fun i => [(3, .ref (gr i)), (2, .ref it2), (1, .ref q), (0, .ref a)]) (fun i u => wFr nP w u ∧ ∃ Zc gsc glc grc, isS G u w.2 q Zc gsc glc grc ((S.ns, S.sh), (S.nl, S.la), (i, S.rq), nI 0, nI 0, nI 0, nI 0)) (fun i u h => ⟨(hS.fr ok0 h.1).2.1.2.2, h.1.at ok0 hlw2 (fun z => z)⟩) (fun i u hi h => ⟨_, ((hS.fr ok0 h.1).2.2.2.2.2 i hi)⟩) (fun i u p h => ?_) (fun _ => rfl) rfl mX2_29 rfl rfl (fun _ => rfl) rfl mX2_35 rfl rfl lX2_54 (fun _ => rfl) (wd_le rfl) (fun i u hi hI hIt ih => ?_) (fun u hI => ?_) ⟨frN2, _, _, _, _, hC2'⟩ ⟨-1, by rw [hw2]; exact wNew_same _ _ _ _⟩
  · obtain ⟨e1, Zc, gsc, glc, grc, e2⟩ := h
    exact ⟨e1.put (Or.inr hitw2), Zc, gsc, glc, grc, e2.k11 it2 p⟩
  · obtain ⟨fr, Zc, gsc, glc, grc, hC2⟩ := hI
    obtain ⟨lr, hIt⟩ := hIt
    have hcb := hC2.1.1
    have hel := ((hS.fr ok0 fr).2.2.2.2.2 i hi)
    refine WW.ok fun ok => ?_
    replace ok : wdOk G u := ok
    refine WW.run (pc' := 120) (lv' := [(3, .ref (gr i)), (2, .ref it2), (1, .ref q), (0, .ref a)]) (st' := [.ref q]) 1 rfl ?_
    refine WW.get rfl fX2_21 hcb (show _ = some (.ref (Zc 2)) from rfl) ?_
    refine WW.run (pc' := 124) (lv' := [(3, .ref (gr i)), (2, .ref it2), (1, .ref q), (0, .ref a)]) (st' := [.ref (gr i), .ref (Zc 2)]) 1 rfl ?_
    have hl3 := hC2.2.1.2.2
    obtain ⟨mc3, hl03⟩ := hl3.1
    refine WW.callV [.ref (gr i)] (Zc 2) [] rfl mX2_45 (sL_add (x := gr i) ⟨6, _, _, hel, rfl, by decide, by decide, nq2219⟩ hl3 (by show i < 10; omega)) (wdRecv.obj hl03 rfl) rfl rfl (wd_le rfl) (wd_le rfl) (by omega) (by omega) (fun o u2 hq => ?_)
    obtain ⟨arr', rfl, hz, hz0, hL, fr2⟩ := hq
    show WW _ _ _ 127 _ [.int 1] _
    have hC4 := hC2.pushRq ok hL hz hz0 fr2 (fr2.keepO ok hl3 hel (by decide) (by decide)) fr.2
    refine WW.run (pc' := 100) (lv' := [(3, .ref (gr i)), (2, .ref it2), (1, .ref q), (0, .ref a)]) (st' := []) 2 rfl ?_
    refine WW.pick (lv' := [(2, .ref it2), (1, .ref q), (0, .ref a)]) [1, 2, 3] rfl ?_
    have frB : wFr nP w u2 := fr.thn fr2 (fun b hb hl => by
      have := hC2.lP2 hl
      omega)
    have hC5 : ∃ Zc gsc glc grc, isS G u2 w.2 q Zc gsc glc grc ((S.ns, S.sh), (S.nl, S.la), (i + 1, va_up S.rq i (S.rq i)), nI 0, nI 0, nI 0, nI 0) := ⟨_, _, _, _, hC4⟩
    rw [va_up_id] at hC5
    exact WW.less (by omega) (by omega) (ih _ ⟨frB, hC5⟩ ⟨lr, fr2.keepO ok hl3 hIt (by decide) (by decide)⟩)
  obtain ⟨frA, Zc, gsc, glc, grc, hC⟩ := hI
  have hS3 := hS.fr ok0 frA
  have hb3 := hS3.1.1
  have hc3 := hC.1.1
  refine WW.ok fun ok => ?_
  replace ok : wdOk G u := ok
  have hqa : a ≠ q := by
    have := (ok0.1 _ _ _ hS.1.1).2
    omega
  refine WW.run (pc' := 133) (lv' := [(2, .ref it2), (1, .ref q), (0, .ref a)]) (st' := [.ref a, .ref q]) 2 rfl ?_
  refine WW.get rfl fX2_56 hb3 (show _ = some (.int S.oil) from rfl) ?_
  refine WW.put [.ref (Zc 0), .ref (Zc 1), .ref (Zc 2), .int S.oil, .int (nI 0), .int (nI 0), .int (nI 0)] rfl pfX2_56 hc3 (wd_le rfl) rfl rfl rfl ?_
  have d1 : (wPut u 1 q (.inl [.ref (Zc 0), .ref (Zc 1), .ref (Zc 2), .int S.oil, .int (nI 0), .int (nI 0), .int (nI 0)])).1 1 q = some (.inl [.ref (Zc 0), .ref (Zc 1), .ref (Zc 2), .int S.oil, .int (nI 0), .int (nI 0), .int (nI 0)]) := wPut_same _ _ _ _
  replace hb3 : (wPut u 1 q (.inl [.ref (Zc 0), .ref (Zc 1), .ref (Zc 2), .int S.oil, .int (nI 0), .int (nI 0), .int (nI 0)])).1 1 a = some (.inl (stF Z S)) := by rw [wPut_ne hqa]; exact hb3
  refine WW.run (pc' := 141) (lv' := [(2, .ref it2), (1, .ref q), (0, .ref a)]) (st' := [.ref a, .ref q]) 2 rfl ?_
  refine WW.get rfl fX2_60 hb3 (show _ = some (.int S.hour) from rfl) ?_
  refine WW.put [.ref (Zc 0), .ref (Zc 1), .ref (Zc 2), .int S.oil, .int S.hour, .int (nI 0), .int (nI 0)] rfl pfX2_60 d1 (wd_le rfl) rfl rfl rfl ?_
  have d2 : (wPut (wPut u 1 q (.inl [.ref (Zc 0), .ref (Zc 1), .ref (Zc 2), .int S.oil, .int (nI 0), .int (nI 0), .int (nI 0)])) 1 q (.inl [.ref (Zc 0), .ref (Zc 1), .ref (Zc 2), .int S.oil, .int S.hour, .int (nI 0), .int (nI 0)])).1 1 q = some (.inl [.ref (Zc 0), .ref (Zc 1), .ref (Zc 2), .int S.oil, .int S.hour, .int (nI 0), .int (nI 0)]) := wPut_same _ _ _ _
  replace hb3 : (wPut (wPut u 1 q (.inl [.ref (Zc 0), .ref (Zc 1), .ref (Zc 2), .int S.oil, .int (nI 0), .int (nI 0), .int (nI 0)])) 1 q (.inl [.ref (Zc 0), .ref (Zc 1), .ref (Zc 2), .int S.oil, .int S.hour, .int (nI 0), .int (nI 0)])).1 1 a = some (.inl (stF Z S)) := by rw [wPut_ne hqa]; exact hb3
  refine WW.run (pc' := 149) (lv' := [(2, .ref it2), (1, .ref q), (0, .ref a)]) (st' := [.ref a, .ref q]) 2 rfl ?_
  refine WW.get rfl fX2_63 hb3 (show _ = some (.int S.office) from rfl) ?_
  refine WW.put [.ref (Zc 0), .ref (Zc 1), .ref (Zc 2), .int S.oil, .int S.hour, .int S.office, .int (nI 0)] rfl pfX2_63 d2 (wd_le rfl) rfl rfl rfl ?_
  have d3 : (wPut (wPut (wPut u 1 q (.inl [.ref (Zc 0), .ref (Zc 1), .ref (Zc 2), .int S.oil, .int (nI 0), .int (nI 0), .int (nI 0)])) 1 q (.inl [.ref (Zc 0), .ref (Zc 1), .ref (Zc 2), .int S.oil, .int S.hour, .int (nI 0), .int (nI 0)])) 1 q (.inl [.ref (Zc 0), .ref (Zc 1), .ref (Zc 2), .int S.oil, .int S.hour, .int S.office, .int (nI 0)])).1 1 q = some (.inl [.ref (Zc 0), .ref (Zc 1), .ref (Zc 2), .int S.oil, .int S.hour, .int S.office, .int (nI 0)]) := wPut_same _ _ _ _
  replace hb3 : (wPut (wPut (wPut u 1 q (.inl [.ref (Zc 0), .ref (Zc 1), .ref (Zc 2), .int S.oil, .int (nI 0), .int (nI 0), .int (nI 0)])) 1 q (.inl [.ref (Zc 0), .ref (Zc 1), .ref (Zc 2), .int S.oil, .int S.hour, .int (nI 0), .int (nI 0)])) 1 q (.inl [.ref (Zc 0), .ref (Zc 1), .ref (Zc 2), .int S.oil, .int S.hour, .int S.office, .int (nI 0)])).1 1 a = some (.inl (stF Z S)) := by rw [wPut_ne hqa]; exact hb3
  refine WW.run (pc' := 157) (lv' := [(2, .ref it2), (1, .ref q), (0, .ref a)]) (st' := [.ref a, .ref q]) 2 rfl ?_
  refine WW.get rfl fX2_66 hb3 (show _ = some (.int S.refused) from rfl) ?_
  refine WW.put [.ref (Zc 0), .ref (Zc 1), .ref (Zc 2), .int S.oil, .int S.hour, .int S.office, .int S.refused] rfl pfX2_66 d3 (wd_le rfl) rfl rfl rfl ?_
  have d4 : (wPut (wPut (wPut (wPut u 1 q (.inl [.ref (Zc 0), .ref (Zc 1), .ref (Zc 2), .int S.oil, .int (nI 0), .int (nI 0), .int (nI 0)])) 1 q (.inl [.ref (Zc 0), .ref (Zc 1), .ref (Zc 2), .int S.oil, .int S.hour, .int (nI 0), .int (nI 0)])) 1 q (.inl [.ref (Zc 0), .ref (Zc 1), .ref (Zc 2), .int S.oil, .int S.hour, .int S.office, .int (nI 0)])) 1 q (.inl [.ref (Zc 0), .ref (Zc 1), .ref (Zc 2), .int S.oil, .int S.hour, .int S.office, .int S.refused])).1 1 q = some (.inl [.ref (Zc 0), .ref (Zc 1), .ref (Zc 2), .int S.oil, .int S.hour, .int S.office, .int S.refused]) := wPut_same _ _ _ _
  refine WW.run (pc' := 164) (lv' := [(2, .ref it2), (1, .ref q), (0, .ref a)]) (st' := [.ref q]) 1 rfl ?_
  have hC9 := hC.putO S rfl rfl rfl
  exact WW.aret rfl rfl (Or.inl ⟨_, rfl⟩) (Or.inr ⟨_, rfl⟩) ⟨q, hwq, rfl, ⟨_, _, _, _, by rw [wPut_put, wPut_put, wPut_put]; exact hC9⟩, (((frA.put (Or.inr hwq)).put (Or.inr hwq)).put (Or.inr hwq)).put (Or.inr hwq)⟩
end
