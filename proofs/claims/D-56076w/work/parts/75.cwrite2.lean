set_option maxRecDepth 100000
theorem cpy_zero {α : Type} (f g : Nat → α) (n : Nat) : va_cpy f g 0 n 0 = g := by
  funext j
  unfold va_cpy
  rw [if_neg (by omega)]
theorem cpy_one (f g : Nat → Int32) (n : Nat) (x : Int32) (h : f 0 = x) : va_cpy f g 0 n 1 = va_up g n x := by
  funext j
  unfold va_cpy va_up
  by_cases e : j = n
  · subst e
    rw [if_pos ⟨Nat.le_refl _, by omega⟩, if_pos rfl, Nat.sub_self]
    exact h
  · rw [if_neg (by omega), if_neg e]
section
variable {G : wdG} {l : Launch} {w : wdW} {hl : Nat} {o inp sb : Nat} {I : Nat → Int32} {cur : aS} {hn : Nat} {hist : Nat → aS} {sv : Option aS} {ic : Nat → Int32} {on : Nat} {oc : Nat → Int32}
/-- the office while it writes: the text t so far -/
def oW (G : wdG) (w0 : wdW) (o hl inp sb st harr : Nat) (hg : Nat → Nat) (sva : Option Nat) (I : Nat → Int32) (cur : aS) (hn : Nat) (hist : Nat → aS) (sv : Option aS) (ic : Nat → Int32) (t : tX) (u : wdW) : Prop := ∃ sbarr, isOx G u o hl inp sb st harr hg sva sbarr I cur hn hist sv ic t.1 t.2 ∧ oFr inp w0 u
theorem oW.bld {w0 u u' : wdW} {st harr sbarr : Nat} {hg : Nat → Nat} {sva : Option Nat} {t : tX} (h : isOx G u o hl inp sb st harr hg sva sbarr I cur hn hist sv ic t.1 t.2) (fr : oFr inp w0 u) (ok : wdOk G u) {t' : tX} (hb : bQ sb sbarr t'.1 t'.2 u u') : oW G w0 o hl inp sb st harr hg sva I cur hn hist sv ic t' u' ∧ ∀ k b p, u.1 k b = some p → k ≠ 12 → k ≠ 34 → u'.1 k b = some p := by
  obtain ⟨sbarr', h1, h2, h3⟩ := h.bld ok hb
  exact ⟨⟨sbarr', h1, fr.trans h2⟩, h3⟩
theorem oW.emp {sb sbarr : Nat} {t : tX} {u u' : wdW} (h : bQ sb sbarr (t.1 + 0) (va_cpy (fun j => nI (([] : List Nat).getD j 0)) t.2 0 t.1 0) u u') : bQ sb sbarr t.1 t.2 u u' := by
  rw [cpy_zero] at h
  exact h
theorem oW.one {sb sbarr : Nat} {t : tX} {u u' : wdW} (c : Nat) (h : bQ sb sbarr (t.1 + 1) (va_cpy (fun j => nI ([c].getD j 0)) t.2 0 t.1 1) u u') : bQ sb sbarr (addC t c).1 (addC t c).2 u u' := by
  rw [cpy_one _ _ _ (nI c) rfl] at h
  exact h
def oWQ (G : wdG) (o hl inp sb : Nat) (I : Nat → Int32) (cur : aS) (hn : Nat) (hist : Nat → aS) (sv : Option aS) (ic : Nat → Int32) (w : wdW) : wdO → wdW → Prop := fun q w' => q = .inl (some (.int (nI (cur.txt (fun _ => nI 0) cur.nl).1))) ∧ isOf G w' o hl inp sb I cur hn hist sv ic (cur.txt (fun _ => nI 0) cur.nl).1 (cur.txt (fun _ => nI 0) cur.nl).2 ∧ oFr inp w w'
theorem cO_writeLamps (h : isOf G w o hl inp sb I cur hn hist sv ic on oc) (hW : aWf cur) (hT : aTx cur) : Sp l G MX1_writeLamps 10 200 40000 [.ref o] w (oWQ G o hl inp sb I cur hn hist sv ic w) := by
  obtain ⟨st, harr, hg, sva, sbarr, h⟩ := h
  have hnl := hW.2.1
  have g1 := h.1
  obtain ⟨ml0, cap0, f0, b0, -⟩ := id h.2.2.2.2.2.2
  refine Sp.of rfl (by decide +kernel) kX1_writeLamps (wd_le rfl) ?_
  refine WW.ok fun ok => ?_
  replace ok : wdOk G w := ok
  refine WW.run (pc' := 1) (lv' := [(0, .ref o)]) (st' := [.ref o]) 1 rfl ?_
  refine WW.get rfl fX1_37 g1 (show _ = some (.ref sb) from rfl) ?_
  refine WW.run (pc' := 5) (lv' := [(0, .ref o)]) (st' := [.int (nI 0), .ref sb]) 1 rfl ?_
  refine WW.callV [.int (nI 0)] sb [] rfl mX1_292 (sB_setLength0 h.2.2.2.2.2.2 (fun _ => nI 0)) (wdRecv.obj b0 rfl) rfl rfl (wd_le rfl) (wd_le rfl) (wd_le rfl) (wd_le rfl) (fun o w1 hq => ?_)
  obtain ⟨rfl, hb1⟩ := hq
  show WW _ _ _ 8 _ [] _
  have hI0 := (oW.bld (t := (on, oc)) (t' := (0, fun _ => nI 0)) h (oFr.refl _ w) ok hb1).1
  clear hb1
  refine WW.run (pc' := 10) (lv' := [(1, .int (nI 0)), (0, .ref o)]) (st' := []) 2 rfl ?_
  refine WW.less (kc' := 20 * (cur.nl - 0) + 5) (ks' := 4000 * (cur.nl - 0) + 100) (by omega) (by omega) ?_
  refine WW.upW cur.nl (fun i => 20 * (cur.nl - i) + 5) (fun i => 4000 * (cur.nl - i) + 100) (fun i => [(1, .int (nI i)), (0, .ref o)]) (fun i u => oW G w o hl inp sb st harr hg sva I cur hn hist sv ic (cur.txt (fun _ => nI 0) i) u) (fun i u hi hI ih => ?_) (fun u hI => ?_) hI0
  · skip
    obtain ⟨a, b, ha, hb, ea, eb⟩ := hT i hi
    have hle := hW.2.2.2.1 i hi
    have h6 := hW.1
    have ta : tn (cur.la i).lv = a := by rw [ea]; exact nI_clamp (by omega)
    have hlen := (txt_fine hW hT (fun _ => nI 0) i (by omega)).1
    replace ih : ∀ u', oW G w o hl inp sb st harr hg sva I cur hn hist sv ic (cur.txtN i (cur.txt (fun _ => nI 0) i)) u' → WW _ (20 * (cur.nl - (i + 1)) + 5) (4000 * (cur.nl - (i + 1)) + 100) 10 [(1, .int (nI (i + 1))), (0, .ref o)] [] u' := fun u' h1 => ih u' h1
    generalize cur.txt (fun _ => nI 0) i = t0 at hI hlen ih
    obtain ⟨t1, e1⟩ : ∃ t1, t1 = (if i = 0 then t0 else addC t0 32) := ⟨_, rfl⟩
    have l1 : t1.1 ≤ 11 * i + 1 := by
      rw [e1]
      by_cases e : i = 0
      · rw [if_pos e]; omega
      · rw [if_neg e]; show t0.1 + 1 ≤ _; omega
    have eN : cur.txtN i t0 = (if (cur.la i).le = 0 then addN t1 a else bif cur.isReq i then addC (addN (addC (addN (addC (addN t1 a) 115) ((cur.la i).le - 1)) 101) (tn (cur.la i).en)) 114 else addN (addC (addN (addC (addN t1 a) 115) ((cur.la i).le - 1)) 101) (tn (cur.la i).en)) := by
      unfold aS.txtN
      rw [ta, ← e1]
    rw [eN] at ih
    obtain ⟨sa0, hO, fr0⟩ := hI
    have q1 := hO.1
    obtain ⟨lo, Z, gs, gl, gr, g3, -⟩ := id hO.2.2.1
    have q2 := g3.1.1
    have hz := g3.2.1.2.1
    obtain ⟨mc0, hl0⟩ := hz.1
    have hla := (g3.2.2.2.2.1.1 i hi).1
    have e2131 : ∀ (u' : wdW) (x2 : Value) (t9 : tX), oW G w o hl inp sb st harr hg sva I cur hn hist sv ic t9 u' → t9 = (if (cur.la i).le = 0 then addN t1 a else bif cur.isReq i then addC (addN (addC (addN (addC (addN t1 a) 115) ((cur.la i).le - 1)) 101) (tn (cur.la i).en)) 114 else addN (addC (addN (addC (addN t1 a) 115) ((cur.la i).le - 1)) 101) (tn (cur.la i).en)) → WW (l, G, MX1_writeLamps, 10, 200, 40000, oWQ G o hl inp sb I cur hn hist sv ic w) (20 * (cur.nl - i) - 12) (4000 * (cur.nl - i) - 3800) 131 [(2, x2), (1, .int (nI i)), (0, .ref o)] [] u' := (by
      intro u' x2 t9 h1 h3
      subst h3
      refine WW.run (pc' := 10) (lv' := [(1, .int ((nI i) + nI 1)), (2, x2), (0, .ref o)]) (st' := []) 2 rfl ?_
      refine WW.pick (lv' := [(1, .int ((nI i) + nI 1)), (0, .ref o)]) [0, 2] rfl ?_
      rw [nI_add]
      exact WW.less (by omega) (by omega) (ih u' h1))
    clear ih
    have la1 := addN_len1 t1 ha
    have main59 : ∀ (u' : wdW) (sa1 : Nat), isOx G u' o hl inp sb st harr hg sva sa1 I cur hn hist sv ic t1.1 t1.2 → oFr inp w u' → u'.1 4 (gl i) = some (.inl (laF (cur.la i))) → WW (l, G, MX1_writeLamps, 10, 200, 40000, oWQ G o hl inp sb I cur hn hist sv ic w) (20 * (cur.nl - i) - 2) (4000 * (cur.nl - i) - 450) 59 [(2, .ref (gl i)), (1, .int (nI i)), (0, .ref o)] [.ref sb] u' := (by
      intro u1 sa1 hO1 fr1 hla1
      obtain ⟨ml1, cap1, f1, b1, -⟩ := id hO1.2.2.2.2.2.2
      have p1 := hO1.1
      refine WW.ok fun ok => ?_
      replace ok : wdOk G u1 := ok
      refine WW.run (pc' := 60) (lv' := [(2, .ref (gl i)), (1, .int (nI i)), (0, .ref o)]) (st' := [.ref (gl i), .ref sb]) 1 rfl ?_
      refine WW.get rfl fX1_137 hla1 (show _ = some (.int ((cur.la i).1)) from rfl) ?_
      rw [show (cur.la i).1 = nI a from ea]
      refine WW.callV [.int (nI a)] sb [] rfl mX1_303 (sB_appendN hO1.2.2.2.2.2.2 (by omega) (show a < 100000 by omega)) (wdRecv.obj b1 rfl) rfl rfl (wd_le rfl) (wd_le rfl) (by omega) (by omega) (fun o u2 hq => ?_)
      obtain ⟨rfl, hb2⟩ := hq
      show WW _ _ _ 66 _ [.ref sb] _
      obtain ⟨⟨sa2, hO2, fr2⟩, kp2⟩ := oW.bld hO1 fr1 ok hb2
      have hla2 := kp2 _ _ _ hla1 (by decide) (by decide)
      clear hb2 kp2
      generalize addN t1 a = t2 at hO2 la1 e2131
      refine WW.ok fun ok => ?_
      replace ok : wdOk G u2 := ok
      refine WW.run (pc' := 68) (lv' := [(2, .ref (gl i)), (1, .int (nI i)), (0, .ref o)]) (st' := [.ref (gl i)]) 2 rfl ?_
      refine WW.callV [] (gl i) [] rfl mX1_142 (sP_isLeased hla2 (hW.le hi)) (wdRecv.obj hla2 rfl) rfl rfl (wd_le rfl) (wd_le rfl) (by omega) (by omega) (fun o w' hq => ?_)
      obtain ⟨rfl, hw9⟩ := hq
      show WW _ _ _ 71 _ [.int (bI (Nat.blt 0 (cur.la i).le))] _
      rw [hw9]
      clear hw9 w'
      cases hb0 : Nat.blt 0 (cur.la i).le with
      | false =>
        have e0 : (cur.la i).le = 0 := by
          have : ¬ 0 < (cur.la i).le := fun q => by rw [show Nat.blt 0 (cur.la i).le = true from Nat.ble_eq_true_of_le q] at hb0; cases hb0
          omega
        refine WW.if_eq (tgt := 131) rfl rfl (fun _ => ?_) (fun hno => absurd rfl hno)
        exact WW.less (by omega) (by omega) (e2131 u2 _ t2 ⟨sa2, hO2, fr2⟩ (by rw [if_pos e0]))
      | true =>
        have e0 : 0 < (cur.la i).le := Nat.le_of_ble_eq_true hb0
        have ee := eb e0
        have tb : tn (cur.la i).en = b := by rw [ee]; exact nI_clamp (by omega)
        have ne0 : ¬ (cur.la i).le = 0 := by omega
        rw [tb, if_neg ne0] at e2131
        have p2 := hO2.1
        obtain ⟨ml2, cap2, f2, b2, -⟩ := id hO2.2.2.2.2.2.2
        refine WW.if_eq (tgt := 131) rfl rfl (fun hno => absurd hno (by decide)) (fun _ => ?_)
        refine WW.run (pc' := 75) (lv' := [(2, .ref (gl i)), (1, .int (nI i)), (0, .ref o)]) (st' := [.ref o]) 1 rfl ?_
        refine WW.get rfl fX1_37 p2 (show _ = some (.ref sb) from rfl) ?_
        refine WW.run (pc' := 80) (lv' := [(2, .ref (gl i)), (1, .int (nI i)), (0, .ref o)]) (st' := [.int (nI 115), .ref sb]) 1 rfl ?_
        refine WW.callV [.int (nI 115)] sb [] rfl mX1_306 (sB_appendC hO2.2.2.2.2.2.2 (by omega) (show 115 < 128 by decide)) (wdRecv.obj b2 rfl) rfl rfl (wd_le rfl) (wd_le rfl) (by omega) (by omega) (fun o u3 hq => ?_)
        obtain ⟨rfl, hb3⟩ := hq
        show WW _ _ _ 83 _ [.ref sb] _
        obtain ⟨⟨sa3, hO3, fr3⟩, kp3⟩ := oW.bld (t := t2) (t' := addC t2 115) hO2 fr2 ok hb3
        have hla3 := kp3 _ _ _ hla2 (by decide) (by decide)
        clear hb3 kp3
        have la3 : (addC t2 115).1 = t2.1 + 1 := rfl
        generalize addC t2 115 = t3 at hO3 la3 e2131
        obtain ⟨ml3, cap3, f3, b3, -⟩ := id hO3.2.2.2.2.2.2
        refine WW.ok fun ok => ?_
        replace ok : wdOk G u3 := ok
        refine WW.run (pc' := 84) (lv' := [(2, .ref (gl i)), (1, .int (nI i)), (0, .ref o)]) (st' := [.ref (gl i), .ref sb]) 1 rfl ?_
        refine WW.get rfl fX1_149 hla3 (show _ = some (.int (nI (cur.la i).2.1 - nI 1)) from rfl) ?_
        rw [show nI (cur.la i).2.1 - nI 1 = nI ((cur.la i).le - 1) from wn_sub rfl rfl e0]
        have la4 := addN_len1 t3 (show (cur.la i).le - 1 < 10 by omega)
        refine WW.callV [.int (nI ((cur.la i).le - 1))] sb [] rfl mX1_303 (sB_appendN hO3.2.2.2.2.2.2 (by omega) (show (cur.la i).le - 1 < 100000 by omega)) (wdRecv.obj b3 rfl) rfl rfl (wd_le rfl) (wd_le rfl) (by omega) (by omega) (fun o u4 hq => ?_)
        obtain ⟨rfl, hb4⟩ := hq
        show WW _ _ _ 90 _ [.ref sb] _
        obtain ⟨⟨sa4, hO4, fr4⟩, kp4⟩ := oW.bld hO3 fr3 ok hb4
        have hla4 := kp4 _ _ _ hla3 (by decide) (by decide)
        clear hb4 kp4
        generalize addN t3 ((cur.la i).le - 1) = t4 at hO4 la4 e2131
        obtain ⟨ml4, cap4, f4, b4, -⟩ := id hO4.2.2.2.2.2.2
        refine WW.ok fun ok => ?_
        replace ok : wdOk G u4 := ok
        refine WW.run (pc' := 92) (lv' := [(2, .ref (gl i)), (1, .int (nI i)), (0, .ref o)]) (st' := [.int (nI 101), .ref sb]) 1 rfl ?_
        refine WW.callV [.int (nI 101)] sb [] rfl mX1_306 (sB_appendC hO4.2.2.2.2.2.2 (by omega) (show 101 < 128 by decide)) (wdRecv.obj b4 rfl) rfl rfl (wd_le rfl) (wd_le rfl) (by omega) (by omega) (fun o u5 hq => ?_)
        obtain ⟨rfl, hb5⟩ := hq
        show WW _ _ _ 95 _ [.ref sb] _
        obtain ⟨⟨sa5, hO5, fr5⟩, kp5⟩ := oW.bld (t := t4) (t' := addC t4 101) hO4 fr4 ok hb5
        have hla5 := kp5 _ _ _ hla4 (by decide) (by decide)
        clear hb5 kp5
        have la5 : (addC t4 101).1 = t4.1 + 1 := rfl
        generalize addC t4 101 = t5 at hO5 la5 e2131
        obtain ⟨ml5, cap5, f5, b5, -⟩ := id hO5.2.2.2.2.2.2
        refine WW.ok fun ok => ?_
        replace ok : wdOk G u5 := ok
        refine WW.run (pc' := 96) (lv' := [(2, .ref (gl i)), (1, .int (nI i)), (0, .ref o)]) (st' := [.ref (gl i), .ref sb]) 1 rfl ?_
        refine WW.get rfl fX1_152 hla5 (show _ = some (.int ((cur.la i).2.2.1)) from rfl) ?_
        rw [show (cur.la i).2.2.1 = nI b from ee]
        have la6 := addN_len t5 b
        have hd := dg_le b
        refine WW.callV [.int (nI b)] sb [] rfl mX1_303 (sB_appendN hO5.2.2.2.2.2.2 (by omega) hb) (wdRecv.obj b5 rfl) rfl rfl (wd_le rfl) (wd_le rfl) (by omega) (by omega) (fun o u6 hq => ?_)
        obtain ⟨rfl, hb6⟩ := hq
        show WW _ _ _ 102 _ [.ref sb] _
        obtain ⟨⟨sa6, hO6, fr6⟩, kp6⟩ := oW.bld hO5 fr5 ok hb6
        clear hb6 kp6
        generalize addN t5 b = t6 at hO6 la6 e2131
        have p6 := hO6.1
        obtain ⟨lo6, Z6, gs6, gl6, gr6, g6, -⟩ := id hO6.2.2.1
        have q6 := g6.1.1
        refine WW.ok fun ok => ?_
        replace ok : wdOk G u6 := ok
        refine WW.run (pc' := 104) (lv' := [(2, .ref (gl i)), (1, .int (nI i)), (0, .ref o)]) (st' := [.ref o]) 2 rfl ?_
        refine WW.get rfl fX1_37 p6 (show _ = some (.ref sb) from rfl) ?_
        refine WW.run (pc' := 108) (lv' := [(2, .ref (gl i)), (1, .int (nI i)), (0, .ref o)]) (st' := [.ref o, .ref sb]) 1 rfl ?_
        refine WW.get rfl fX1_10 p6 (show _ = some (.ref st) from rfl) ?_
        refine WW.run (pc' := 112) (lv' := [(2, .ref (gl i)), (1, .int (nI i)), (0, .ref o)]) (st' := [.int (nI i), .ref st, .ref sb]) 1 rfl ?_
        refine WW.callV [.int (nI i)] st [.ref sb] rfl mX1_309 (cS_isRequested g6 hW (show i < 2 ^ 31 by omega)) (wdRecv.obj q6 rfl) rfl rfl (wd_le rfl) (wd_le rfl) (by omega) (by omega) (fun o u7 hq => ?_)
        obtain ⟨rfl, fr67⟩ := hq
        show WW _ _ _ 115 _ [.int (bI (cur.isReq i)), .ref sb] _
        have hO7 := hO6.fr0 ok fr67
        have fr7 := fr6.trans (oFr.of0 ok fr67)
        obtain ⟨ml7, cap7, f7, b7, -⟩ := id hO7.2.2.2.2.2.2
        refine WW.ok fun ok => ?_
        replace ok : wdOk G u7 := ok
        cases hr : cur.isReq i with
        | false =>
          rw [hr] at e2131
          refine WW.if_eq (tgt := 124) rfl rfl (fun _ => ?_) (fun hno => absurd rfl hno)
          refine WW.ldcwS (i := 0) rfl rfl ⟨rfl, rfl⟩ ?_
          refine WW.callV [.ref (wdSa G 0)] sb [] rfl mX1_299 (sB_appendS hO7.2.2.2.2.2.2 (by omega) (i := 0) rfl (by decide) (by decide)) (wdRecv.obj b7 rfl) rfl rfl (wd_le rfl) (wd_le rfl) (by omega) (by omega) (fun o u8 hq => ?_)
          obtain ⟨rfl, hb8⟩ := hq
          show WW _ _ _ 130 _ [.ref sb] _
          have hb9 : bQ sb sa6 t6.1 t6.2 u7 u8 := oW.emp hb8
          obtain ⟨hO8, -⟩ := oW.bld hO7 fr7 ok hb9
          refine WW.run (pc' := 131) (lv' := [(2, .ref (gl i)), (1, .int (nI i)), (0, .ref o)]) (st' := []) 1 rfl ?_
          exact WW.less (by omega) (by omega) (e2131 u8 _ t6 hO8 rfl)
        | true =>
          rw [hr] at e2131
          refine WW.if_eq (tgt := 124) rfl rfl (fun hno => absurd hno (by decide)) (fun _ => ?_)
          refine WW.ldcwS (i := 2) rfl rfl ⟨rfl, rfl⟩ ?_
          refine WW.run (pc' := 127) (lv' := [(2, .ref (gl i)), (1, .int (nI i)), (0, .ref o)]) (st' := [.ref (wdSa G 2), .ref sb]) 1 rfl ?_
          refine WW.callV [.ref (wdSa G 2)] sb [] rfl mX1_299 (sB_appendS hO7.2.2.2.2.2.2 (by omega) (i := 2) rfl (by decide) (by decide)) (wdRecv.obj b7 rfl) rfl rfl (wd_le rfl) (wd_le rfl) (by omega) (by omega) (fun o u8 hq => ?_)
          obtain ⟨rfl, hb8⟩ := hq
          show WW _ _ _ 130 _ [.ref sb] _
          have hb9 : bQ sb sa6 (addC t6 114).1 (addC t6 114).2 u7 u8 := oW.one 114 hb8
          obtain ⟨hO8, -⟩ := oW.bld hO7 fr7 ok hb9
          refine WW.run (pc' := 131) (lv' := [(2, .ref (gl i)), (1, .int (nI i)), (0, .ref o)]) (st' := []) 1 rfl ?_
          exact WW.less (by omega) (by omega) (e2131 u8 _ (addC t6 114) hO8 rfl))
    clear e2131
    refine WW.ok fun ok => ?_
    replace ok : wdOk G u := ok
    refine WW.run (pc' := 12) (lv' := [(1, .int (nI i)), (0, .ref o)]) (st' := [.ref o, .int (nI i)]) 2 rfl ?_
    refine WW.get rfl fX1_10 q1 (show _ = some (.ref st) from rfl) ?_
    refine WW.get rfl fX1_130 q2 (show _ = some (.ref (Z 1)) from rfl) ?_
    refine WW.callV [] (Z 1) [.int (nI i)] rfl mX1_59 (sL_size hz) (wdRecv.obj hl0 rfl) rfl rfl (wd_le rfl) (wd_le rfl) (by omega) (by omega) (fun o w' hq => ?_)
    obtain ⟨rfl, hw9⟩ := hq
    show WW _ _ _ 21 _ [.int (nI cur.nl), .int (nI i)] _
    rw [hw9]
    clear hw9 w'
    refine WW.icmp_ge (tgt := 137) rfl rfl (fun hno => absurd hno (nI_ge hi (by omega))) (fun _ => ?_)
    refine WW.run (pc' := 25) (lv' := [(1, .int (nI i)), (0, .ref o)]) (st' := [.ref o]) 1 rfl ?_
    refine WW.get rfl fX1_10 q1 (show _ = some (.ref st) from rfl) ?_
    refine WW.get rfl fX1_130 q2 (show _ = some (.ref (Z 1)) from rfl) ?_
    refine WW.run (pc' := 32) (lv' := [(1, .int (nI i)), (0, .ref o)]) (st' := [.int (nI i), .ref (Z 1)]) 1 rfl ?_
    refine WW.callV [.int (nI i)] (Z 1) [] rfl mX1_207 (sL_get hz hi) (wdRecv.obj hl0 rfl) rfl rfl (wd_le rfl) (wd_le rfl) (by omega) (by omega) (fun o w' hq => ?_)
    obtain ⟨rfl, hw9⟩ := hq
    show WW _ _ _ 35 _ [.ref (gl i)] _
    rw [hw9]
    clear hw9 w'
    refine WW.castY rfl hla rfl lX1_138 (Or.inl rfl) ?_
    refine WW.run (pc' := 40) (lv' := [(2, .ref (gl i)), (1, .int (nI i)), (0, .ref o)]) (st' := [.ref o]) 2 rfl ?_
    refine WW.get rfl fX1_37 q1 (show _ = some (.ref sb) from rfl) ?_
    refine WW.run (pc' := 44) (lv' := [(2, .ref (gl i)), (1, .int (nI i)), (0, .ref o)]) (st' := [.int (nI i), .ref sb]) 1 rfl ?_
    obtain ⟨ml9, cap9, f9, b9, -⟩ := id hO.2.2.2.2.2.2
    by_cases e : i = 0
    · skip
      rw [if_pos e] at e1
      subst e1
      refine WW.if_ne (tgt := 53) rfl rfl (fun hno => absurd (by rw [e]; rfl) hno) (fun _ => ?_)
      refine WW.ldcwS (i := 0) rfl rfl ⟨rfl, rfl⟩ ?_
      refine WW.run (pc' := 56) (lv' := [(2, .ref (gl i)), (1, .int (nI i)), (0, .ref o)]) (st' := [.ref (wdSa G 0), .ref sb]) 1 rfl ?_
      refine WW.callV [.ref (wdSa G 0)] sb [] rfl mX1_299 (sB_appendS hO.2.2.2.2.2.2 (by omega) (i := 0) rfl (by decide) (by decide)) (wdRecv.obj b9 rfl) rfl rfl (wd_le rfl) (wd_le rfl) (by omega) (by omega) (fun o u8 hq => ?_)
      obtain ⟨rfl, hb8⟩ := hq
      show WW _ _ _ 59 _ [.ref sb] _
      have hb9 : bQ sb sa0 t1.1 t1.2 u u8 := oW.emp hb8
      obtain ⟨⟨sa8, hO8, fr8⟩, kp8⟩ := oW.bld hO fr0 ok hb9
      exact WW.less (by omega) (by omega) (main59 u8 sa8 hO8 fr8 (kp8 _ _ _ hla (by decide) (by decide)))
    · skip
      rw [if_neg e] at e1
      subst e1
      refine WW.if_ne (tgt := 53) rfl rfl (fun _ => ?_) (fun hno => absurd hno (fun q => e ((nI_eq (a := i) (b := 0) (by omega) (by decide)).mp q)))
      refine WW.ldcwS (i := 1) rfl rfl ⟨rfl, rfl⟩ ?_
      refine WW.callV [.ref (wdSa G 1)] sb [] rfl mX1_299 (sB_appendS hO.2.2.2.2.2.2 (by omega) (i := 1) rfl (by decide) (by decide)) (wdRecv.obj b9 rfl) rfl rfl (wd_le rfl) (wd_le rfl) (by omega) (by omega) (fun o u8 hq => ?_)
      obtain ⟨rfl, hb8⟩ := hq
      show WW _ _ _ 59 _ [.ref sb] _
      have hb9 : bQ sb sa0 (addC t0 32).1 (addC t0 32).2 u u8 := oW.one 32 hb8
      obtain ⟨⟨sa8, hO8, fr8⟩, kp8⟩ := oW.bld (t := t0) (t' := addC t0 32) hO fr0 ok hb9
      exact WW.less (by omega) (by omega) (main59 u8 sa8 hO8 fr8 (kp8 _ _ _ hla (by decide) (by decide)))
  · skip
    obtain ⟨sa0, hO, fr0⟩ := hI
    have q1 := hO.1
    obtain ⟨lo, Z, gs, gl, gr, g3, -⟩ := id hO.2.2.1
    have q2 := g3.1.1
    have hz := g3.2.1.2.1
    obtain ⟨mc0, hl0⟩ := hz.1
    obtain ⟨ml9, cap9, f9, b9, -⟩ := id hO.2.2.2.2.2.2
    refine WW.run (pc' := 12) (lv' := [(1, .int (nI cur.nl)), (0, .ref o)]) (st' := [.ref o, .int (nI cur.nl)]) 2 rfl ?_
    refine WW.get rfl fX1_10 q1 (show _ = some (.ref st) from rfl) ?_
    refine WW.get rfl fX1_130 q2 (show _ = some (.ref (Z 1)) from rfl) ?_
    refine WW.callV [] (Z 1) [.int (nI cur.nl)] rfl mX1_59 (sL_size hz) (wdRecv.obj hl0 rfl) rfl rfl (wd_le rfl) (wd_le rfl) (by omega) (by omega) (fun o w' hq => ?_)
    obtain ⟨rfl, hw9⟩ := hq
    show WW _ _ _ 21 _ [.int (nI cur.nl), .int (nI cur.nl)] _
    rw [hw9]
    clear hw9 w'
    refine WW.icmp_ge (tgt := 137) rfl rfl (fun _ => ?_) (fun hno => absurd (nI_le (Nat.le_refl _) (by omega)) hno)
    refine WW.run (pc' := 138) (lv' := [(1, .int (nI cur.nl)), (0, .ref o)]) (st' := [.ref o]) 1 rfl ?_
    refine WW.get rfl fX1_37 q1 (show _ = some (.ref sb) from rfl) ?_
    refine WW.callV [] sb [] rfl mX1_315 (sB_length hO.2.2.2.2.2.2) (wdRecv.obj b9 rfl) rfl rfl (wd_le rfl) (wd_le rfl) (by omega) (by omega) (fun o w' hq => ?_)
    obtain ⟨rfl, hw9⟩ := hq
    show WW _ _ _ 144 _ [.int (nI ((cur.txt (fun _ => nI 0) cur.nl).1))] _
    rw [hw9]
    clear hw9 w'
    exact WW.iret rfl rfl rfl ⟨rfl, ⟨_, _, _, _, _, hO⟩, fr0⟩
end
