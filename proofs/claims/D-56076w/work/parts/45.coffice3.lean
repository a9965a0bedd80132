set_option maxRecDepth 100000
section
variable {G : wdG} {l : Launch} {w : wdW} {hl : Nat} {o inp sb : Nat} {I : Nat → Int32} {cur : aS} {hn : Nat} {hist : Nat → aS} {sv : Option aS} {ic : Nat → Int32} {on : Nat} {oc : Nat → Int32}
theorem cO_undo (h : isOf G w o hl inp sb I cur hn hist sv ic on oc) (h8 : hn ≤ 8) : Sp l G MX1_undo 7 1 6 [.ref o] w (fun q w' => oFr inp w w' ∧ if hn = 0 then isOf G w' o hl inp sb I cur hn hist sv ic on oc ∧ ∃ x, q = .inr (eN 15, x) else q = .inl (some (.int (nI (hn - 1)))) ∧ isOf G w' o hl inp sb I (hist (hn - 1)) (hn - 1) hist sv ic on oc) := by
  have hO := h
  obtain ⟨st, harr, hg, sva, sbarr, h⟩ := h
  have g := h
  obtain ⟨g1, g2, g3, g4, g5, g6, g7⟩ := h
  obtain ⟨mc0, hl0⟩ := g2.1
  refine Sp.of rfl (by decide +kernel) kX1_undo (wd_le rfl) ?_
  refine WW.ok fun ok => ?_
  replace ok : wdOk G w := ok
  refine WW.run (pc' := 1) (lv' := [(0, .ref o)]) (st' := [.ref o]) 1 rfl ?_
  refine WW.get rfl fX1_19 g1 (show _ = some (.ref hl) from rfl) ?_
  refine WW.callV [] hl [] rfl mX1_325 (sL_isEmpty g2) (wdRecv.obj hl0 rfl) rfl rfl (wd_le rfl) (wd_le rfl) (wd_le rfl) (wd_le rfl) (fun o w' hq => ?_)
  obtain ⟨rfl, hw9⟩ := hq
  show WW _ _ _ 7 _ [.int (bI (hn == 0))] _
  rw [hw9]
  clear hw9 w'
  generalize hb : (hn == 0) = bb
  refine WW.join (pc' := 15) (lv' := [(0, .ref o)]) (st' := [.int (bI (!bb))]) ?_ ?_
  rotate_left
  · cases hb : bb with
    | false =>
      intro H
      refine WW.if_ne (tgt := 14) rfl rfl (fun hno => absurd rfl hno) (fun _ => ?_)
      refine WW.run (pc' := 15) (lv' := [(0, .ref o)]) (st' := [.int (nI 1)]) 2 rfl ?_
      exact H
    | true =>
      intro H
      refine WW.if_ne (tgt := 14) rfl rfl (fun _ => ?_) (fun hno => absurd hno (by decide))
      refine WW.run (pc' := 15) (lv' := [(0, .ref o)]) (st' := [.int (nI 0)]) 1 rfl ?_
      exact H
  refine WW.callS [.int (bI (!bb))] [] rfl mX1_254 (sO_requireState (!bb)) rfl rfl (wd_le rfl) (wd_le rfl) (wd_le rfl) (wd_le rfl) (fun o w' hq => ?_)
  by_cases e : hn = 0
  · skip
    have : bb = true := by rw [← hb]; simp [e]
    subst this
    obtain ⟨q, e1, rfl, e3, e4⟩ := hq
    show WX _ _ _ 15 _ [] _ _ _
    exact WX.out (fun _ h => nomatch h) ⟨oFr.of0 ok e3, by rw [if_pos e]; exact ⟨hO.fr0 ok e3, q, rfl⟩⟩
  · skip
    have : bb = false := by rw [← hb]; simp [e]
    subst this
    obtain ⟨rfl, hw9⟩ := hq
    show WW _ _ _ 18 _ [] _
    rw [hw9]
    clear hw9 w'
    refine WW.run (pc' := 20) (lv' := [(0, .ref o)]) (st' := [.ref o, .ref o]) 2 rfl ?_
    refine WW.get rfl fX1_19 g1 (show _ = some (.ref hl) from rfl) ?_
    refine WW.run (pc' := 24) (lv' := [(0, .ref o)]) (st' := [.ref o, .ref hl, .ref o]) 1 rfl ?_
    refine WW.get rfl fX1_19 g1 (show _ = some (.ref hl) from rfl) ?_
    refine WW.callV [] hl [.ref hl, .ref o] rfl mX1_59 (sL_size g2) (wdRecv.obj hl0 rfl) rfl rfl (wd_le rfl) (wd_le rfl) (wd_le rfl) (wd_le rfl) (fun o w' hq => ?_)
    obtain ⟨rfl, hw9⟩ := hq
    show WW _ _ _ 30 _ [.int (nI hn), .ref hl, .ref o] _
    rw [hw9]
    clear hw9 w'
    refine WW.run (pc' := 32) (lv' := [(0, .ref o)]) (st' := [.int ((nI hn) - (nI 1)), .ref hl, .ref o]) 2 rfl ?_
    rw [(wn_sub rfl rfl (by omega) : nI hn - nI 1 = nI (hn - 1))]
    refine WW.callV [.int (nI (hn - 1))] hl [.ref o] rfl mX1_63 (sL_remove (ci := 1) (i := hn - 1) rfl nq2205 (by decide) (fun j hj => (g4 j hj).o1) g2 (by omega)) (wdRecv.obj hl0 rfl) rfl rfl (wd_le rfl) (wd_le rfl) (wd_le rfl) (wd_le rfl) (fun o u hq => ?_)
    obtain ⟨rfl, hL, h2, h3⟩ := hq
    show WW _ _ _ 35 _ [.ref (hg (hn - 1)), .ref o] _
    have fr2 := wFr.of h2 h3
    have o1 := g.list ok fr2 (Or.inl rfl) (Or.inl rfl) (hist' := hist) hL (fun i hi => by
      show isSo G w hl harr (if i < hn - 1 then hg i else hg (i + 1)) (hist i)
      rw [if_pos hi]
      exact g4 i (by omega))
    have s1 := (g4 (hn - 1) (by omega)).list ok g2 fr2 (Or.inl rfl) (Or.inl rfl)
    obtain ⟨fs, hst⟩ := s1.o1
    have p1 := o1.1
    have o2 := o1.putO I s1 o1.2.2.2.2.1
    refine WW.castY rfl hst rfl lX1_7 (Or.inl rfl) ?_
    refine WW.put [.ref (hg (hn - 1)), .ref hl, va_rf sva, .ref inp, .int (I 0), .int (I 1), .int (I 2), .int (I 3), .ref sb] rfl pfX1_10 p1 (wd_le rfl) rfl rfl rfl ?_
    have h5 : (wPut u 0 o (.inl [.ref (hg (hn - 1)), .ref hl, va_rf sva, .ref inp, .int (I 0), .int (I 1), .int (I 2), .int (I 3), .ref sb])).1 0 o = some (.inl [.ref (hg (hn - 1)), .ref hl, va_rf sva, .ref inp, .int (I 0), .int (I 1), .int (I 2), .int (I 3), .ref sb]) := wPut_same _ _ _ _
    have hL2 := o2.2.1
    obtain ⟨mc2, hl2⟩ := hL2.1
    refine WW.run (pc' := 42) (lv' := [(0, .ref o)]) (st' := [.ref o]) 1 rfl ?_
    refine WW.get rfl fX1_19 h5 (show _ = some (.ref hl) from rfl) ?_
    refine WW.callV [] hl [] rfl mX1_59 (sL_size hL2) (wdRecv.obj hl2 rfl) rfl rfl (wd_le rfl) (wd_le rfl) (wd_le rfl) (wd_le rfl) (fun o w' hq => ?_)
    obtain ⟨rfl, hw7⟩ := hq
    show WW _ _ _ 48 _ [.int (nI (hn - 1))] _
    rw [hw7]
    exact WW.iret rfl rfl rfl ⟨(oFr.list ok g2 fr2).put (oK_no (by decide)), by rw [if_neg e]; exact ⟨rfl, _, _, _, _, _, o2⟩⟩
theorem cO_save (h : isOf G w o hl inp sb I cur hn hist sv ic on oc) (hWf : aWf cur) : Sp l G MX1_save 6 60 340 [.ref o] w (fun q w' => oFr inp w w' ∧ q = .inl (some (.int (nI cur.nl))) ∧ isOf G w' o hl inp sb I cur hn hist (some cur) ic on oc) := by
  obtain ⟨st, harr, hg, sva, sbarr, h⟩ := h
  have g := h
  obtain ⟨g1, g2, ⟨lo, Z, gs, gl, gr, g3, -⟩, g4, g5, g6, g7⟩ := h
  have hst := g3.1.1
  refine Sp.of rfl (by decide +kernel) kX1_save (wd_le rfl) ?_
  refine WW.ok fun ok => ?_
  replace ok : wdOk G w := ok
  refine WW.run (pc' := 2) (lv' := [(0, .ref o)]) (st' := [.ref o, .ref o]) 2 rfl ?_
  refine WW.get rfl fX1_10 g1 (show _ = some (.ref st) from rfl) ?_
  refine WW.callV [] st [.ref o] rfl mX1_71 (cS_copy g3 hWf) (wdRecv.obj hst rfl) rfl rfl (wd_le rfl) (wd_le rfl) (wd_le rfl) (wd_le rfl) (fun o w1 hq => ?_)
  obtain ⟨a, ha, rfl, ⟨Z2, gs2, gl2, gr2, hC⟩, fr1⟩ := hq
  show WW _ _ _ 8 _ [.ref a, .ref o] _
  have g' := g.fr0 ok fr1
  have p1 := g'.1
  have s1 : isSo G w1 hl harr a cur := isSo.made hC ok g2
  have o2 := g'.putO (sva' := some a) (sv' := some cur) I g'.2.2.1 s1
  have g3' := (g3.fr ok fr1)
  refine WW.put [.ref st, .ref hl, .ref a, .ref inp, .int (I 0), .int (I 1), .int (I 2), .int (I 3), .ref sb] rfl pfX1_328 p1 (wd_le rfl) rfl rfl rfl ?_
  have h5 : (wPut w1 0 o (.inl [.ref st, .ref hl, .ref a, .ref inp, .int (I 0), .int (I 1), .int (I 2), .int (I 3), .ref sb])).1 0 o = some (.inl [.ref st, .ref hl, .ref a, .ref inp, .int (I 0), .int (I 1), .int (I 2), .int (I 3), .ref sb]) := wPut_same _ _ _ _
  have b1 : (wPut w1 0 o (.inl [.ref st, .ref hl, .ref a, .ref inp, .int (I 0), .int (I 1), .int (I 2), .int (I 3), .ref sb])).1 1 st = some (.inl (stF Z cur)) := (wPut_k (by decide)).trans g3'.1.1
  have hz : isL G (wPut w1 0 o (.inl [.ref st, .ref hl, .ref a, .ref inp, .int (I 0), .int (I 1), .int (I 2), .int (I 3), .ref sb])) (Z 1) (Z 4) cur.nl gl := g3'.2.1.2.1.to (fun p hp => (wPut_k (by decide)).trans hp) (fun p hp => (wPut_k (by decide)).trans hp)
  obtain ⟨mc1, hl1⟩ := hz.1
  refine WW.run (pc' := 12) (lv' := [(0, .ref o)]) (st' := [.ref o]) 1 rfl ?_
  refine WW.get rfl fX1_10 h5 (show _ = some (.ref st) from rfl) ?_
  refine WW.get rfl fX1_130 b1 (show _ = some (.ref (Z 1)) from rfl) ?_
  refine WW.callV [] (Z 1) [] rfl mX1_59 (sL_size hz) (wdRecv.obj hl1 rfl) rfl rfl (wd_le rfl) (wd_le rfl) (wd_le rfl) (wd_le rfl) (fun o w' hq => ?_)
  obtain ⟨rfl, hw7⟩ := hq
  show WW _ _ _ 21 _ [.int (nI cur.nl)] _
  rw [hw7]
  exact WW.iret rfl rfl rfl ⟨(oFr.of0 ok fr1).put (oK_no (by decide)), rfl, _, _, _, _, _, o2⟩
theorem cO_restore (h : isOf G w o hl inp sb I cur hn hist sv ic on oc) (hWf : ∀ S, sv = some S → aWf S) : Sp l G MX1_restore 7 61 346 [.ref o] w (fun q w' => oFr inp w w' ∧ match sv with | none => isOf G w' o hl inp sb I cur hn hist sv ic on oc ∧ ∃ x, q = .inr (eN 15, x) | some S => q = .inl (some (.int (nI S.nl))) ∧ isOf G w' o hl inp sb I S 0 hist sv ic on oc) := by
  have hO := h
  obtain ⟨st, harr, hg, sva, sbarr, h⟩ := h
  have g := h
  obtain ⟨g1, g2, g3, g4, g5, g6, g7⟩ := h
  refine Sp.of rfl (by decide +kernel) kX1_restore (wd_le rfl) ?_
  refine WW.ok fun ok => ?_
  replace ok : wdOk G w := ok
  cases sv with
  | none =>
    cases sva with
    | some a => exact absurd g5 (fun z => z)
    | none =>
      refine WW.run (pc' := 1) (lv' := [(0, .ref o)]) (st' := [.ref o]) 1 rfl ?_
      refine WW.get rfl fX1_328 g1 (show _ = some (.null) from rfl) ?_
      refine WW.ifnullN (tgt := 11) rfl rfl ?_
      refine WW.run (pc' := 12) (lv' := [(0, .ref o)]) (st' := [.int (nI 0)]) 1 rfl ?_
      refine WW.callS [.int (nI 0)] [] rfl mX1_254 (sO_requireState false) rfl rfl (wd_le rfl) (wd_le rfl) (wd_le rfl) (wd_le rfl) (fun o w' hq => ?_)
      obtain ⟨q, e1, rfl, e3, e4⟩ := hq
      show WX _ _ _ 12 _ [] _ _ _
      exact WX.out (fun _ h => nomatch h) ⟨oFr.of0 ok e3, hO.fr0 ok e3, q, rfl⟩
  | some S =>
    cases sva with
    | none => exact absurd g5 (fun z => z)
    | some a =>
      obtain ⟨lo, Z, gs, gl, gr, s3, -⟩ := id g5
      have hWS := hWf S rfl
      have hsa := s3.1.1
      refine WW.run (pc' := 1) (lv' := [(0, .ref o)]) (st' := [.ref o]) 1 rfl ?_
      refine WW.get rfl fX1_328 g1 (show _ = some (.ref a) from rfl) ?_
      refine WW.ifnull rfl ?_
      refine WW.run (pc' := 12) (lv' := [(0, .ref o)]) (st' := [.int (nI 1)]) 2 rfl ?_
      refine WW.callS [.int (nI 1)] [] rfl mX1_254 (sO_requireState true) rfl rfl (wd_le rfl) (wd_le rfl) (wd_le rfl) (wd_le rfl) (fun o w' hq => ?_)
      obtain ⟨rfl, hw9⟩ := hq
      show WW _ _ _ 15 _ [] _
      rw [hw9]
      clear hw9 w'
      refine WW.run (pc' := 17) (lv' := [(0, .ref o)]) (st' := [.ref o, .ref o]) 2 rfl ?_
      refine WW.get rfl fX1_328 g1 (show _ = some (.ref a) from rfl) ?_
      refine WW.callV [] a [.ref o] rfl mX1_71 (cS_copy s3 hWS) (wdRecv.obj hsa rfl) rfl rfl (wd_le rfl) (wd_le rfl) (wd_le rfl) (wd_le rfl) (fun o w1 hq => ?_)
      obtain ⟨b, hb, rfl, ⟨Z2, gs2, gl2, gr2, hC⟩, fr1⟩ := hq
      show WW _ _ _ 23 _ [.ref b, .ref o] _
      have g' := g.fr0 ok fr1
      have p1 := g'.1
      have s1 : isSo G w1 hl harr b S := isSo.made hC ok g2
      have o2 := g'.putO (sva' := some a) (sv' := some S) I s1 g'.2.2.2.2.1
      have frA := oFr.of0 (inp := inp) ok fr1
      refine WW.put [.ref b, .ref hl, .ref a, .ref inp, .int (I 0), .int (I 1), .int (I 2), .int (I 3), .ref sb] rfl pfX1_10 p1 (wd_le rfl) rfl rfl rfl ?_
      have h5 : (wPut w1 0 o (.inl [.ref b, .ref hl, .ref a, .ref inp, .int (I 0), .int (I 1), .int (I 2), .int (I 3), .ref sb])).1 0 o = some (.inl [.ref b, .ref hl, .ref a, .ref inp, .int (I 0), .int (I 1), .int (I 2), .int (I 3), .ref sb]) := wPut_same _ _ _ _
      have frB : oFr inp w (wPut w1 0 o (.inl [.ref b, .ref hl, .ref a, .ref inp, .int (I 0), .int (I 1), .int (I 2), .int (I 3), .ref sb])) := frA.put (oK_no (by decide))
      replace o2 : isOx G (wPut w1 0 o (.inl [.ref b, .ref hl, .ref a, .ref inp, .int (I 0), .int (I 1), .int (I 2), .int (I 3), .ref sb])) o hl inp sb b harr hg (some a) sbarr I S hn hist (some S) ic on oc := o2
      obtain ⟨w2, hw2⟩ : ∃ z, z = (wPut w1 0 o (.inl [.ref b, .ref hl, .ref a, .ref inp, .int (I 0), .int (I 1), .int (I 2), .int (I 3), .ref sb])) := ⟨_, rfl⟩
      rw [← hw2] at o2 frB h5 ⊢
      have hL := o2.2.1
      obtain ⟨mc2, hl2⟩ := hL.1
      refine WW.ok fun ok => ?_
      replace ok : wdOk G w2 := ok
      refine WW.run (pc' := 27) (lv' := [(0, .ref o)]) (st' := [.ref o]) 1 rfl ?_
      refine WW.get rfl fX1_19 h5 (show _ = some (.ref hl) from rfl) ?_
      refine WW.callV [] hl [] rfl mX1_331 (sL_clear hL) (wdRecv.obj hl2 rfl) rfl rfl (wd_le rfl) (wd_le rfl) (wd_le rfl) (wd_le rfl) (fun o w3 hq => ?_)
      obtain ⟨rfl, hL3, k2, k3⟩ := hq
      show WW _ _ _ 33 _ [] _
      have fr2 := wFr.of k2 k3
      have o3 := o2.list ok fr2 (Or.inl rfl) (Or.inl rfl) (hist' := hist) hL3 (fun i hi => absurd hi (Nat.not_lt_zero i))
      obtain ⟨lo4, Z4, gs4, gl4, gr4, s4, -⟩ := id o3.2.2.1
      have p3 := o3.1
      have b3 := s4.1.1
      have hz := s4.2.1.2.1
      obtain ⟨mc4, hl4⟩ := hz.1
      refine WW.run (pc' := 34) (lv' := [(0, .ref o)]) (st' := [.ref o]) 1 rfl ?_
      refine WW.get rfl fX1_10 p3 (show _ = some (.ref b) from rfl) ?_
      refine WW.get rfl fX1_130 b3 (show _ = some (.ref (Z4 1)) from rfl) ?_
      refine WW.callV [] (Z4 1) [] rfl mX1_59 (sL_size hz) (wdRecv.obj hl4 rfl) rfl rfl (wd_le rfl) (wd_le rfl) (wd_le rfl) (wd_le rfl) (fun o w' hq => ?_)
      obtain ⟨rfl, hw7⟩ := hq
      show WW _ _ _ 43 _ [.int (nI S.nl)] _
      rw [hw7]
      exact WW.iret rfl rfl rfl ⟨frB.trans (oFr.list ok hL fr2), rfl, _, _, _, _, _, o3⟩
theorem cO_brightNext (h : isOf G w o hl inp sb I cur hn hist sv ic on oc) (hWf : aWf cur) : Sp l G MX1_brightNext 6 61 344 [.ref o] w (oA G o hl inp sb I cur hn hist sv ic on oc [] (.inr (.int cur.brights)) w) := by
  have hO := h
  obtain ⟨st, harr, hg, sva, sbarr, h⟩ := h
  have g := h
  obtain ⟨g1, g2, ⟨lo, Z, gs, gl, gr, g3, -⟩, g4, g5, g6, g7⟩ := h
  have hst := g3.1.1
  refine Sp.of rfl (by decide +kernel) kX1_brightNext (wd_le rfl) ?_
  refine WW.ok fun ok => ?_
  replace ok : wdOk G w := ok
  refine WW.run (pc' := 1) (lv' := [(0, .ref o)]) (st' := [.ref o]) 1 rfl ?_
  refine WW.get rfl fX1_10 g1 (show _ = some (.ref st) from rfl) ?_
  refine WW.callV [] st [] rfl mX1_71 (cS_copy g3 hWf) (wdRecv.obj hst rfl) rfl rfl (wd_le rfl) (wd_le rfl) (wd_le rfl) (wd_le rfl) (fun o w1 hq => ?_)
  obtain ⟨a, ha, rfl, ⟨Z2, gs2, gl2, gr2, hC⟩, fr1⟩ := hq
  show WW _ _ _ 7 _ [.ref a] _
  refine WW.callVN [] a [] rfl mX1_184 (cS_burn hC hWf) (wdRecv.obj hC.1.1 rfl) rfl rfl (wd_le rfl) (wd_le rfl) (wd_le rfl) (wd_le rfl) (fun o w2 hq => ?_)
  obtain ⟨rfl, hC2, fr2⟩ := hq
  have frT : wFr nP w w2 := fr1.thn fr2 (fun b hb (e : w.2 ≤ b) => by omega)
  show WW _ _ _ 10 _ [.int cur.brights] _
  exact WW.iret rfl rfl rfl ⟨oFr.of0 ok frT, hO.fr0 ok frT, rfl⟩
end
