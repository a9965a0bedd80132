set_option maxRecDepth 100000
/-! THE OFFICE IS MADE -/
section
variable {l : Launch} {G : wdG} {w : wdW}
theorem sB_init {q : Nat} (hq0 : w.1 12 q = some (.inl wdB12)) (oc : Nat → Int32) : Sp l G MJ4_init 3 1 16 [.ref q] w (fun o w' => o = .inl none ∧ (∃ arr, w.2 ≤ arr ∧ isB w' q arr 0 oc) ∧ wFr (fun b => b = q) w w') := by
  have key : Sp l G MJ3_init 2 1 16 [.ref q, .int (nI 16)] w (fun o w' => o = .inl none ∧ (∃ arr, w.2 ≤ arr ∧ isB w' q arr 0 oc) ∧ wFr (fun b => b = q) w w') := by
    refine Sp.of rfl (by decide +kernel) kJ3_init (wd_le rfl) ?_
    refine WW.ok fun ok => ?_
    replace ok : wdOk G w := ok
    have hql := (ok.1 _ _ _ hq0).2
    refine WW.run (pc' := 1) (lv' := [(0, .ref q), (1, .int (nI 16))]) (st' := [.ref q]) 1 rfl ?_
    refine WW.objInit rfl q186 q110 q111 (wd_le rfl) (wd_le rfl) ?_
    refine WW.gets rfl (List.mem_of_getElem? (i := 0) rfl) q187 ?_
    refine WW.if_eq (tgt := 25) rfl rfl (fun hno => absurd hno (by decide)) (fun _ => ?_)
    refine WW.run (pc' := 12) (lv' := [(0, .ref q), (1, .int (nI 16))]) (st' := [.int (nI 16), .ref q]) 2 rfl ?_
    refine WW.newB rfl rfl (by decide) (wd_le rfl) (wd_le rfl) (fun a ha => ?_)
    obtain ⟨v, hv⟩ : ∃ z, z = (wNew w 34 a (.inr (16, .inl (fun _ => nI 0)))) := ⟨_, rfl⟩
    rw [← hv]
    have g0 : v.1 12 q = some (.inl [.null, .int 0, .int 0, .int 0]) := by rw [hv, wNew_ne (by omega)]; exact hq0
    have e0 : v.1 34 a = some (.inr (16, .inl (fun _ => nI 0))) := by rw [hv]; exact wNew_same _ _ _ _
    have fr0 : wFr (fun b => b = q) w v := by rw [hv]; exact (wFr.refl _ _).new ha
    refine WW.put [.ref a, .int 0, .int 0, .int 0] rfl pfJ3_15_J4 g0 (wd_le rfl) rfl rfl rfl ?_
    have h1 : (wPut v 12 q (.inl [.ref a, .int 0, .int 0, .int 0])).1 12 q = some (.inl [.ref a, .int 0, .int 0, .int 0]) := wPut_same _ _ _ _
    have e1 : (wPut v 12 q (.inl [.ref a, .int 0, .int 0, .int 0])).1 34 a = some (.inr (16, .inl (fun _ => nI 0))) := (wPut_k (by decide)).trans e0
    refine WW.run (pc' := 19) (lv' := [(0, .ref q), (1, .int (nI 16))]) (st' := [.int (nI 0), .ref q]) 2 rfl ?_
    refine WW.put [.ref a, .int (nI 0), .int 0, .int 0] rfl pfJ3_22_J4 h1 (wd_le rfl) rfl rfl rfl ?_
    have h2 : (wPut (wPut v 12 q (.inl [.ref a, .int 0, .int 0, .int 0])) 12 q (.inl [.ref a, .int (nI 0), .int 0, .int 0])).1 12 q = some (.inl [.ref a, .int (nI 0), .int 0, .int 0]) := wPut_same _ _ _ _
    have e2 : (wPut (wPut v 12 q (.inl [.ref a, .int 0, .int 0, .int 0])) 12 q (.inl [.ref a, .int (nI 0), .int 0, .int 0])).1 34 a = some (.inr (16, .inl (fun _ => nI 0))) := (wPut_k (by decide)).trans e1
    refine WW.run (pc' := 38) (lv' := [(0, .ref q), (1, .int (nI 16))]) (st' := []) 1 rfl ?_
    exact WW.vret rfl rfl ⟨rfl, ⟨a, ha, 0, 16, fun _ => nI 0, h2, e2, Nat.zero_le _, by decide, fun _ _ => rfl, fun i hi => absurd hi (Nat.not_lt_zero i)⟩, (fr0.put (Or.inl rfl)).put (Or.inl rfl)⟩
  refine Sp.of rfl (by decide +kernel) kJ4_init (wd_le rfl) ?_
  refine WW.run (pc' := 3) (lv' := [(0, .ref q)]) (st' := [.int (nI 16), .ref q]) 2 rfl ?_
  refine WW.callI [.int (nI 16)] q [] rfl mJ4_1 key rfl rfl (wd_le rfl) (wd_le rfl) (wd_le rfl) (wd_le rfl) (fun o w1 hq => ?_)
  obtain ⟨rfl, h1, h2⟩ := hq
  show WW _ _ _ 6 _ [] _
  exact WW.vret rfl rfl ⟨rfl, h1, h2⟩
abbrev aS0 : aS := ((0, fun _ => (nI 0, nI 0, nI 0)), (0, fun _ => (nI 0, 0, nI 0, nI 0, false)), (0, fun _ => (0, nI 0)), nI 0, nI 0, nI 0, nI 0)
def oI0 : Nat → Int32 := fun k => match k with | 1 => -1 | 2 => -1 | _ => 0
theorem cO_init {q : Nat} (hq0 : w.1 0 q = some (.inl wdB0)) (hist : Nat → aS) (oc : Nat → Int32) : Sp l G MX1_init 6 8 120 [.ref q] w (fun o w' => o = .inl none ∧ (∃ hl inp sb, w.2 ≤ inp ∧ isOf G w' q hl inp sb oI0 aS0 0 hist none (fun _ => nI 0) 0 oc) ∧ wFr (fun b => b = q) w w') := by
  refine Sp.of rfl (by decide +kernel) kX1_init (wd_le rfl) ?_
  refine WW.ok fun ok => ?_
  replace ok : wdOk G w := ok
  have ok0 := ok
  have hql := (ok.1 _ _ _ hq0).2
  refine WW.run (pc' := 1) (lv' := [(0, .ref q)]) (st' := [.ref q]) 1 rfl ?_
  refine WW.objInit rfl q109 q110 q111 (wd_le rfl) (wd_le rfl) ?_
  refine WW.run (pc' := 5) (lv' := [(0, .ref q)]) (st' := [.ref q]) 1 rfl ?_
  refine WW.new (fs := [.null, .null, .null, .int 0, .int 0, .int 0, .int 0]) rfl kX1_7 wdBl1 (wd_le rfl) (wd_le rfl) (fun st hst => ?_)
  have ha : (wNew w 1 st (.inl [.null, .null, .null, .int 0, .int 0, .int 0, .int 0])).1 1 st = some (.inl [.null, .null, .null, .int 0, .int 0, .int 0, .int 0]) := wNew_same _ _ _ _
  refine WW.run (pc' := 9) (lv' := [(0, .ref q)]) (st' := [.ref st, .ref st, .ref q]) 1 rfl ?_
  refine WW.ok fun ok => ?_
  replace ok : wdOk G (wNew w 1 st (.inl wdB1)) := ok
  refine WW.callIN [] st [.ref st, .ref q] rfl mX1_9 (cS_init (lo := w.2) ha hst (Nat.le_succ_of_le hst) (fun _ => (nI 0, nI 0, nI 0)) (fun _ => (nI 0, 0, nI 0, nI 0, false)) (fun _ => (0, nI 0))) rfl rfl (wd_le rfl) (wd_le rfl) (wd_le rfl) (wd_le rfl) (fun o w1 hq => ?_)
  obtain ⟨rfl, ⟨Z, hS1⟩, fr1⟩ := hq
  show WW _ _ _ 12 _ [.ref st, .ref q] _
  have frA : wFr nP w w1 := (((wFr.refl nP w).new hst).thn fr1 (fun b hb (e : b = st) => by omega))
  have d1 := frA.at ok0 hq0 (fun z => z)
  refine WW.put [.ref st, .null, .null, .null, .int 0, .int 0, .int 0, .int 0, .null] rfl pfX1_10 d1 (wd_le rfl) rfl rfl rfl ?_
  have h1 : (wPut w1 0 q (.inl [.ref st, .null, .null, .null, .int 0, .int 0, .int 0, .int 0, .null])).1 0 q = some (.inl [.ref st, .null, .null, .null, .int 0, .int 0, .int 0, .int 0, .null]) := wPut_same _ _ _ _
  obtain ⟨u1, hu1⟩ : ∃ z, z = (wPut w1 0 q (.inl [.ref st, .null, .null, .null, .int 0, .int 0, .int 0, .int 0, .null])) := ⟨_, rfl⟩
  have hS2 : isS G u1 w.2 st Z Z Z Z aS0 := by rw [hu1]; exact hS1.keepK (fun k b p hp hk => (wPut_k (by rcases hk with e | e | e | e | ⟨e, -⟩ | ⟨e, -⟩ <;> omega)).trans hp)
  have frB : wFr (fun b => b = q) w u1 := by rw [hu1]; exact (frA.mono (fun _ _ z => z.elim)).put (Or.inl rfl)
  rw [← hu1] at h1 ⊢
  clear hu1
  refine WW.ok fun ok => ?_
  replace ok : wdOk G u1 := ok
  refine WW.run (pc' := 16) (lv' := [(0, .ref q)]) (st' := [.ref q]) 1 rfl ?_
  refine WW.new (fs := [.int 0, .null, .int 0]) rfl kX1_16 wdBl10 (wd_le rfl) (wd_le rfl) (fun hl hhl => ?_)
  have hb : (wNew u1 10 hl (.inl [.int 0, .null, .int 0])).1 10 hl = some (.inl [.int 0, .null, .int 0]) := wNew_same _ _ _ _
  refine WW.run (pc' := 20) (lv' := [(0, .ref q)]) (st' := [.ref hl, .ref hl, .ref q]) 1 rfl ?_
  refine WW.callI [] hl [.ref hl, .ref q] rfl mX1_18 (sL_init hb) rfl rfl (wd_le rfl) (wd_le rfl) (wd_le rfl) (wd_le rfl) (fun o w2 hq => ?_)
  obtain ⟨rfl, hw2⟩ := hq
  rw [wNew_put] at hw2
  show WW _ _ _ 23 _ [.ref hl, .ref q] _
  have fr2 : wFr nP u1 w2 := by rw [hw2]; exact (wFr.refl _ _).new hhl
  have c2 : w2.1 10 hl = some (.inl [.int (nI 0), .ref (G.2.2.2.1 0), .int 0]) := by rw [hw2]; exact wNew_same _ _ _ _
  have d2 := fr2.at ok h1 (fun z => z)
  have hS3 := hS2.fr ok fr2
  have hne : Z 0 ≠ hl ∧ Z 1 ≠ hl ∧ Z 2 ≠ hl := by
    obtain ⟨⟨m0, z0⟩, -, -⟩ := hS2.2.1.1
    obtain ⟨⟨m1, z1⟩, -, -⟩ := hS2.2.1.2.1
    obtain ⟨⟨m2, z2⟩, -, -⟩ := hS2.2.1.2.2
    have a0 := (ok.1 _ _ _ z0).2
    have a1 := (ok.1 _ _ _ z1).2
    have a2 := (ok.1 _ _ _ z2).2
    exact ⟨by omega, by omega, by omega⟩
  have hSo3 : isSo G w2 hl (G.2.2.2.1 0) st aS0 := ⟨_, Z, Z, Z, Z, hS3, hne, Or.inl rfl, Or.inl rfl, Or.inl rfl⟩
  have frC : wFr (fun b => b = q) w w2 := frB.thn0 fr2
  refine WW.putF [.ref st, .ref hl, .null, .null, .int 0, .int 0, .int 0, .int 0, .null] rfl pfX1_19 rfl d2 (wd_le rfl) rfl rfl rfl ?_
  have h2 : (wPut w2 0 q (.inl [.ref st, .ref hl, .null, .null, .int 0, .int 0, .int 0, .int 0, .null])).1 0 q = some (.inl [.ref st, .ref hl, .null, .null, .int 0, .int 0, .int 0, .int 0, .null]) := wPut_same _ _ _ _
  obtain ⟨u2, hu2⟩ : ∃ z, z = (wPut w2 0 q (.inl [.ref st, .ref hl, .null, .null, .int 0, .int 0, .int 0, .int 0, .null])) := ⟨_, rfl⟩
  have hSo4 : isSo G u2 hl (G.2.2.2.1 0) st aS0 := by rw [hu2]; exact hSo3.put (by decide)
  have c3 : u2.1 10 hl = some (.inl [.int (nI 0), .ref (G.2.2.2.1 0), .int 0]) := by rw [hu2]; exact (wPut_k (by decide)).trans c2
  have frD : wFr (fun b => b = q) w u2 := by rw [hu2]; exact frC.put (Or.inl rfl)
  rw [← hu2] at h2 ⊢
  clear hu2
  refine WW.ok fun ok => ?_
  replace ok : wdOk G u2 := ok
  refine WW.run (pc' := 29) (lv' := [(0, .ref q)]) (st' := [.int (nI 60), .ref q]) 2 rfl ?_
  refine WW.newC rfl rfl (by decide) (wd_le rfl) (wd_le rfl) (fun inp hinp => ?_)
  obtain ⟨w3, hw3⟩ : ∃ z, z = (wNew u2 33 inp (.inr (60, .inl (fun _ => nI 0)))) := ⟨_, rfl⟩
  rw [← hw3]
  have fr3 : wFr nP u2 w3 := by rw [hw3]; exact (wFr.refl _ _).new hinp
  have i3 : w3.1 33 inp = some (.inr (60, .inl (fun _ => nI 0))) := by rw [hw3]; exact wNew_same _ _ _ _
  have d3 := fr3.at ok h2 (fun z => z)
  have c4 := fr3.at ok c3 (fun z => z)
  have hSo5 := hSo4.fr0 ok fr3
  have frE : wFr (fun b => b = q) w w3 := frD.thn0 fr3
  have hinp0 : w.2 ≤ inp := Nat.le_trans frD.2 hinp
  refine WW.putF [.ref st, .ref hl, .null, .ref inp, .int 0, .int 0, .int 0, .int 0, .null] rfl pfX1_23 rfl d3 (wd_le rfl) rfl rfl rfl ?_
  have h3 : (wPut w3 0 q (.inl [.ref st, .ref hl, .null, .ref inp, .int 0, .int 0, .int 0, .int 0, .null])).1 0 q = some (.inl [.ref st, .ref hl, .null, .ref inp, .int 0, .int 0, .int 0, .int 0, .null]) := wPut_same _ _ _ _
  refine WW.run (pc' := 36) (lv' := [(0, .ref q)]) (st' := [.int (-1), .ref q]) 2 rfl ?_
  refine WW.put [.ref st, .ref hl, .null, .ref inp, .int 0, .int (-1), .int 0, .int 0, .null] rfl pfX1_27 h3 (wd_le rfl) rfl rfl rfl ?_
  have h4 : (wPut (wPut w3 0 q (.inl [.ref st, .ref hl, .null, .ref inp, .int 0, .int 0, .int 0, .int 0, .null])) 0 q (.inl [.ref st, .ref hl, .null, .ref inp, .int 0, .int (-1), .int 0, .int 0, .null])).1 0 q = some (.inl [.ref st, .ref hl, .null, .ref inp, .int 0, .int (-1), .int 0, .int 0, .null]) := wPut_same _ _ _ _
  refine WW.run (pc' := 41) (lv' := [(0, .ref q)]) (st' := [.int (-1), .ref q]) 2 rfl ?_
  refine WW.put [.ref st, .ref hl, .null, .ref inp, .int 0, .int (-1), .int (-1), .int 0, .null] rfl pfX1_31 h4 (wd_le rfl) rfl rfl rfl ?_
  have h5 : (wPut (wPut (wPut w3 0 q (.inl [.ref st, .ref hl, .null, .ref inp, .int 0, .int 0, .int 0, .int 0, .null])) 0 q (.inl [.ref st, .ref hl, .null, .ref inp, .int 0, .int (-1), .int 0, .int 0, .null])) 0 q (.inl [.ref st, .ref hl, .null, .ref inp, .int 0, .int (-1), .int (-1), .int 0, .null])).1 0 q = some (.inl [.ref st, .ref hl, .null, .ref inp, .int 0, .int (-1), .int (-1), .int 0, .null]) := wPut_same _ _ _ _
  obtain ⟨u3, hu3⟩ : ∃ z, z = (wPut (wPut (wPut w3 0 q (.inl [.ref st, .ref hl, .null, .ref inp, .int 0, .int 0, .int 0, .int 0, .null])) 0 q (.inl [.ref st, .ref hl, .null, .ref inp, .int 0, .int (-1), .int 0, .int 0, .null])) 0 q (.inl [.ref st, .ref hl, .null, .ref inp, .int 0, .int (-1), .int (-1), .int 0, .null])) := ⟨_, rfl⟩
  have hSo6 : isSo G u3 hl (G.2.2.2.1 0) st aS0 := by rw [hu3]; exact ((hSo5.put (by decide)).put (by decide)).put (by decide)
  have c5 : u3.1 10 hl = some (.inl [.int (nI 0), .ref (G.2.2.2.1 0), .int 0]) := by rw [hu3]; exact (wPut_k (by decide)).trans ((wPut_k (by decide)).trans ((wPut_k (by decide)).trans c4))
  have i4 : u3.1 33 inp = some (.inr (60, .inl (fun _ => nI 0))) := by rw [hu3]; exact (wPut_k (by decide)).trans ((wPut_k (by decide)).trans ((wPut_k (by decide)).trans i3))
  have frF : wFr (fun b => b = q) w u3 := by rw [hu3]; exact ((frE.put (Or.inl rfl)).put (Or.inl rfl)).put (Or.inl rfl)
  rw [← hu3] at h5 ⊢
  clear hu3
  refine WW.ok fun ok => ?_
  replace ok : wdOk G u3 := ok
  refine WW.run (pc' := 45) (lv' := [(0, .ref q)]) (st' := [.ref q]) 1 rfl ?_
  refine WW.new (fs := [.null, .int 0, .int 0, .int 0]) rfl kX1_34 wdBl12 (wd_le rfl) (wd_le rfl) (fun sb hsb => ?_)
  have hd : (wNew u3 12 sb (.inl [.null, .int 0, .int 0, .int 0])).1 12 sb = some (.inl [.null, .int 0, .int 0, .int 0]) := wNew_same _ _ _ _
  have frN : wFr nP u3 (wNew u3 12 sb (.inl wdB12)) := (wFr.refl _ _).new hsb
  have okN := ok
  refine WW.ok fun ok => ?_
  replace ok : wdOk G (wNew u3 12 sb (.inl wdB12)) := ok
  refine WW.run (pc' := 49) (lv' := [(0, .ref q)]) (st' := [.ref sb, .ref sb, .ref q]) 1 rfl ?_
  refine WW.callI [] sb [.ref sb, .ref q] rfl mX1_36 (sB_init hd oc) rfl rfl (wd_le rfl) (wd_le rfl) (wd_le rfl) (wd_le rfl) (fun o w4 hq => ?_)
  obtain ⟨rfl, ⟨arr, harr, hB⟩, fr4⟩ := hq
  show WW _ _ _ 52 _ [.ref sb, .ref q] _
  have fr5 : wFr nP u3 w4 := frN.thn fr4 (fun b hb (e : b = sb) => by omega)
  have d6 := fr5.at okN h5 (fun z => z)
  have c6 := fr5.at okN c5 (fun z => z)
  have i6 := fr5.at okN i4 (fun z => z)
  have hSo7 := hSo6.fr0 okN fr5
  have frG : wFr (fun b => b = q) w w4 := frF.thn0 fr5
  refine WW.putF [.ref st, .ref hl, .null, .ref inp, .int 0, .int (-1), .int (-1), .int 0, .ref sb] rfl pfX1_37 rfl d6 (wd_le rfl) rfl rfl rfl ?_
  have h6 : (wPut w4 0 q (.inl [.ref st, .ref hl, .null, .ref inp, .int 0, .int (-1), .int (-1), .int 0, .ref sb])).1 0 q = some (.inl [.ref st, .ref hl, .null, .ref inp, .int 0, .int (-1), .int (-1), .int 0, .ref sb]) := wPut_same _ _ _ _
  exact WW.vret rfl rfl ⟨rfl, ⟨hl, inp, sb, hinp0, st, G.2.2.2.1 0, fun _ => 0, none, arr, h6, isL.empty ((wPut_k (by decide)).trans c6) _, hSo7.put (by decide), fun i hi => absurd hi (Nat.not_lt_zero i), trivial, (wPut_k (by decide)).trans i6, hB.to (fun p hp => (wPut_k (by decide)).trans hp) (fun p hp => (wPut_k (by decide)).trans hp)⟩, frG.put (Or.inl rfl)⟩
end
