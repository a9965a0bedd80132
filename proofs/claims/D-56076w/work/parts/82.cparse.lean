set_option maxRecDepth 100000
/-! THE COMPONENT'S PARSER -/
def yO (o p : Nat) (v : kV) : List Value := [.int (nI p), .int v.1, .int v.2.1, .int v.2.2, .ref o]
def yI (w : wdW) (o inp n : Nat) (ic : Nat → Int32) : Prop := (n ≤ 60 ∧ ∀ j, j < n → narrow .char (.int (ic j)) = .int (ic j)) ∧ (∃ x0 x1 x2 x5 x6 x7 x8, w.1 0 o = some (.inl [x0, x1, x2, .ref inp, .int (nI n), x5, x6, x7, x8])) ∧ w.1 33 inp = some (.inr (60, .inl ic))
/-- what the parser's methods leave alone -/
def wFq (pa : Nat) (w w' : wdW) : Prop := (∀ a, a < w.2 → a ≠ pa → ∀ k, w'.1 k a = w.1 k a) ∧ w.2 ≤ w'.2
theorem wFq.refl (pa : Nat) (w : wdW) : wFq pa w w := ⟨fun _ _ _ _ => rfl, Nat.le_refl _⟩
theorem wFq.trans {pa : Nat} {w w1 w2 : wdW} (h : wFq pa w w1) (h' : wFq pa w1 w2) : wFq pa w w2 := ⟨fun a ha hp k => (h'.1 a (Nat.lt_of_lt_of_le ha h.2) hp k).trans (h.1 a ha hp k), Nat.le_trans h.2 h'.2⟩
theorem wFq.put {pa : Nat} {w w' : wdW} (h : wFq pa w w') {k : Nat} {p : wdPay} : wFq pa w (wPut w' k pa p) := ⟨fun b hb hn k' => (wPut_ne hn).trans (h.1 b hb hn k'), h.2⟩
theorem wFq.new {pa : Nat} {w w' : wdW} (h : wFq pa w w') {k q : Nat} {p : wdPay} (hq : w'.2 ≤ q) : wFq pa w (wNew w' k q p) := ⟨fun b hb hn k' => (wNew_ne (fun e => by
  have := h.2
  omega)).trans (h.1 b hb hn k'), Nat.le_trans h.2 (by show w'.2 ≤ q + 1; omega)⟩
theorem wFq.at {pa : Nat} {G : wdG} {w w' : wdW} (h : wFq pa w w') (ok : wdOk G w) {k a : Nat} {p : wdPay} (hp : w.1 k a = some p) (hn : a ≠ pa) : w'.1 k a = some p := (h.1 a (ok.1 _ _ _ hp).2 hn k).trans hp
def yE (G : wdG) (pa e : Nat) (w : wdW) : wdO → wdW → Prop := fun q w' => ∃ x, w.2 ≤ x ∧ q = .inr (RX10, x) ∧ w'.1 8 x = some (.inl (wdEp10 G (nI e))) ∧ wFq pa w w'
theorem yE.put {G : wdG} {pa e k : Nat} {p : wdPay} {w w' : wdW} {q : wdO} (h : yE G pa e (wPut w k pa p) q w') : yE G pa e w q w' := by
  obtain ⟨x, h1, h2, h3, h4⟩ := h
  exact ⟨x, h1, h2, h3, fun a ha hn k' => (h4.1 a ha hn k').trans (wPut_ne hn), h4.2⟩
theorem yI.put {w : wdW} {o inp n pa : Nat} {ic : Nat → Int32} {p : wdPay} (h : yI w o inp n ic) : yI (wPut w 7 pa p) o inp n ic := by
  obtain ⟨h1, ⟨x0, x1, x2, x5, x6, x7, x8, h2⟩, h3⟩ := h
  exact ⟨h1, ⟨x0, x1, x2, x5, x6, x7, x8, (wPut_k (by decide)).trans h2⟩, (wPut_k (by decide)).trans h3⟩
theorem lk_if {x : Int32} {k : Nat} (hk : k < 200) {α : Type} (a b : α) : (if (k : Int) = x.toInt then a else b) = if x = nI k then a else b := by
  have h2 : (nI k).toInt = (k : Int) := nI_toInt (by omega)
  rw [← h2]
  by_cases h : x = nI k
  · rw [if_pos h, if_pos (by rw [h])]
  · rw [if_neg h, if_neg (fun q => h (Int32.toInt_inj.mp q).symm)]
theorem kw_off (x : Int32) : Op.lookupswitch.offset [((100 : Int), (75 : Int)), (108, 51), (111, 69), (114, 72), (119, 78)] 81 x.toInt = if x = nI 100 then 75 else if x = nI 108 then 51 else if x = nI 111 then 69 else if x = nI 114 then 72 else if x = nI 119 then 78 else 81 := by
  rw [Op.lookupswitch.offset_cons, Op.lookupswitch.offset_cons, Op.lookupswitch.offset_cons, Op.lookupswitch.offset_cons, Op.lookupswitch.offset_cons, Op.lookupswitch.offset_nil]
  rw [← lk_if (k := 100) (by decide), ← lk_if (k := 108) (by decide), ← lk_if (k := 111) (by decide), ← lk_if (k := 114) (by decide), ← lk_if (k := 119) (by decide)]
  rfl
section
variable {l : Launch} {G : wdG} {w : wdW} {o inp n pa p : Nat} {ic : Nat → Int32} {v : kV}
theorem sY_sees (h : yI w o inp n ic) (hP : w.1 7 pa = some (.inl (yO o p v))) (hp : p ≤ 60) (lo hi : Int32) : SpR l G MX8_sees 1 [.ref pa, .int lo, .int hi] w (.int (bI (kAt ic n p lo hi))) := by
  obtain ⟨⟨hn, hch⟩, ⟨x0, x1, x2, x5, x6, x7, x8, hO⟩, hI⟩ := h
  refine Sp.of rfl (by decide +kernel) kX8_sees (wd_le rfl) ?_
  refine WW.run (pc' := 1) (lv' := [(0, .ref pa), (1, .int lo), (2, .int hi)]) (st' := [.ref pa]) 1 rfl ?_
  refine WW.get rfl fX8_13 hP (show _ = some (.int (nI p)) from rfl) ?_
  refine WW.run (pc' := 5) (lv' := [(0, .ref pa), (1, .int lo), (2, .int hi)]) (st' := [.ref pa, .int (nI p)]) 1 rfl ?_
  refine WW.get rfl fX8_1 hP (show _ = some (.ref o) from rfl) ?_
  refine WW.get rfl fX8_17 hO (show _ = some (.int (nI n)) from rfl) ?_
  by_cases hpn : p < n
  · have hb : Nat.blt p n = true := Nat.blt_eq.mpr hpn
    refine WW.icmp_ge (tgt := 38) rfl rfl (fun hno => absurd hno (nI_ge hpn (by omega))) (fun _ => ?_)
    refine WW.run (pc' := 15) (lv' := [(0, .ref pa), (1, .int lo), (2, .int hi)]) (st' := [.ref pa]) 1 rfl ?_
    refine WW.get rfl fX8_1 hP (show _ = some (.ref o) from rfl) ?_
    refine WW.get rfl fX8_22 hO (show _ = some (.ref inp) from rfl) ?_
    refine WW.run (pc' := 22) (lv' := [(0, .ref pa), (1, .int lo), (2, .int hi)]) (st' := [.ref pa, .ref inp]) 1 rfl ?_
    refine WW.get rfl fX8_13 hP (show _ = some (.int (nI p)) from rfl) ?_
    refine WW.caldN p rfl hI rfl (by omega) (by decide) rfl ?_
    refine WW.run (pc' := 28) (lv' := [(0, .ref pa), (1, .int lo), (2, .int hi)]) (st' := [.int hi, .int lo, .int (ic p)]) 2 rfl ?_
    refine WW.callSN [.int (ic p), .int lo, .int hi] [] rfl mX8_26 (sO_between (ic p) lo hi) rfl rfl (wd_le rfl) (wd_le rfl) (wd_le rfl) (wd_le rfl) (fun o w' hq => ?_)
    obtain ⟨rfl, hw9⟩ := hq
    show WW _ _ _ 31 _ [.int (bI (inR (ic p) lo hi))] _
    rw [hw9]
    clear hw9 w'
    have e1 : kAt ic n p lo hi = inR (ic p) lo hi := by show (Nat.blt p n && _) = _; rw [hb]; rfl
    cases hc : inR (ic p) lo hi with
    | false =>
      refine WW.if_eq (tgt := 38) rfl rfl (fun _ => ?_) (fun hno => absurd rfl hno)
      refine WW.run (pc' := 39) (lv' := [(0, .ref pa), (1, .int lo), (2, .int hi)]) (st' := [.int (nI 0)]) 1 rfl ?_
      exact WW.iret rfl rfl rfl ⟨by rw [e1, hc]; rfl, rfl⟩
    | true =>
      refine WW.if_eq (tgt := 38) rfl rfl (fun hno => absurd hno (by decide)) (fun _ => ?_)
      refine WW.run (pc' := 39) (lv' := [(0, .ref pa), (1, .int lo), (2, .int hi)]) (st' := [.int (nI 1)]) 2 rfl ?_
      exact WW.iret rfl rfl rfl ⟨by rw [e1, hc]; rfl, rfl⟩
  · have hb : Nat.blt p n = false := by cases h9 : Nat.blt p n with | false => rfl | true => exact absurd (Nat.blt_eq.mp h9) hpn
    refine WW.icmp_ge (tgt := 38) rfl rfl (fun _ => ?_) (fun hno => absurd (nI_le (Nat.le_of_not_lt hpn) (by omega)) hno)
    refine WW.run (pc' := 39) (lv' := [(0, .ref pa), (1, .int lo), (2, .int hi)]) (st' := [.int (nI 0)]) 1 rfl ?_
    exact WW.iret rfl rfl rfl ⟨by show _ = Sum.inl (some (Value.int (bI (Nat.blt p n && _)))); rw [hb]; rfl, rfl⟩
theorem sY_peek (h : yI w o inp n ic) (hP : w.1 7 pa = some (.inl (yO o p v))) (hp : p ≤ 60) {i : Nat} (hi : i < 9) : SpR l G MX8_peek 0 [.ref pa, .int (nI i)] w (.int (kPk ic n (p + i))) := by
  obtain ⟨⟨hn, hch⟩, ⟨x0, x1, x2, x5, x6, x7, x8, hO⟩, hI⟩ := h
  refine Sp.of rfl (by decide +kernel) kX8_peek (wd_le rfl) ?_
  refine WW.run (pc' := 1) (lv' := [(0, .ref pa), (1, .int (nI i))]) (st' := [.ref pa]) 1 rfl ?_
  refine WW.get rfl fX8_13 hP (show _ = some (.int (nI p)) from rfl) ?_
  refine WW.run (pc' := 7) (lv' := [(0, .ref pa), (1, .int (nI i))]) (st' := [.ref pa, .int ((nI p) + (nI i))]) 3 rfl ?_
  refine WW.get rfl fX8_1 hP (show _ = some (.ref o) from rfl) ?_
  refine WW.get rfl fX8_17 hO (show _ = some (.int (nI n)) from rfl) ?_
  rw [nI_add]
  by_cases hpn : p + i < n
  · have hb : Nat.blt (p + i) n = true := Nat.blt_eq.mpr hpn
    refine WW.icmp_ge (tgt := 33) rfl rfl (fun hno => absurd hno (nI_ge hpn (by omega))) (fun _ => ?_)
    refine WW.run (pc' := 17) (lv' := [(0, .ref pa), (1, .int (nI i))]) (st' := [.ref pa]) 1 rfl ?_
    refine WW.get rfl fX8_1 hP (show _ = some (.ref o) from rfl) ?_
    refine WW.get rfl fX8_22 hO (show _ = some (.ref inp) from rfl) ?_
    refine WW.run (pc' := 24) (lv' := [(0, .ref pa), (1, .int (nI i))]) (st' := [.ref pa, .ref inp]) 1 rfl ?_
    refine WW.get rfl fX8_13 hP (show _ = some (.int (nI p)) from rfl) ?_
    refine WW.run (pc' := 29) (lv' := [(0, .ref pa), (1, .int (nI i))]) (st' := [.int ((nI p) + (nI i)), .ref inp]) 2 rfl ?_
    refine WW.caldN (p + i) rfl hI (wn_add rfl rfl) (by omega) (by decide) rfl ?_
    refine WW.run (pc' := 35) (lv' := [(0, .ref pa), (1, .int (nI i))]) (st' := [.int (ic (p + i))]) 1 rfl ?_
    exact WW.iret rfl rfl (hch _ hpn) ⟨by show _ = Sum.inl (some (Value.int (bif Nat.blt (p + i) n then _ else _))); rw [hb]; rfl, rfl⟩
  · have hb : Nat.blt (p + i) n = false := by cases h9 : Nat.blt (p + i) n with | false => rfl | true => exact absurd (Nat.blt_eq.mp h9) hpn
    refine WW.icmp_ge (tgt := 33) rfl rfl (fun _ => ?_) (fun hno => absurd (nI_le (Nat.le_of_not_lt hpn) (by omega)) hno)
    refine WW.run (pc' := 35) (lv' := [(0, .ref pa), (1, .int (nI i))]) (st' := [.int (nI 32)]) 1 rfl ?_
    exact WW.iret rfl rfl rfl ⟨by show _ = Sum.inl (some (Value.int (bif Nat.blt (p + i) n then _ else _))); rw [hb]; rfl, rfl⟩
theorem sY_next (h : yI w o inp n ic) (hP : w.1 7 pa = some (.inl (yO o p v))) (hp : p ≤ 60) (lo hi : Int32) : Sp l G MX8_next 8 1 12 [.ref pa, .int lo, .int hi] w (fun q w' => bif kAt ic n p lo hi then q = .inl (some (.int (ic p))) ∧ w' = wPut w 7 pa (.inl (yO o (p + 1) v)) else yE G pa p w q w') := by
  have h0 := h
  obtain ⟨⟨hn, hch⟩, ⟨x0, x1, x2, x5, x6, x7, x8, hO⟩, hI⟩ := h
  refine Sp.of rfl (by decide +kernel) kX8_next (wd_le rfl) ?_
  refine WW.ok fun ok => ?_
  replace ok : wdOk G w := ok
  refine WW.run (pc' := 3) (lv' := [(0, .ref pa), (1, .int lo), (2, .int hi)]) (st' := [.int hi, .int lo, .ref pa]) 3 rfl ?_
  refine WW.callV [.int lo, .int hi] pa [] rfl mX8_30 (sY_sees h0 hP hp lo hi) (wdRecv.obj hP rfl) rfl rfl (wd_le rfl) (wd_le rfl) (wd_le rfl) (wd_le rfl) (fun o w' hq => ?_)
  obtain ⟨rfl, hw9⟩ := hq
  show WW _ _ _ 6 _ [.int (bI (kAt ic n p lo hi))] _
  rw [hw9]
  clear hw9 w'
  cases hc : kAt ic n p lo hi with
  | true =>
    refine WW.if_ne (tgt := 21) rfl rfl (fun _ => ?_) (fun hno => absurd hno (by decide))
    refine WW.run (pc' := 23) (lv' := [(0, .ref pa), (1, .int lo), (2, .int hi)]) (st' := [.ref pa, .ref pa]) 2 rfl ?_
    refine WW.get rfl fX8_13 hP (show _ = some (.int (nI p)) from rfl) ?_
    refine WW.run (pc' := 28) (lv' := [(0, .ref pa), (1, .int lo), (2, .int hi)]) (st' := [.int ((nI p) + (nI 1)), .ref pa]) 2 rfl ?_
    rw [nI_add]
    refine WW.put [.int (nI (p + 1)), .int v.1, .int v.2.1, .int v.2.2, .ref o] rfl pfX8_13 hP (wd_le rfl) rfl rfl rfl ?_
    have h1 : (wPut w 7 pa (.inl [.int (nI (p + 1)), .int v.1, .int v.2.1, .int v.2.2, .ref o])).1 7 pa = some (.inl [.int (nI (p + 1)), .int v.1, .int v.2.1, .int v.2.2, .ref o]) := wPut_same _ _ _ _
    have hO1 := (wPut_k (w := w) (k := 7) (a := pa) (p := .inl (yO o (p + 1) v)) (by decide : (0 : Nat) ≠ 7)).trans hO
    have hI1 := (wPut_k (w := w) (k := 7) (a := pa) (p := .inl (yO o (p + 1) v)) (by decide : (33 : Nat) ≠ 7)).trans hI
    refine WW.run (pc' := 32) (lv' := [(0, .ref pa), (1, .int lo), (2, .int hi)]) (st' := [.ref pa]) 1 rfl ?_
    refine WW.get rfl fX8_1 h1 (show _ = some (.ref o) from rfl) ?_
    refine WW.get rfl fX8_22 hO1 (show _ = some (.ref inp) from rfl) ?_
    refine WW.run (pc' := 39) (lv' := [(0, .ref pa), (1, .int lo), (2, .int hi)]) (st' := [.ref pa, .ref inp]) 1 rfl ?_
    refine WW.get rfl fX8_13 h1 (show _ = some (.int (nI (p + 1))) from rfl) ?_
    refine WW.run (pc' := 44) (lv' := [(0, .ref pa), (1, .int lo), (2, .int hi)]) (st' := [.int ((nI (p + 1)) - (nI 1)), .ref inp]) 2 rfl ?_
    refine WW.caldN p rfl hI1 (wn_sub rfl rfl (Nat.le_add_left 1 p)) (by have := kAt_lt hc; omega) (by decide) rfl ?_
    exact WW.iret rfl rfl (hch _ (kAt_lt hc)) ⟨rfl, rfl⟩
  | false =>
    refine WW.if_ne (tgt := 21) rfl rfl (fun hno => absurd (by decide) hno) (fun _ => ?_)
    refine WW.new (fs := [.null, .null, .null, .null, .null, .int 0, .int 0]) rfl kX8_34 wdBl8 (wd_le rfl) (wd_le rfl) (fun q hq => ?_)
    have hb : (wNew w 8 q (.inl [.null, .null, .null, .null, .null, .int 0, .int 0])).1 8 q = some (.inl [.null, .null, .null, .null, .null, .int 0, .int 0]) := wNew_same _ _ _ _
    have e1 : (wNew w 8 q (.inl wdE0)).1 7 pa = some (.inl (yO o p v)) := (wPut_k (by decide)).trans hP
    refine WW.run (pc' := 14) (lv' := [(0, .ref pa), (1, .int lo), (2, .int hi)]) (st' := [.ref pa, .ref q, .ref q]) 2 rfl ?_
    refine WW.get rfl fX8_13 e1 (show _ = some (.int (nI p)) from rfl) ?_
    refine WW.callI [.int (nI p)] q [.ref q] rfl mX8_36 (sF_init10 hb (nI p)) rfl rfl (wd_le rfl) (wd_le rfl) (wd_le rfl) (wd_le rfl) (fun o w' hq => ?_)
    obtain ⟨rfl, hw9⟩ := hq
    show WW _ _ _ 20 _ [.ref q] _
    rw [hw9]
    clear hw9 w'
    rw [wNew_put]
    have e2 : (wNew w 8 q (.inl (wdEp10 G (nI p)))).1 8 q = some (.inl (wdEp10 G (nI p))) := wNew_same _ _ _ _
    refine WW.athrow rfl e2 rfl ?_
    exact WX.out (fun _ h => nomatch h) ⟨q, hq, rfl, e2, (wFq.refl _ _).new hq⟩
end
