set_option maxRecDepth 100000
/-! THE OFFICE: going back, saving, feeding -/
section
variable {G : wdG} {l : Launch} {w : wdW} {hl : Nat} {o inp sb : Nat} {I : Nat → Int32} {cur : aS} {hn : Nat} {hist : Nat → aS} {sv : Option aS} {ic : Nat → Int32} {on : Nat} {oc : Nat → Int32}
theorem cO_undoCount (h : isOf G w o hl inp sb I cur hn hist sv ic on oc) : Sp l G MX1_undoCount 1 0 0 [.ref o] w (oA G o hl inp sb I cur hn hist sv ic on oc [] (.inr (.int (nI hn))) w) := by
  have hO := h
  obtain ⟨st, harr, hg, sva, sbarr, h⟩ := h
  obtain ⟨g1, g2, g3, g4, g5, g6, g7⟩ := h
  obtain ⟨mc0, hl0⟩ := g2.1
  refine Sp.of rfl (by decide +kernel) kX1_undoCount (wd_le rfl) ?_
  refine WW.run (pc' := 1) (lv' := [(0, .ref o)]) (st' := [.ref o]) 1 rfl ?_
  refine WW.get rfl fX1_19 g1 (show _ = some (.ref hl) from rfl) ?_
  refine WW.callV [] hl [] rfl mX1_59 (sL_size g2) (wdRecv.obj hl0 rfl) rfl rfl (wd_le rfl) (wd_le rfl) (wd_le rfl) (wd_le rfl) (fun o w' hq => ?_)
  obtain ⟨rfl, hw9⟩ := hq
  show WW _ _ _ 7 _ [.int (nI hn)] _
  rw [hw9]
  clear hw9 w'
  exact WW.iret rfl rfl rfl ⟨oFr.refl _ _, hO, rfl⟩
theorem cO_request (h : isOf G w o hl inp sb I cur hn hist sv ic on oc) (hWf : aWf cur) (x : Int32) : Sp l G MX1_request 7 1 6 [.ref o, .int x] w (fun q w' => bif cur.ixR x then ∃ b, q = .inl (some (.ref b)) ∧ w' = w ∧ w.1 6 b = some (.inl (rqF (cur.rq (tn x)))) else tQ nP 16 w q w') := by
  obtain ⟨st, harr, hg, sva, sbarr, h⟩ := h
  obtain ⟨g1, g2, ⟨lo, Z, gs, gl, gr, g3, -⟩, g4, g5, g6, g7⟩ := h
  have hst := g3.1.1
  have hz := g3.2.1.2.2
  obtain ⟨mc0, hl0⟩ := hz.1
  refine Sp.of rfl (by decide +kernel) kX1_request (wd_le rfl) ?_
  refine WW.run (pc' := 3) (lv' := [(0, .ref o), (1, .int x)]) (st' := [.ref o, .int (nI 0), .int x]) 3 rfl ?_
  refine WW.get rfl fX1_10 g1 (show _ = some (.ref st) from rfl) ?_
  refine WW.get rfl fX1_200 hst (show _ = some (.ref (Z 2)) from rfl) ?_
  refine WW.callV [] (Z 2) [.int (nI 0), .int x] rfl mX1_59 (sL_size hz) (wdRecv.obj hl0 rfl) rfl rfl (wd_le rfl) (wd_le rfl) (wd_le rfl) (wd_le rfl) (fun o w' hq => ?_)
  obtain ⟨rfl, hw9⟩ := hq
  show WW _ _ _ 12 _ [.int (nI cur.nr), .int (nI 0), .int x] _
  rw [hw9]
  clear hw9 w'
  refine WW.run (pc' := 14) (lv' := [(0, .ref o), (1, .int x)]) (st' := [.int ((nI cur.nr) - (nI 1)), .int (nI 0), .int x]) 2 rfl ?_
  refine WW.callS [.int x, .int (nI 0), .int ((nI cur.nr) - (nI 1))] [] rfl mX1_203 (sO_between x (nI 0) (nI cur.nr - nI 1)) rfl rfl (wd_le rfl) (wd_le rfl) (wd_le rfl) (wd_le rfl) (fun o w' hq => ?_)
  obtain ⟨rfl, hw9⟩ := hq
  show WW _ _ _ 17 _ [.int (bI (cur.ixR x))] _
  rw [hw9]
  clear hw9 w'
  refine WW.callS [.int (bI (cur.ixR x))] [] rfl mX1_171 (sO_requireElement (cur.ixR x)) rfl rfl (wd_le rfl) (wd_le rfl) (wd_le rfl) (wd_le rfl) (fun o w' hq => ?_)
  cases hc : (cur.ixR x) with
  | false =>
    rw [hc] at hq
    obtain ⟨q, g2, rfl, g3, g4⟩ := hq
    show WX _ _ _ 17 _ [] _ _ _
    exact WX.out (fun _ h => nomatch h) ⟨q, g2, rfl, g3, g4⟩
  | true =>
  rw [hc] at hq
  obtain ⟨rfl, hw9⟩ := hq
  show WW _ _ _ 20 _ [] _
  rw [hw9]
  clear hw9 w'
  obtain ⟨j, hj, rfl, tx⟩ := hWf.ixR hc
  have hrq := g3.2.2.2.2.2 j hj
  refine WW.run (pc' := 21) (lv' := [(0, .ref o), (1, .int (nI j))]) (st' := [.ref o]) 1 rfl ?_
  refine WW.get rfl fX1_10 g1 (show _ = some (.ref st) from rfl) ?_
  refine WW.get rfl fX1_200 hst (show _ = some (.ref (Z 2)) from rfl) ?_
  refine WW.run (pc' := 28) (lv' := [(0, .ref o), (1, .int (nI j))]) (st' := [.int (nI j), .ref (Z 2)]) 1 rfl ?_
  refine WW.callV [.int (nI j)] (Z 2) [] rfl mX1_207 (sL_get hz hj) (wdRecv.obj hl0 rfl) rfl rfl (wd_le rfl) (wd_le rfl) (wd_le rfl) (wd_le rfl) (fun o w' hq => ?_)
  obtain ⟨rfl, hw9⟩ := hq
  show WW _ _ _ 31 _ [.ref (gr j)] _
  rw [hw9]
  clear hw9 w'
  refine WW.castY rfl hrq rfl lX1_210 (Or.inl rfl) ?_
  exact WW.aret rfl rfl (Or.inl ⟨_, rfl⟩) (Or.inr ⟨_, rfl⟩) ⟨gr j, rfl, rfl, by rw [tx]; exact hrq⟩
theorem cO_requestedLamp (h : isOf G w o hl inp sb I cur hn hist sv ic on oc) (hWf : aWf cur) (x : Int32) : Sp l G MX1_requestedLamp 8 1 6 [.ref o, .int x] w (oA G o hl inp sb I cur hn hist sv ic on oc [16] (bif cur.ixR x then .inr (.int (nI (cur.rq (tn x)).1)) else .inl 1) w) := by
  have hO := h
  obtain ⟨st, harr, hg, sva, sbarr, h⟩ := h
  have g1 := h.1
  refine Sp.of rfl (by decide +kernel) kX1_requestedLamp (wd_le rfl) ?_
  refine WW.ok fun ok => ?_
  replace ok : wdOk G w := ok
  refine WW.run (pc' := 2) (lv' := [(0, .ref o), (1, .int x)]) (st' := [.int x, .ref o]) 2 rfl ?_
  refine WW.callV [.int x] o [] rfl mX1_212 (cO_request hO hWf x) (wdRecv.obj g1 rfl) rfl rfl (wd_le rfl) (wd_le rfl) (wd_le rfl) (wd_le rfl) (fun o w' hq => ?_)
  cases hx : cur.ixR x with
  | false =>
    rw [hx] at hq
    obtain ⟨q, e1, rfl, e3, e4⟩ := hq
    show WX _ _ _ 2 _ [] _ _ _
    exact WX.out (fun _ h => nomatch h) ⟨oFr.of0 ok e3, hO.fr0 ok e3, 16, q, rfl, rfl⟩
  | true =>
    rw [hx] at hq
    obtain ⟨b, rfl, hw9, hb⟩ := hq
    show WW _ _ _ 5 _ [.ref b] _
    rw [hw9]
    clear hw9 w'
    refine WW.get rfl fX1_215 hb (show _ = some (.int (nI (cur.rq (tn x)).1)) from rfl) ?_
    exact WW.iret rfl rfl rfl ⟨oFr.refl _ _, hO, rfl⟩
theorem cO_requestedHours (h : isOf G w o hl inp sb I cur hn hist sv ic on oc) (hWf : aWf cur) (x : Int32) : Sp l G MX1_requestedHours 8 1 6 [.ref o, .int x] w (oA G o hl inp sb I cur hn hist sv ic on oc [16] (bif cur.ixR x then .inr (.int ((cur.rq (tn x)).2)) else .inl 1) w) := by
  have hO := h
  obtain ⟨st, harr, hg, sva, sbarr, h⟩ := h
  have g1 := h.1
  refine Sp.of rfl (by decide +kernel) kX1_requestedHours (wd_le rfl) ?_
  refine WW.ok fun ok => ?_
  replace ok : wdOk G w := ok
  refine WW.run (pc' := 2) (lv' := [(0, .ref o), (1, .int x)]) (st' := [.int x, .ref o]) 2 rfl ?_
  refine WW.callV [.int x] o [] rfl mX1_212 (cO_request hO hWf x) (wdRecv.obj g1 rfl) rfl rfl (wd_le rfl) (wd_le rfl) (wd_le rfl) (wd_le rfl) (fun o w' hq => ?_)
  cases hx : cur.ixR x with
  | false =>
    rw [hx] at hq
    obtain ⟨q, e1, rfl, e3, e4⟩ := hq
    show WX _ _ _ 2 _ [] _ _ _
    exact WX.out (fun _ h => nomatch h) ⟨oFr.of0 ok e3, hO.fr0 ok e3, 16, q, rfl, rfl⟩
  | true =>
    rw [hx] at hq
    obtain ⟨b, rfl, hw9, hb⟩ := hq
    show WW _ _ _ 5 _ [.ref b] _
    rw [hw9]
    clear hw9 w'
    refine WW.get rfl fX1_217 hb (show _ = some (.int ((cur.rq (tn x)).2)) from rfl) ?_
    exact WW.iret rfl rfl rfl ⟨oFr.refl _ _, hO, rfl⟩
theorem cO_errorPosition (h : isOf G w o hl inp sb I cur hn hist sv ic on oc) : Sp l G MX1_errorPosition 7 1 6 [.ref o] w (oA G o hl inp sb I cur hn hist sv ic on oc [16] (bif decide (I 1 = -1) then .inl 1 else .inr (.int (I 1))) w) := by
  have hO := h
  obtain ⟨st, harr, hg, sva, sbarr, h⟩ := h
  have g1 := h.1
  refine Sp.of rfl (by decide +kernel) kX1_errorPosition (wd_le rfl) ?_
  refine WW.ok fun ok => ?_
  replace ok : wdOk G w := ok
  refine WW.run (pc' := 1) (lv' := [(0, .ref o)]) (st' := [.ref o]) 1 rfl ?_
  refine WW.get rfl fX1_27 g1 (show _ = some (.int (I 1)) from rfl) ?_
  refine WW.run (pc' := 5) (lv' := [(0, .ref o)]) (st' := [.int (-1), .int (I 1)]) 1 rfl ?_
  refine WW.join (pc' := 13) (lv' := [(0, .ref o)]) (st' := [.int (bI (!decide (I 1 = -1)))]) ?_ ?_
  rotate_left
  · cases hb : (decide (I 1 = -1)) with
    | false =>
      intro H
      refine WW.icmp_eq (tgt := 12) rfl rfl (fun hno => absurd hno (of_decide_eq_false hb)) (fun _ => ?_)
      refine WW.run (pc' := 13) (lv' := [(0, .ref o)]) (st' := [.int (nI 1)]) 2 rfl ?_
      exact H
    | true =>
      intro H
      refine WW.icmp_eq (tgt := 12) rfl rfl (fun _ => ?_) (fun hno => absurd (of_decide_eq_true hb) hno)
      refine WW.run (pc' := 13) (lv' := [(0, .ref o)]) (st' := [.int (nI 0)]) 1 rfl ?_
      exact H
  generalize decide (I 1 = -1) = bb
  refine WW.callS [.int (bI (!bb))] [] rfl mX1_171 (sO_requireElement (!bb)) rfl rfl (wd_le rfl) (wd_le rfl) (wd_le rfl) (wd_le rfl) (fun o w' hq => ?_)
  cases bb with
  | true =>
    obtain ⟨q, e1, rfl, e3, e4⟩ := hq
    show WX _ _ _ 13 _ [] _ _ _
    exact WX.out (fun _ h => nomatch h) ⟨oFr.of0 ok e3, hO.fr0 ok e3, 16, q, rfl, rfl⟩
  | false =>
    obtain ⟨rfl, hw9⟩ := hq
    show WW _ _ _ 16 _ [] _
    rw [hw9]
    clear hw9 w'
    refine WW.run (pc' := 17) (lv' := [(0, .ref o)]) (st' := [.ref o]) 1 rfl ?_
    refine WW.get rfl fX1_27 g1 (show _ = some (.int (I 1)) from rfl) ?_
    exact WW.iret rfl rfl rfl ⟨oFr.refl _ _, hO, rfl⟩
theorem cO_failedCommand (h : isOf G w o hl inp sb I cur hn hist sv ic on oc) : Sp l G MX1_failedCommand 7 1 6 [.ref o] w (oA G o hl inp sb I cur hn hist sv ic on oc [16] (bif decide (I 2 = -1) then .inl 1 else .inr (.int (I 2))) w) := by
  have hO := h
  obtain ⟨st, harr, hg, sva, sbarr, h⟩ := h
  have g1 := h.1
  refine Sp.of rfl (by decide +kernel) kX1_failedCommand (wd_le rfl) ?_
  refine WW.ok fun ok => ?_
  replace ok : wdOk G w := ok
  refine WW.run (pc' := 1) (lv' := [(0, .ref o)]) (st' := [.ref o]) 1 rfl ?_
  refine WW.get rfl fX1_31 g1 (show _ = some (.int (I 2)) from rfl) ?_
  refine WW.run (pc' := 5) (lv' := [(0, .ref o)]) (st' := [.int (-1), .int (I 2)]) 1 rfl ?_
  refine WW.join (pc' := 13) (lv' := [(0, .ref o)]) (st' := [.int (bI (!decide (I 2 = -1)))]) ?_ ?_
  rotate_left
  · cases hb : (decide (I 2 = -1)) with
    | false =>
      intro H
      refine WW.icmp_eq (tgt := 12) rfl rfl (fun hno => absurd hno (of_decide_eq_false hb)) (fun _ => ?_)
      refine WW.run (pc' := 13) (lv' := [(0, .ref o)]) (st' := [.int (nI 1)]) 2 rfl ?_
      exact H
    | true =>
      intro H
      refine WW.icmp_eq (tgt := 12) rfl rfl (fun _ => ?_) (fun hno => absurd (of_decide_eq_true hb) hno)
      refine WW.run (pc' := 13) (lv' := [(0, .ref o)]) (st' := [.int (nI 0)]) 1 rfl ?_
      exact H
  generalize decide (I 2 = -1) = bb
  refine WW.callS [.int (bI (!bb))] [] rfl mX1_171 (sO_requireElement (!bb)) rfl rfl (wd_le rfl) (wd_le rfl) (wd_le rfl) (wd_le rfl) (fun o w' hq => ?_)
  cases bb with
  | true =>
    obtain ⟨q, e1, rfl, e3, e4⟩ := hq
    show WX _ _ _ 13 _ [] _ _ _
    exact WX.out (fun _ h => nomatch h) ⟨oFr.of0 ok e3, hO.fr0 ok e3, 16, q, rfl, rfl⟩
  | false =>
    obtain ⟨rfl, hw9⟩ := hq
    show WW _ _ _ 16 _ [] _
    rw [hw9]
    clear hw9 w'
    refine WW.run (pc' := 17) (lv' := [(0, .ref o)]) (st' := [.ref o]) 1 rfl ?_
    refine WW.get rfl fX1_31 g1 (show _ = some (.int (I 2)) from rfl) ?_
    exact WW.iret rfl rfl rfl ⟨oFr.refl _ _, hO, rfl⟩
theorem cO_failureReason (h : isOf G w o hl inp sb I cur hn hist sv ic on oc) (hch : narrow .char (.int (I 3)) = .int (I 3)) : Sp l G MX1_failureReason 7 1 6 [.ref o] w (oA G o hl inp sb I cur hn hist sv ic on oc [16] (bif decide (I 2 = -1) then .inl 1 else .inr (.int (I 3))) w) := by
  have hO := h
  obtain ⟨st, harr, hg, sva, sbarr, h⟩ := h
  have g1 := h.1
  refine Sp.of rfl (by decide +kernel) kX1_failureReason (wd_le rfl) ?_
  refine WW.ok fun ok => ?_
  replace ok : wdOk G w := ok
  refine WW.run (pc' := 1) (lv' := [(0, .ref o)]) (st' := [.ref o]) 1 rfl ?_
  refine WW.get rfl fX1_31 g1 (show _ = some (.int (I 2)) from rfl) ?_
  refine WW.run (pc' := 5) (lv' := [(0, .ref o)]) (st' := [.int (-1), .int (I 2)]) 1 rfl ?_
  refine WW.join (pc' := 13) (lv' := [(0, .ref o)]) (st' := [.int (bI (!decide (I 2 = -1)))]) ?_ ?_
  rotate_left
  · cases hb : (decide (I 2 = -1)) with
    | false =>
      intro H
      refine WW.icmp_eq (tgt := 12) rfl rfl (fun hno => absurd hno (of_decide_eq_false hb)) (fun _ => ?_)
      refine WW.run (pc' := 13) (lv' := [(0, .ref o)]) (st' := [.int (nI 1)]) 2 rfl ?_
      exact H
    | true =>
      intro H
      refine WW.icmp_eq (tgt := 12) rfl rfl (fun _ => ?_) (fun hno => absurd (of_decide_eq_true hb) hno)
      refine WW.run (pc' := 13) (lv' := [(0, .ref o)]) (st' := [.int (nI 0)]) 1 rfl ?_
      exact H
  generalize decide (I 2 = -1) = bb
  refine WW.callS [.int (bI (!bb))] [] rfl mX1_171 (sO_requireElement (!bb)) rfl rfl (wd_le rfl) (wd_le rfl) (wd_le rfl) (wd_le rfl) (fun o w' hq => ?_)
  cases bb with
  | true =>
    obtain ⟨q, e1, rfl, e3, e4⟩ := hq
    show WX _ _ _ 13 _ [] _ _ _
    exact WX.out (fun _ h => nomatch h) ⟨oFr.of0 ok e3, hO.fr0 ok e3, 16, q, rfl, rfl⟩
  | false =>
    obtain ⟨rfl, hw9⟩ := hq
    show WW _ _ _ 16 _ [] _
    rw [hw9]
    clear hw9 w'
    refine WW.run (pc' := 17) (lv' := [(0, .ref o)]) (st' := [.ref o]) 1 rfl ?_
    refine WW.get rfl fX1_275 g1 (show _ = some (.int (I 3)) from rfl) ?_
    exact WW.iret rfl rfl hch ⟨oFr.refl _ _, hO, rfl⟩
theorem cO_feed {n : Nat} (h : isOf G w o hl inp sb I cur hn hist sv ic on oc) (hI : I 0 = nI n) (hn60 : n ≤ 60) (c : Int32) (hc : vp_nar .char c = c) : Sp l G MX1_feed 7 1 6 [.ref o, .int c] w (fun q w' => oFr inp w w' ∧ if n < 60 then q = .inl (some (.int (nI (n + 1)))) ∧ isOf G w' o hl inp sb (va_up I 0 (nI (n + 1))) cur hn hist sv (va_up ic n c) on oc else isOf G w' o hl inp sb I cur hn hist sv ic on oc ∧ ∃ x, q = .inr (eN 15, x)) := by
  have hO := h
  obtain ⟨st, harr, hg, sva, sbarr, h⟩ := h
  have g := h
  obtain ⟨g1, g2, g3, g4, g5, g6, g7⟩ := h
  rw [hI] at g1
  refine Sp.of rfl (by decide +kernel) kX1_feed (wd_le rfl) ?_
  refine WW.ok fun ok => ?_
  replace ok : wdOk G w := ok
  refine WW.run (pc' := 1) (lv' := [(0, .ref o), (1, .int c)]) (st' := [.ref o]) 1 rfl ?_
  refine WW.get rfl fX1_251 g1 (show _ = some (.int (nI n)) from rfl) ?_
  refine WW.run (pc' := 6) (lv' := [(0, .ref o), (1, .int c)]) (st' := [.int (nI 60), .int (nI n)]) 1 rfl ?_
  refine WW.join (pc' := 14) (lv' := [(0, .ref o), (1, .int c)]) (st' := [.int (bI (decide (n < 60)))]) ?_ (fun H => ?_)
  rotate_left
  · skip
    by_cases e : n < 60
    · skip
      refine WW.icmp_ge (tgt := 13) rfl rfl (fun hno => absurd hno (nI_ge e (by decide))) (fun _ => ?_)
      refine WW.run (pc' := 14) (lv' := [(0, .ref o), (1, .int c)]) (st' := [.int (nI 1)]) 2 rfl ?_
      rw [decide_eq_true e] at H
      exact H
    · skip
      refine WW.icmp_ge (tgt := 13) rfl rfl (fun _ => ?_) (fun hno => absurd (nI_le (by omega) (by omega)) hno)
      refine WW.run (pc' := 14) (lv' := [(0, .ref o), (1, .int c)]) (st' := [.int (nI 0)]) 1 rfl ?_
      rw [decide_eq_false e] at H
      exact H
  refine WW.callS [.int (bI (decide (n < 60)))] [] rfl mX1_254 (sO_requireState (decide (n < 60))) rfl rfl (wd_le rfl) (wd_le rfl) (wd_le rfl) (wd_le rfl) (fun o w' hq => ?_)
  by_cases e : n < 60
  · skip
    rw [decide_eq_true e] at hq
    obtain ⟨rfl, hw9⟩ := hq
    show WW _ _ _ 17 _ [] _
    rw [hw9]
    clear hw9 w'
    refine WW.run (pc' := 18) (lv' := [(0, .ref o), (1, .int c)]) (st' := [.ref o]) 1 rfl ?_
    refine WW.get rfl fX1_23 g1 (show _ = some (.ref inp) from rfl) ?_
    refine WW.run (pc' := 22) (lv' := [(0, .ref o), (1, .int c)]) (st' := [.ref o, .ref inp]) 1 rfl ?_
    refine WW.get rfl fX1_251 g1 (show _ = some (.int (nI n)) from rfl) ?_
    refine WW.run (pc' := 26) (lv' := [(0, .ref o), (1, .int c)]) (st' := [.int c, .int (nI n), .ref inp]) 1 rfl ?_
    refine WW.cast_ (f' := va_up ic n c) rfl g6 (vp_in_nI e (by decide)) (by rw [nI_clamp (by omega), hc]; rfl) ?_
    have p1 : (wPut w 33 inp (.inr (60, .inl (va_up ic n c)))).1 0 o = some (.inl [.ref st, .ref hl, va_rf sva, .ref inp, .int (nI n), .int (I 1), .int (I 2), .int (I 3), .ref sb]) := (wPut_k (by decide)).trans g1
    have o1 : isOx G (wPut w 33 inp (.inr (60, .inl (va_up ic n c)))) o hl inp sb st harr hg sva sbarr I cur hn hist sv (va_up ic n c) on oc := by
      have kk : (33 : Nat) ≠ 1 ∧ (33 : Nat) ≠ 3 ∧ (33 : Nat) ≠ 4 ∧ (33 : Nat) ≠ 6 ∧ (33 : Nat) ≠ 10 ∧ (33 : Nat) ≠ 37 := by decide
      refine ⟨(wPut_k (by decide)).trans g.1, g2.to (fun p hp => (wPut_k (by decide)).trans hp) (fun p hp => (wPut_k (by decide)).trans hp), g3.put kk, fun i hi => (g4 i hi).put kk, ?_, wPut_same _ _ _ _, g7.to (fun p hp => (wPut_k (by decide)).trans hp) (fun p hp => (wPut_k (by decide)).trans hp)⟩
      cases sva <;> cases sv <;> first | exact g5 | exact isSo.put g5 kk
    have fr1 : oFr inp w (wPut w 33 inp (.inr (60, .inl (va_up ic n c)))) := (oFr.refl _ _).put (fun q => by rcases q with q | q | q | q | ⟨-, q⟩ <;> first | cases q | exact q rfl)
    generalize wPut w 33 inp (.inr (60, .inl (va_up ic n c))) = w1 at p1 o1 fr1
    have o2 := o1.putO (va_up I 0 (nI (n + 1))) o1.2.2.1 o1.2.2.2.2.1
    refine WW.run (pc' := 29) (lv' := [(0, .ref o), (1, .int c)]) (st' := [.ref o, .ref o]) 2 rfl ?_
    refine WW.get rfl fX1_251 p1 (show _ = some (.int (nI n)) from rfl) ?_
    refine WW.run (pc' := 34) (lv' := [(0, .ref o), (1, .int c)]) (st' := [.int ((nI n) + (nI 1)), .ref o]) 2 rfl ?_
    refine WW.put [.ref st, .ref hl, va_rf sva, .ref inp, .int ((nI n) + (nI 1)), .int (I 1), .int (I 2), .int (I 3), .ref sb] rfl pfX1_251 p1 (wd_le rfl) rfl rfl rfl ?_
    have h2 : (wPut w1 0 o (.inl [.ref st, .ref hl, va_rf sva, .ref inp, .int ((nI n) + (nI 1)), .int (I 1), .int (I 2), .int (I 3), .ref sb])).1 0 o = some (.inl [.ref st, .ref hl, va_rf sva, .ref inp, .int ((nI n) + (nI 1)), .int (I 1), .int (I 2), .int (I 3), .ref sb]) := wPut_same _ _ _ _
    refine WW.run (pc' := 38) (lv' := [(0, .ref o), (1, .int c)]) (st' := [.ref o]) 1 rfl ?_
    refine WW.get rfl fX1_251 h2 (show _ = some (.int ((nI n) + (nI 1))) from rfl) ?_
    rw [nI_add]
    exact WW.iret rfl rfl rfl ⟨fr1.put (oK_no (by decide)), by rw [if_pos e]; exact ⟨rfl, _, _, _, _, _, o2⟩⟩
  · skip
    rw [decide_eq_false e] at hq
    obtain ⟨q, e1, rfl, e3, e4⟩ := hq
    show WX _ _ _ 14 _ [] _ _ _
    exact WX.out (fun _ h => nomatch h) ⟨oFr.of0 ok e3, by rw [if_neg e]; exact ⟨hO.fr0 ok e3, q, rfl⟩⟩
end
