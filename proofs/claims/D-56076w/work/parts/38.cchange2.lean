set_option maxRecDepth 100000
section
variable {l : Launch} {G : wdG} {w : wdW} {lo a : Nat} {Z gs gl gr : Nat → Nat} {S : aS}
theorem cS_request (hS : isS G w lo a Z gs gl gr S) (hW : aWf S) (hlw : lo ≤ w.2) (y h : Int32) : Sp l G MX2_request 9 8 60 [.ref a, .int y, .int h] w (cQ G lo a [13, 14, 16, 15] (S.doReq y h) w) := by
  refine Sp.of rfl (by decide +kernel) kX2_request (wd_le rfl) ?_
  refine WW.ok fun ok => ?_
  replace ok : wdOk G w := ok
  have h1 := hS.1.1
  have h9 := hW.2.2.1
  have h8 := hW.2.1
  obtain ⟨r, hr⟩ : ∃ r, r = S.doReq y h := ⟨_, rfl⟩
  rw [← hr]
  unfold aS.doReq at hr
  refine WW.run (pc' := 2) (lv' := [(0, .ref a), (1, .int y), (2, .int h)]) (st' := [.int y, .ref a]) 2 rfl ?_
  refine WW.callV [.int y] a [] rfl mX2_85 (cS_lamp hS hW y) (wdRecv.obj h1 rfl) rfl rfl (wd_le rfl) (wd_le rfl) (wd_le rfl) (wd_le rfl) (fun o w' hq => ?_)
  cases hx : S.ixL y with
  | false =>
    rw [hx] at hq hr
    subst hr
    obtain ⟨q, g2, rfl, g3, g4⟩ := hq
    show WX _ _ _ 2 _ [] _ _ _
    exact WX.out (fun _ h => nomatch h) (cQ.thr (G := G) (a := a) rfl ⟨q, g2, rfl, g3, g4⟩)
  | true =>
  rw [hx] at hq hr
  obtain ⟨rfl, hw9⟩ := hq
  obtain ⟨i, hi, rfl, ty⟩ := hW.ixL hx
  rw [ty] at hr
  show WW _ _ _ 5 _ [.ref (gl (tn (nI i)))] _
  rw [hw9]
  clear hw9 w'
  have h1 := hS.1.1
  refine WW.run (pc' := 10) (lv' := [(0, .ref a), (1, .int (nI i)), (2, .int h)]) (st' := [.int (nI 24), .int (nI 1), .int h]) 4 rfl ?_
  refine WW.callSN [.int h, .int (nI 1), .int (nI 24)] [] rfl mX2_73 (sO_between h (nI 1) (nI 24)) rfl rfl (wd_le rfl) (wd_le rfl) (wd_le rfl) (wd_le rfl) (fun o w' hq => ?_)
  obtain ⟨rfl, hw9⟩ := hq
  show WW _ _ _ 13 _ [.int (bI (inR h (nI 1) (nI 24)))] _
  rw [hw9]
  clear hw9 w'
  refine WW.callSN [.int (bI (inR h (nI 1) (nI 24)))] [] rfl mX2_108 (sO_requireArgument (inR h (nI 1) (nI 24))) rfl rfl (wd_le rfl) (wd_le rfl) (wd_le rfl) (wd_le rfl) (fun o w' hq => ?_)
  cases hc : (inR h (nI 1) (nI 24)) with
  | false =>
    rw [hc] at hq
    try rw [hc] at hr
    try subst hr
    obtain ⟨q, g2, rfl, g3, g4⟩ := hq
    show WX _ _ _ 13 _ [] _ _ _
    exact WX.out (fun _ h => nomatch h) (cQ.thr (G := G) (a := a) rfl ⟨q, g2, rfl, g3, g4⟩)
  | true =>
  rw [hc] at hq
  try rw [hc] at hr
  obtain ⟨rfl, hw9⟩ := hq
  show WW _ _ _ 16 _ [] _
  rw [hw9]
  clear hw9 w'
  refine WW.run (pc' := 18) (lv' := [(0, .ref a), (1, .int (nI i)), (2, .int h)]) (st' := [.int (nI i), .ref a]) 2 rfl ?_
  refine WW.callV [.int (nI i)] a [] rfl mX2_136 (cS_leasedLamp hS hW (nI i)) (wdRecv.obj h1 rfl) rfl rfl (wd_le rfl) (wd_le rfl) (wd_le rfl) (wd_le rfl) (fun o w' hq => ?_)
  rw [hx, ty] at hq
  cases hb : Nat.blt 0 (S.la i).le with
  | false =>
    rw [hb] at hq hr
    subst hr
    obtain ⟨q, g2, rfl, g3, g4⟩ := hq
    show WX _ _ _ 18 _ [] _ _ _
    exact WX.out (fun _ h => nomatch h) (cQ.thr (G := G) (a := a) rfl ⟨q, g2, rfl, g3, g4⟩)
  | true =>
  rw [hb] at hq hr
  obtain ⟨rfl, hw9⟩ := hq
  show WW _ _ _ 21 _ [.ref (gl i)] _
  rw [hw9]
  clear hw9 w'
  have h1 := hS.1.1
  refine WW.run (pc' := 24) (lv' := [(0, .ref a), (1, .int (nI i)), (2, .int h)]) (st' := [.int (nI i), .ref a]) 3 rfl ?_
  refine WW.callV [.int (nI i)] a [] rfl mX2_139 (cS_isRequested hS hW (x := i) (by omega)) (wdRecv.obj h1 rfl) rfl rfl (wd_le rfl) (wd_le rfl) (wd_le rfl) (wd_le rfl) (fun o u hq => ?_)
  obtain ⟨rfl, fr0⟩ := hq
  show WW _ _ _ 27 _ [.int (bI (S.isReq i))] _
  have hS0 := hS.fr ok fr0
  replace hr : r = bif S.isReq i then .inl 4 else .inr (nI S.nr, S.wRq (S.nr + 1) (va_up S.rq S.nr (i, h))) := hr
  refine WW.join (pc' := 35) (lv' := [(0, .ref a), (1, .int (nI i)), (2, .int h)]) (st' := [.int (bI (!S.isReq i))]) ?_ ?_
  rotate_left
  · cases hb : (S.isReq i) with
    | false =>
      intro H
      refine WW.if_ne (tgt := 34) rfl rfl (fun hno => absurd rfl hno) (fun _ => ?_)
      refine WW.run (pc' := 35) (lv' := [(0, .ref a), (1, .int (nI i)), (2, .int h)]) (st' := [.int (nI 1)]) 2 rfl ?_
      exact H
    | true =>
      intro H
      refine WW.if_ne (tgt := 34) rfl rfl (fun _ => ?_) (fun hno => absurd hno (by decide))
      refine WW.run (pc' := 35) (lv' := [(0, .ref a), (1, .int (nI i)), (2, .int h)]) (st' := [.int (nI 0)]) 1 rfl ?_
      exact H
  have hthr : ∀ {q : Nat} {w' : wdW}, u.2 ≤ q → wFr nP u w' → w'.1 15 q = some (.inl []) → cQ G lo a [13, 14, 16, 15] (.inl 4) w (.inr (eN 15, q)) w' := fun g2 g3 g4 => ⟨15, rfl, tQ.thn ⟨_, g2, rfl, g3, g4⟩ (fr0.mono (fun _ _ z => absurd z (fun z => z))) (fun _ _ z => absurd z (fun z => z))⟩
  rw [show (bif S.isReq i then (Sum.inl 4 : aR) else .inr (nI S.nr, S.wRq (S.nr + 1) (va_up S.rq S.nr (i, h)))) = bif !S.isReq i then .inr (nI S.nr, S.wRq (S.nr + 1) (va_up S.rq S.nr (i, h))) else .inl 4 from by cases S.isReq i <;> rfl] at hr
  refine WW.callSN [.int (bI (!S.isReq i))] [] rfl mX2_104 (sO_requireState (!S.isReq i)) rfl rfl (wd_le rfl) (wd_le rfl) (wd_le rfl) (wd_le rfl) (fun o w' hq => ?_)
  cases hc : (!S.isReq i) with
  | false =>
    rw [hc] at hq
    try rw [hc] at hr
    try subst hr
    obtain ⟨q, g2, rfl, g3, g4⟩ := hq
    show WX _ _ _ 35 _ [] _ _ _
    exact WX.out (fun _ h => nomatch h) (hthr g2 g3 g4)
  | true =>
  rw [hc] at hq
  try rw [hc] at hr
  obtain ⟨rfl, hw9⟩ := hq
  show WW _ _ _ 38 _ [] _
  rw [hw9]
  clear hw9 w'
  subst hr
  have hnr : S.nr < 8 := hW.few hi (find_none (by
    have e := find_isReq S i S.nr
    have e2 : S.isReq i = false := by simpa using hc
    rw [show aAny (fun k => (S.rq k).1 == i) S.nr = false from e2] at e
    cases hf : S.find i S.nr with
    | none => rfl
    | some k => rw [hf] at e; cases e))
  have hl := hS0.2.1.2.2
  have h1 := hS0.1.1
  have ok00 := ok
  refine WW.ok fun ok => ?_
  replace ok : wdOk G u := ok
  refine WW.run (pc' := 39) (lv' := [(0, .ref a), (1, .int (nI i)), (2, .int h)]) (st' := [.ref a]) 1 rfl ?_
  refine WW.get rfl fX2_21 h1 (show _ = some (.ref (Z 2)) from rfl) ?_
  refine WW.new (fs := [.int 0, .int 0]) rfl kX2_54 wdBl6 (wd_le rfl) (wd_le rfl) (fun q hq => ?_)
  have ha : (wNew u 6 q (.inl [.int 0, .int 0])).1 6 q = some (.inl [.int 0, .int 0]) := wNew_same _ _ _ _
  refine WW.run (pc' := 48) (lv' := [(0, .ref a), (1, .int (nI i)), (2, .int h)]) (st' := [.int h, .int (nI i), .ref q, .ref q, .ref (Z 2)]) 3 rfl ?_
  refine WW.callI [.int (nI i), .int h] q [.ref q, .ref (Z 2)] rfl mX2_142 (sR_init ha i h) rfl rfl (wd_le rfl) (wd_le rfl) (wd_le rfl) (wd_le rfl) (fun o w1 hq => ?_)
  obtain ⟨rfl, hw8⟩ := hq
  show WW _ _ _ 51 _ [.ref q, .ref (Z 2)] _
  rw [wNew_put] at hw8
  have hq2 : u.2 ≤ q := ‹_›
  have fr1 : wFr nP u w1 := by rw [hw8]; exact (wFr.refl _ _).new hq2
  have hS1 := hS0.fr ok fr1
  have hq1 : w1.1 6 q = some (.inl (rqF (i, h))) := by rw [hw8]; exact wNew_same _ _ _ _
  have hl1 := hS1.2.1.2.2
  obtain ⟨mc1, hl01⟩ := hl1.1
  have ok0 := ok
  refine WW.ok fun ok => ?_
  replace ok : wdOk G w1 := ok
  refine WW.callV [.ref q] (Z 2) [] rfl mX2_45 (sL_add (x := q) ⟨6, _, _, hq1, rfl, by decide, by decide, nq2219⟩ hl1 (by omega)) (wdRecv.obj hl01 rfl) rfl rfl (wd_le rfl) (wd_le rfl) (wd_le rfl) (wd_le rfl) (fun o w' hq => ?_)
  obtain ⟨arr', rfl, hz, hz0, hL, fr2⟩ := hq
  show WW _ _ _ 54 _ [.int 1] _
  have hq3 := fr2.keepO ok hl1 hq1 (by decide) (by decide)
  have hS2 := hS1.pushRq ok hL hz hz0 fr2 hq3 (Nat.le_trans (Nat.le_trans hlw fr0.2) fr1.2)
  have hl2 := hS2.2.1.2.2
  obtain ⟨mc2, hl02⟩ := hl2.1
  replace h1 := hS2.1.1
  refine WW.run (pc' := 56) (lv' := [(0, .ref a), (1, .int (nI i)), (2, .int h)]) (st' := [.ref a]) 2 rfl ?_
  refine WW.get rfl fX2_21 h1 (show _ = some (.ref (Z 2)) from rfl) ?_
  refine WW.callV [] (Z 2) [] rfl mX2_69 (sL_size hl2) (wdRecv.obj hl02 rfl) rfl rfl (wd_le rfl) (wd_le rfl) (wd_le rfl) (wd_le rfl) (fun o w' hq => ?_)
  obtain ⟨rfl, hw7⟩ := hq
  show WW _ _ _ 62 _ [.int (nI (S.nr + 1))] _
  rw [hw7]
  refine WW.run (pc' := 64) (lv' := [(0, .ref a), (1, .int (nI i)), (2, .int h)]) (st' := [.int ((nI (S.nr + 1)) - (nI 1))]) 2 rfl ?_
  rw [(wn_sub rfl rfl (by omega) : nI (S.nr + 1) - nI 1 = nI (S.nr + 1 - 1))]
  exact WW.iret rfl rfl rfl ⟨rfl, ⟨_, _, _, _, hS2⟩, (((fr0.thn0 fr1).mono (fun _ _ z => absurd z (fun z => z))).thn fr2 (fun b _ hb => hS.lP2 hb) : wFr (hP lo) w _)⟩
theorem nI_m1 (k : Nat) : nI k + -1 = nI k - nI 1 := by
  rw [show (-1 : Int32) = -(nI 1) from by decide, Int32.sub_eq_add_neg]
theorem cS_endSkip {u : wdW} {Q : wdO → wdW → Prop} {i m : Nat} (hS : isS G u lo a Z gs gl gr S) (hn : S.nr ≤ 8) (hb : ∀ j, j < S.nr → (S.rq j).1 < 8) (hi : i < 8) (kk : WW (l, G, MX2_endLease, 3, 0, 0, Q) 0 0 25 [(2, .int (nI m - nI 1)), (0, .ref a), (1, .int (nI i))] [] u) : ∀ k, m ≤ k → k ≤ S.nr → (∀ j, m ≤ j → j < k → (S.rq j).1 ≠ i) → WW (l, G, MX2_endLease, 3, 0, 0, Q) 0 0 25 [(2, .int (nI k - nI 1)), (0, .ref a), (1, .int (nI i))] [] u := by
  intro k
  induction k with
  | zero =>
    intro h1 h2 h3
    have : m = 0 := by omega
    subst this
    exact kk
  | succ k ih =>
    intro h1 h2 h3
    by_cases e : m = k + 1
    · subst e; exact kk
    have ih' := ih (by omega) (by omega) (fun j hj hj' => h3 j hj (by omega))
    have hl := hS.2.1.2.2
    obtain ⟨mc0, hl0⟩ := hl.1
    have hrq := hS.2.2.2.2.2 k (by omega)
    have hk8 := hb k (by omega)
    rw [(wn_sub rfl rfl (by omega) : nI (k + 1) - nI 1 = nI k)]
    have h1 := hS.1.1
    refine WW.run (pc' := 26) (lv' := [(2, .int (nI k)), (0, .ref a), (1, .int (nI i))]) (st' := [.int (nI k)]) 1 rfl ?_
    refine WW.if_lt (tgt := 62) rfl rfl (fun hno => absurd hno (nI_pos (by omega))) (fun _ => ?_)
    refine WW.run (pc' := 30) (lv' := [(2, .int (nI k)), (0, .ref a), (1, .int (nI i))]) (st' := [.ref a]) 1 rfl ?_
    refine WW.get rfl fX2_21 h1 (show _ = some (.ref (Z 2)) from rfl) ?_
    refine WW.run (pc' := 34) (lv' := [(2, .int (nI k)), (0, .ref a), (1, .int (nI i))]) (st' := [.int (nI k), .ref (Z 2)]) 1 rfl ?_
    refine WW.callV [.int (nI k)] (Z 2) [] rfl mX2_81 (sL_get hl (show k < S.nr by omega)) (wdRecv.obj hl0 rfl) rfl rfl (wd_le rfl) (wd_le rfl) (wd_le rfl) (wd_le rfl) (fun o w' hq => ?_)
    obtain ⟨rfl, hw9⟩ := hq
    show WW _ _ _ 37 _ [.ref (gr k)] _
    rw [hw9]
    clear hw9 w'
    refine WW.castY rfl hrq rfl lX2_54 (Or.inl rfl) ?_
    refine WW.get rfl fX2_102 hrq (show _ = some (.int (nI (S.rq k).1)) from rfl) ?_
    refine WW.run (pc' := 44) (lv' := [(2, .int (nI k)), (0, .ref a), (1, .int (nI i))]) (st' := [.int (nI i), .int (nI (S.rq k).1)]) 1 rfl ?_
    refine WW.icmp_ne (tgt := 56) rfl rfl (fun _ => ?_) (fun hno => absurd hno (by rw [nI_eq (by omega) (by omega)]; exact h3 k (by omega) (by omega)))
    refine WW.run (pc' := 25) (lv' := [(2, .int ((nI k) + -1)), (0, .ref a), (1, .int (nI i))]) (st' := []) 2 rfl ?_
    rw [nI_m1]
    exact ih'
theorem cS_endLease (hS : isS G w lo a Z gs gl gr S) (hW : aWf S) {i : Nat} (hi : i < S.nl) : Sp l G MX2_endLease 3 0 0 [.ref a, .int (nI i)] w (fun o w' => o = .inl none ∧ (∃ gr', isS G w' lo a Z gs gl gr' (S.frees i)) ∧ wFr (hP lo) w w') := by
  refine Sp.of rfl (by decide +kernel) kX2_endLease (wd_le rfl) ?_
  refine WW.ok fun ok => ?_
  replace ok : wdOk G w := ok
  have h1 := hS.1.1
  have hl := hS.2.1.2.1
  obtain ⟨mc0, hl0⟩ := hl.1
  have hla := (hS.2.2.2.2.1.1 i hi).1
  have hlo := (hS.2.2.2.2.1.1 i hi).2
  refine WW.run (pc' := 1) (lv' := [(0, .ref a), (1, .int (nI i))]) (st' := [.ref a]) 1 rfl ?_
  refine WW.get rfl fX2_18 h1 (show _ = some (.ref (Z 1)) from rfl) ?_
  refine WW.run (pc' := 5) (lv' := [(0, .ref a), (1, .int (nI i))]) (st' := [.int (nI i), .ref (Z 1)]) 1 rfl ?_
  refine WW.callV [.int (nI i)] (Z 1) [] rfl mX2_81 (sL_get hl hi) (wdRecv.obj hl0 rfl) rfl rfl (wd_le rfl) (wd_le rfl) (wd_le rfl) (wd_le rfl) (fun o w' hq => ?_)
  obtain ⟨rfl, hw9⟩ := hq
  show WW _ _ _ 8 _ [.ref (gl i)] _
  rw [hw9]
  clear hw9 w'
  refine WW.castY rfl hla rfl lX2_49 (Or.inl rfl) ?_
  refine WW.run (pc' := 12) (lv' := [(0, .ref a), (1, .int (nI i))]) (st' := [.int (-1), .ref (gl i)]) 1 rfl ?_
  refine WW.put [.int ((S.la i).1), .int (-1), .int ((S.la i).2.2.1), .int ((S.la i).2.2.2.1), .int (bI (S.la i).2.2.2.2)] rfl pfX2_130 hla (wd_le rfl) rfl rfl rfl ?_
  have hb : (wPut w 4 (gl i) (.inl [.int ((S.la i).1), .int (-1), .int ((S.la i).2.2.1), .int ((S.la i).2.2.2.1), .int (bI (S.la i).2.2.2.2)])).1 4 (gl i) = some (.inl [.int ((S.la i).1), .int (-1), .int ((S.la i).2.2.1), .int ((S.la i).2.2.2.1), .int (bI (S.la i).2.2.2.2)]) := wPut_same _ _ _ _
  have hS1 : isS G (wPut w 4 (gl i) (.inl [.int ((S.la i).1), .int (-1), .int ((S.la i).2.2.1), .int ((S.la i).2.2.2.1), .int (bI (S.la i).2.2.2.2)])) lo a Z gs gl gr (S.wLa i ((S.la i).lv, 0, (S.la i).en, (S.la i).br, (S.la i).was)) := hS.putLa hi ((S.la i).lv, 0, (S.la i).en, (S.la i).br, (S.la i).was)
  have fr1 : wFr (hP lo) w (wPut w 4 (gl i) (.inl [.int ((S.la i).1), .int (-1), .int ((S.la i).2.2.1), .int ((S.la i).2.2.2.1), .int (bI (S.la i).2.2.2.2)])) := (wFr.refl _ _).put (Or.inl hlo)
  have h1b := hS1.1.1
  obtain ⟨w1, hw1⟩ : ∃ w1, w1 = (wPut w 4 (gl i) (.inl [.int ((S.la i).1), .int (-1), .int ((S.la i).2.2.1), .int ((S.la i).2.2.2.1), .int (bI (S.la i).2.2.2.2)])) := ⟨_, rfl⟩
  rw [← hw1] at fr1 h1b hS1 ⊢
  have hl2 := hS1.2.1.2.2
  obtain ⟨mc2, hl02⟩ := hl2.1
  have hn := hW.2.2.1
  have h8 := hW.2.1
  have hbb : ∀ j, j < S.nr → (S.rq j).1 < 8 := fun j hj => by have := (hW.2.2.2.2.1 j hj).1; omega
  refine WW.run (pc' := 16) (lv' := [(0, .ref a), (1, .int (nI i))]) (st' := [.ref a]) 1 rfl ?_
  refine WW.get rfl fX2_21 h1b (show _ = some (.ref (Z 2)) from rfl) ?_
  refine WW.callV [] (Z 2) [] rfl mX2_69 (sL_size hl2) (wdRecv.obj hl02 rfl) rfl rfl (wd_le rfl) (wd_le rfl) (wd_le rfl) (wd_le rfl) (fun o w' hq => ?_)
  obtain ⟨rfl, hw9⟩ := hq
  show WW _ _ _ 22 _ [.int (nI S.nr)] _
  rw [hw9]
  clear hw9 w'
  refine WW.run (pc' := 25) (lv' := [(2, .int ((nI S.nr) - (nI 1))), (0, .ref a), (1, .int (nI i))]) (st' := []) 3 rfl ?_
  have key : ∀ T : aS, (∃ gr', isS G w1 lo a Z gs gl gr' T) → True := fun _ _ => trivial
  obtain ⟨T, hT⟩ : ∃ T, T = S.wLa i ((S.la i).lv, 0, (S.la i).en, (S.la i).br, (S.la i).was) := ⟨_, rfl⟩
  rw [← hT] at hS1
  have tn_ : T.nr = S.nr := by rw [hT]
  have tq_ : T.rq = S.rq := by rw [hT]
  rw [show S.nr = T.nr from tn_.symm]
  cases hf : S.find i S.nr with
  | none =>
    refine cS_endSkip (m := 0) hS1 (by omega) (by rw [tn_, tq_]; exact hbb) (by omega) ?_ T.nr (Nat.zero_le _) (Nat.le_refl _) (fun j _ hj => by rw [tq_]; exact find_none hf j (by omega))
    refine WW.run (pc' := 26) (lv' := [(2, .int (nI 0 - nI 1)), (0, .ref a), (1, .int (nI i))]) (st' := [.int (nI 0 - nI 1)]) 1 rfl ?_
    refine WW.if_lt (tgt := 62) rfl rfl (fun _ => ?_) (fun hno => absurd (by decide) hno)
    exact WW.vret rfl rfl ⟨rfl, ⟨gr, by unfold aS.frees; rw [hf]; rw [← hT]; exact hS1⟩, fr1⟩
  | some k =>
    obtain ⟨hk, he⟩ := find_some hf
    refine cS_endSkip (m := k + 1) hS1 (by omega) (by rw [tn_, tq_]; exact hbb) (by omega) ?_ T.nr (by omega) (Nat.le_refl _) (fun j hj hj' e2 => by
      rw [tq_] at e2
      have := hW.2.2.2.2.2 j k (by omega) hk (e2.trans he.symm)
      omega)
    rw [(wn_sub rfl rfl (by omega) : nI (k + 1) - nI 1 = nI k)]
    have hrq := hS1.2.2.2.2.2 k (by omega)
    rw [tq_] at hrq
    have hl3 := hS1.2.1.2.2
    obtain ⟨mc3, hl03⟩ := hl3.1
    refine WW.run (pc' := 26) (lv' := [(2, .int (nI k)), (0, .ref a), (1, .int (nI i))]) (st' := [.int (nI k)]) 1 rfl ?_
    refine WW.if_lt (tgt := 62) rfl rfl (fun hno => absurd hno (nI_pos (by omega))) (fun _ => ?_)
    refine WW.run (pc' := 30) (lv' := [(2, .int (nI k)), (0, .ref a), (1, .int (nI i))]) (st' := [.ref a]) 1 rfl ?_
    refine WW.get rfl fX2_21 h1b (show _ = some (.ref (Z 2)) from rfl) ?_
    refine WW.run (pc' := 34) (lv' := [(2, .int (nI k)), (0, .ref a), (1, .int (nI i))]) (st' := [.int (nI k), .ref (Z 2)]) 1 rfl ?_
    refine WW.callV [.int (nI k)] (Z 2) [] rfl mX2_81 (sL_get hl3 (show k < T.nr by omega)) (wdRecv.obj hl03 rfl) rfl rfl (wd_le rfl) (wd_le rfl) (wd_le rfl) (wd_le rfl) (fun o w' hq => ?_)
    obtain ⟨rfl, hw9⟩ := hq
    show WW _ _ _ 37 _ [.ref (gr k)] _
    rw [hw9]
    clear hw9 w'
    refine WW.castY rfl hrq rfl lX2_54 (Or.inl rfl) ?_
    refine WW.get rfl fX2_102 hrq (show _ = some (.int (nI (S.rq k).1)) from rfl) ?_
    refine WW.run (pc' := 44) (lv' := [(2, .int (nI k)), (0, .ref a), (1, .int (nI i))]) (st' := [.int (nI i), .int (nI (S.rq k).1)]) 1 rfl ?_
    refine WW.icmp_ne (tgt := 56) rfl rfl (fun hno => absurd (by rw [he]) hno) (fun _ => ?_)
    refine WW.run (pc' := 48) (lv' := [(2, .int (nI k)), (0, .ref a), (1, .int (nI i))]) (st' := [.ref a]) 1 rfl ?_
    refine WW.get rfl fX2_21 h1b (show _ = some (.ref (Z 2)) from rfl) ?_
    refine WW.run (pc' := 52) (lv' := [(2, .int (nI k)), (0, .ref a), (1, .int (nI i))]) (st' := [.int (nI k), .ref (Z 2)]) 1 rfl ?_
    refine WW.ok fun ok => ?_
    replace ok : wdOk G w1 := ok
    refine WW.callV [.int (nI k)] (Z 2) [] rfl mX2_145 (sL_remove (ci := 6) rfl nq2219 (by decide) (fun j hj => ⟨_, hS1.2.2.2.2.2 j hj⟩) hl3 (show k < T.nr by omega)) (wdRecv.obj hl03 rfl) rfl rfl (wd_le rfl) (wd_le rfl) (wd_le rfl) (wd_le rfl) (fun o w' hq => ?_)
    obtain ⟨rfl, hL, h2, h3⟩ := hq
    show WW _ _ _ 55 _ [.ref (gr k)] _
    have fr2 := wFr.of h2 h3
    have hS2 := hS1.reRq ok (n := T.nr - 1) (rq' := fun j => if j < k then T.rq j else T.rq (j + 1)) hL fr2 (fun j hj => by
      show w'.1 6 (if j < k then gr j else gr (j + 1)) = some (.inl (rqF (if j < k then T.rq j else T.rq (j + 1))))
      by_cases e : j < k
      · rw [if_pos e, if_pos e]
        exact fr2.keepO ok hl3 (hS1.2.2.2.2.2 j (by omega)) (by decide) (by decide)
      · rw [if_neg e, if_neg e]
        exact fr2.keepO ok hl3 (hS1.2.2.2.2.2 (j + 1) (by omega)) (by decide) (by decide))
    have frA : wFr (hP lo) w w' := fr1.thn fr2 (fun b _ hb => hS1.lP2 hb)
    refine WW.run (pc' := 25) (lv' := [(2, .int ((nI k) + -1)), (0, .ref a), (1, .int (nI i))]) (st' := []) 3 rfl ?_
    rw [nI_m1]
    refine cS_endSkip (m := 0) hS2 (by show T.nr - 1 ≤ 8; omega) (fun j hj => by
      have hj' : j < T.nr - 1 := hj
      show (if j < k then T.rq j else T.rq (j + 1)).1 < 8
      rw [tq_]
      by_cases e : j < k
      · rw [if_pos e]; exact hbb j (by omega)
      · rw [if_neg e]; exact hbb (j + 1) (by omega)) (by omega) ?_ k (Nat.zero_le _) (by show k ≤ T.nr - 1; omega) (fun j _ hj e2 => by
      replace e2 : (if j < k then T.rq j else T.rq (j + 1)).1 = i := e2
      rw [if_pos hj, tq_] at e2
      have := hW.2.2.2.2.2 j k (by omega) hk (e2.trans he.symm)
      omega)
    refine WW.run (pc' := 26) (lv' := [(2, .int (nI 0 - nI 1)), (0, .ref a), (1, .int (nI i))]) (st' := [.int (nI 0 - nI 1)]) 1 rfl ?_
    refine WW.if_lt (tgt := 62) rfl rfl (fun _ => ?_) (fun hno => absurd (by decide) hno)
    refine WW.vret rfl rfl ⟨rfl, ⟨fun j => if j < k then gr j else gr (j + 1), ?_⟩, frA⟩
    unfold aS.frees
    rw [hf]
    rw [hT] at hS2
    exact hS2
end
