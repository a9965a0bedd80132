set_option maxRecDepth 100000
/-! HOURS OF OIL, let pass -/
def aS.step (S : aS) : aS := S.burn.tick.endTo S.burn.tick.nl
def aS.dark : Nat → aS → Int32 → Int32
  | 0, _, _ => -1
  | n + 1, S, h => bif decide (nI 0 < S.leased) then (bif decide (S.brights < S.burn.leased) then h else aS.dark n S.step (h + nI 1)) else -1
/-- every lease ends within n hours -/
def aEnds (n : Nat) (S : aS) : Prop := ∀ i, i < S.nl → 0 < (S.la i).le → ∃ d, 1 ≤ d ∧ d ≤ n ∧ (S.la i).en = S.hour + nI d
theorem leased_none {S : aS} (h : ∀ i, i < S.nl → (S.la i).le = 0) : S.leased = nI 0 := by
  have key : ∀ n, n ≤ S.nl → aSum (fun z => bI (Nat.blt 0 (S.la z).le)) n = nI 0 := by
    intro n
    induction n with
    | zero => intro _; rfl
    | succ n ih =>
      intro hn
      show aSum _ n + bI (Nat.blt 0 (S.la n).le) = _
      rw [ih (by omega), h n (by omega)]
      exact Int32.add_n0 _
  exact key _ (Nat.le_refl _)
theorem burnTo_la (S : aS) : ∀ (j i : Nat), ((S.burnTo j).la i).le = (S.la i).le ∧ ((S.burnTo j).la i).en = (S.la i).en ∧ ((S.burnTo j).la i).lv = (S.la i).lv
  | 0, _ => ⟨rfl, rfl, rfl⟩
  | j + 1, i => by
    obtain ⟨h1, h2, h3⟩ := burnTo_la S j i
    have e : ((S.burnTo (j + 1)).la i) = va_up (S.burnTo j).la j (((S.burnTo j).la j).lv, ((S.burnTo j).la j).le, ((S.burnTo j).la j).en, ((S.burnTo j).la j).br + bI ((S.burnTo j).glow j), (S.burnTo j).glow j) i := rfl
    rw [e]
    by_cases q : i = j
    · subst q
      rw [va_up_self]
      exact ⟨h1, h2, h3⟩
    · rw [va_up_ne _ _ q]
      exact ⟨h1, h2, h3⟩
theorem burnTo_hour (S : aS) : ∀ j, (S.burnTo j).hour = S.hour
  | 0 => rfl
  | j + 1 => burnTo_hour S j
/-- what the ends of leases leave: a lamp is freed if its end is the hour -/
theorem endTo_la (S : aS) : ∀ (j i : Nat), (S.endTo j).hour = S.hour ∧ (S.endTo j).oil = S.oil ∧ ((S.endTo j).la i).en = (S.la i).en ∧ ((S.endTo j).la i).lv = (S.la i).lv ∧ ((S.endTo j).la i).le = (if i < j ∧ S.over i = true then 0 else (S.la i).le)
  | 0, i => ⟨rfl, rfl, rfl, rfl, by rw [if_neg (fun e => absurd e.1 (Nat.not_lt_zero i))]; rfl⟩
  | j + 1, i => by
    obtain ⟨h1, h2, h3, h4, h5⟩ := endTo_la S j i
    obtain ⟨k1, k2, k3, k4, k5⟩ := endTo_la S j j
    have hov : (S.endTo j).over j = S.over j := by
      show (Nat.blt 0 ((S.endTo j).la j).le && decide (((S.endTo j).la j).en = (S.endTo j).hour)) = _
      rw [k5, if_neg (fun e => absurd e.1 (Nat.lt_irrefl j)), k3, k1]
      rfl
    show ((S.endTo j).end1 j).hour = _ ∧ ((S.endTo j).end1 j).oil = _ ∧ (((S.endTo j).end1 j).la i).en = _ ∧ (((S.endTo j).end1 j).la i).lv = _ ∧ (((S.endTo j).end1 j).la i).le = _
    unfold aS.end1
    rw [hov]
    cases ho : S.over j with
    | false =>
      refine ⟨h1, h2, h3, h4, ?_⟩
      show ((S.endTo j).la i).le = _
      rw [h5]
      by_cases e : i = j
      · subst e
        rw [if_neg (fun q => absurd q.1 (Nat.lt_irrefl i)), if_neg (fun q => by rw [ho] at q; exact absurd q.2 (by decide))]
      · by_cases q : i < j ∧ S.over i = true
        · rw [if_pos q, if_pos ⟨by omega, q.2⟩]
        · rw [if_neg q, if_neg (fun z => q ⟨by omega, z.2⟩)]
    | true =>
      have f1 : ((S.endTo j).frees j).hour = (S.endTo j).hour ∧ ((S.endTo j).frees j).oil = (S.endTo j).oil := by
        unfold aS.frees
        cases (S.endTo j).find j (S.endTo j).nr <;> exact ⟨rfl, rfl⟩
      refine ⟨f1.1.trans h1, f1.2.trans h2, ?_⟩
      show (((S.endTo j).frees j).la i).en = _ ∧ (((S.endTo j).frees j).la i).lv = _ ∧ (((S.endTo j).frees j).la i).le = _
      rw [frees_la]
      by_cases e : i = j
      · subst e
        rw [if_pos rfl, if_pos ⟨Nat.lt_succ_self _, ho⟩]
        exact ⟨k3, k4, rfl⟩
      · rw [if_neg e]
        refine ⟨h3, h4, ?_⟩
        rw [h5]
        by_cases q : i < j ∧ S.over i = true
        · rw [if_pos q, if_pos ⟨by omega, q.2⟩]
        · rw [if_neg q, if_neg (fun z => q ⟨by omega, z.2⟩)]
theorem aWf.step {S : aS} (h : aWf S) : aWf S.step := ((h.burnTo _).tick).endTo _
theorem aEnds.step {n : Nat} {S : aS} (h : aEnds (n + 1) S) (hn : n < 2 ^ 30) : aEnds n S.step := by
  intro i hi hl
  have hb := burnTo_la S S.nl i
  have hh := burnTo_hour S S.nl
  have he := endTo_la S.burn.tick S.burn.tick.nl i
  have hnl : S.step.nl = S.nl := (endTo_same S.burn.tick _).2.trans (burnTo_same S S.nl).2.1
  have hnl2 : S.burn.tick.nl = S.nl := (burnTo_same S S.nl).2.1
  obtain ⟨e1, e2, e3, e4, e5⟩ := he
  have hl' : 0 < ((S.burn.tick.endTo S.burn.tick.nl).la i).le := hl
  rw [e5] at hl'
  by_cases q : i < S.burn.tick.nl ∧ S.burn.tick.over i = true
  · rw [if_pos q] at hl'
    exact absurd hl' (Nat.lt_irrefl 0)
  rw [if_neg q] at hl'
  have hl2 : 0 < (S.la i).le := by
    have : (S.burn.tick.la i).le = (S.la i).le := hb.1
    omega
  obtain ⟨d, d1, d2, d3⟩ := h i (by omega) hl2
  have hno : S.burn.tick.over i = false := by
    cases ho : S.burn.tick.over i with
    | false => rfl
    | true => exact absurd ⟨by omega, ho⟩ q
  have hov : S.burn.tick.over i = (Nat.blt 0 (S.burn.la i).le && decide ((S.burn.la i).en = S.burn.hour + nI 1)) := rfl
  rw [hov, hb.1, hb.2.1, show S.burn.hour = S.hour from hh, show Nat.blt 0 (S.la i).le = true from Nat.ble_eq_true_of_le hl2, d3] at hno
  have hd1 : d ≠ 1 := by
    intro e
    subst e
    rw [decide_eq_true rfl] at hno
    cases hno
  refine ⟨d - 1, by omega, by omega, ?_⟩
  show ((S.burn.tick.endTo S.burn.tick.nl).la i).en = (S.burn.tick.endTo S.burn.tick.nl).hour + nI (d - 1)
  rw [e3, e1]
  show (S.burn.la i).en = S.burn.hour + nI 1 + nI (d - 1)
  rw [hb.2.1, show S.burn.hour = S.hour from hh, d3, Int32.add_assoc, nI_add, show 1 + (d - 1) = d by omega]
section
variable {l : Launch} {G : wdG} {w : wdW} {lo a : Nat} {Z gs gl gr : Nat → Nat} {S : aS}
theorem cS_darkLoop {Q : wdO → wdW → Prop} {v : Int32} (hQ : ∀ u, wFr (hP lo) w u → Q (.inl (some (.int v))) u) : ∀ (n : Nat) (S : aS) (h : Int32) (u : wdW) (gr : Nat → Nat), n < 2 ^ 30 → isS G u lo a Z gs gl gr S → aWf S → aEnds n S → S.dark n h = v → wFr (hP lo) w u → WW (l, G, MX2_burnUntilDark, 5, 2000, 8000, Q) (3 * n + 1) (12 * n + 4) 9 [(1, .int h), (0, .ref a)] [] u := by
  intro n
  induction n with
  | zero =>
    intro S h u gr hn hS hW hE hv fr
    have hb := hS.1.1
    have h0 : S.leased = nI 0 := leased_none (fun i hi => by
      by_cases e : (S.la i).le = 0
      · exact e
      · obtain ⟨d, d1, d2, -⟩ := hE i hi (by omega)
        omega)
    refine WW.run (pc' := 10) (lv' := [(1, .int h), (0, .ref a)]) (st' := [.ref a]) 1 rfl ?_
    refine WW.callV [] a [] rfl mX2_188 (cS_leased hS hW) (wdRecv.obj hb rfl) rfl rfl (wd_le rfl) (wd_le rfl) (by omega) (by omega) (fun o u1 hq => ?_)
    obtain ⟨rfl, fr1⟩ := hq
    show WW _ _ _ 13 _ [.int S.leased] _
    rw [h0]
    refine WW.if_le (tgt := 50) rfl rfl (fun _ => ?_) (fun hno => absurd (by decide) hno)
    refine WW.run (pc' := 51) (lv' := [(1, .int h), (0, .ref a)]) (st' := [.int (-1)]) 1 rfl ?_
    subst hv
    exact WW.iret rfl rfl rfl (hQ _ (fr.thn0 fr1))
  | succ n ih =>
    intro S h u gr hn hS hW hE hv fr
    have hb := hS.1.1
    have hv0 : S.dark (n + 1) h = bif decide (nI 0 < S.leased) then (bif decide (S.brights < S.burn.leased) then h else S.step.dark n (h + nI 1)) else -1 := rfl
    rw [hv0] at hv
    refine WW.ok fun ok => ?_
    replace ok : wdOk G u := ok
    refine WW.run (pc' := 10) (lv' := [(1, .int h), (0, .ref a)]) (st' := [.ref a]) 1 rfl ?_
    refine WW.callV [] a [] rfl mX2_188 (cS_leased hS hW) (wdRecv.obj hb rfl) rfl rfl (wd_le rfl) (wd_le rfl) (by omega) (by omega) (fun o u1 hq => ?_)
    obtain ⟨rfl, fr1⟩ := hq
    show WW _ _ _ 13 _ [.int S.leased] _
    have frA : wFr (hP lo) w u1 := fr.thn0 fr1
    refine WW.if_le (tgt := 50) rfl rfl (fun e1 => ?_) (fun e1 => ?_)
    · skip
      rw [show decide (nI 0 < S.leased) = false from decide_eq_false (Int32.not_lt.mpr e1)] at hv
      refine WW.run (pc' := 51) (lv' := [(1, .int h), (0, .ref a)]) (st' := [.int (-1)]) 1 rfl ?_
      subst hv
      exact WW.iret rfl rfl rfl (hQ _ frA)
    rw [show decide (nI 0 < S.leased) = true from decide_eq_true (Int32.not_le.mp e1)] at hv
    have hS1 := hS.fr ok fr1
    have hb1 := hS1.1.1
    refine WW.run (pc' := 17) (lv' := [(1, .int h), (0, .ref a)]) (st' := [.ref a]) 1 rfl ?_
    refine WW.callV [] a [] rfl mX2_171 (cS_burn hS1 hW) (wdRecv.obj hb1 rfl) rfl rfl (wd_le rfl) (wd_le rfl) (by omega) (by omega) (fun o u2 hq => ?_)
    obtain ⟨rfl, hS2, fr2⟩ := hq
    show WW _ _ _ 20 _ [.int S.brights] _
    have hW2 : aWf S.burn := hW.burnTo S.nl
    have frB : wFr (hP lo) w u2 := frA.thn fr2 (fun _ _ z => z)
    have hb2 := hS2.1.1
    refine WW.run (pc' := 21) (lv' := [(1, .int h), (0, .ref a)]) (st' := [.ref a, .int S.brights]) 1 rfl ?_
    have ok1 := ok
    refine WW.ok fun ok => ?_
    replace ok : wdOk G u2 := ok
    refine WW.callV [] a [.int S.brights] rfl mX2_188 (cS_leased hS2 hW2) (wdRecv.obj hb2 rfl) rfl rfl (wd_le rfl) (wd_le rfl) (by omega) (by omega) (fun o u3 hq => ?_)
    obtain ⟨rfl, fr3⟩ := hq
    show WW _ _ _ 24 _ [.int S.burn.leased, .int S.brights] _
    have frC : wFr (hP lo) w u3 := frB.thn0 fr3
    refine WW.icmp_ge (tgt := 29) rfl rfl (fun e2 => ?_) (fun e2 => ?_)
    · skip
      rw [show decide (S.brights < S.burn.leased) = false from decide_eq_false (Int32.not_lt.mpr e2)] at hv
      have hS3 := hS2.fr ok fr3
      have hb3 := hS3.1.1
      refine WW.run (pc' := 31) (lv' := [(1, .int h), (0, .ref a)]) (st' := [.ref a, .ref a]) 2 rfl ?_
      refine WW.get rfl fX2_60 hb3 (show _ = some (.int S.burn.hour) from rfl) ?_
      refine WW.run (pc' := 36) (lv' := [(1, .int h), (0, .ref a)]) (st' := [.int (S.burn.hour + (nI 1)), .ref a]) 2 rfl ?_
      refine WW.put [.ref (Z 0), .ref (Z 1), .ref (Z 2), .int S.burn.oil, .int (S.burn.hour + (nI 1)), .int S.burn.office, .int S.burn.refused] rfl pfX2_60 hb3 (wd_le rfl) rfl rfl rfl ?_
      have h4 : (wPut u3 1 a (.inl [.ref (Z 0), .ref (Z 1), .ref (Z 2), .int S.burn.oil, .int (S.burn.hour + (nI 1)), .int S.burn.office, .int S.burn.refused])).1 1 a = some (.inl [.ref (Z 0), .ref (Z 1), .ref (Z 2), .int S.burn.oil, .int (S.burn.hour + (nI 1)), .int S.burn.office, .int S.burn.refused]) := wPut_same _ _ _ _
      have hS4 : isS G (wPut u3 1 a (.inl [.ref (Z 0), .ref (Z 1), .ref (Z 2), .int S.burn.oil, .int (S.burn.hour + (nI 1)), .int S.burn.office, .int S.burn.refused])) lo a Z gs gl gr S.burn.tick := hS3.putO S.burn.tick rfl rfl rfl
      have frD : wFr (hP lo) w (wPut u3 1 a (.inl [.ref (Z 0), .ref (Z 1), .ref (Z 2), .int S.burn.oil, .int (S.burn.hour + (nI 1)), .int S.burn.office, .int S.burn.refused])) := frC.put (Or.inl hS.1.2)
      refine WW.run (pc' := 43) (lv' := [(1, .int (h + nI 1)), (0, .ref a)]) (st' := [.ref a]) 2 rfl ?_
      refine WW.callV [] a [] rfl mX2_182 (cS_endLeases hS4 hW2.tick) (wdRecv.obj h4 rfl) rfl rfl (wd_le rfl) (wd_le rfl) (by omega) (by omega) (fun o u4 hq => ?_)
      obtain ⟨rfl, ⟨gr', hS5⟩, fr5⟩ := hq
      show WW _ _ _ 46 _ [.int (S.burn.tick.endN S.burn.tick.nl)] _
      refine WW.run (pc' := 9) (lv' := [(1, .int (h + nI 1)), (0, .ref a)]) (st' := []) 2 rfl ?_
      exact WW.less (by omega) (by omega) (ih S.step (h + nI 1) u4 gr' (by omega) hS5 hW.step (hE.step (by omega)) hv (frD.thn fr5 (fun _ _ z => z)))
    rw [show decide (S.brights < S.burn.leased) = true from decide_eq_true (Int32.not_le.mp e2)] at hv
    refine WW.run (pc' := 28) (lv' := [(1, .int h), (0, .ref a)]) (st' := [.int h]) 1 rfl ?_
    subst hv
    exact WW.iret rfl rfl rfl (hQ _ frC)
theorem cS_dark (hS : isS G w lo a Z gs gl gr S) (hW : aWf S) (hE : aEnds 600 S) : Sp l G MX2_burnUntilDark 5 2000 8000 [.ref a] w (fun q w' => q = .inl (some (.int ((S.wRq 0 S.rq).dark 600 (nI 0)))) ∧ wFr (hP lo) w w') := by
  have hL := hS.2.1.2.2
  obtain ⟨mc2, hl2⟩ := hL.1
  refine Sp.of rfl (by decide +kernel) kX2_burnUntilDark (wd_le rfl) ?_
  refine WW.ok fun ok => ?_
  replace ok : wdOk G w := ok
  have h1 := hS.1.1
  refine WW.run (pc' := 1) (lv' := [(0, .ref a)]) (st' := [.ref a]) 1 rfl ?_
  refine WW.get rfl fX2_21 h1 (show _ = some (.ref (Z 2)) from rfl) ?_
  refine WW.callV [] (Z 2) [] rfl mX2_158 (sL_clear hL) (wdRecv.obj hl2 rfl) rfl rfl (wd_le rfl) (wd_le rfl) (wd_le rfl) (wd_le rfl) (fun o w3 hq => ?_)
  obtain ⟨rfl, hL3, k2, k3⟩ := hq
  show WW _ _ _ 7 _ [] _
  have fr2 := wFr.of k2 k3
  have hS2 := hS.reRq ok (n := 0) (rq' := S.rq) hL3 fr2 (fun k hk => absurd hk (Nat.not_lt_zero k))
  refine WW.run (pc' := 9) (lv' := [(1, .int (nI 0)), (0, .ref a)]) (st' := []) 2 rfl ?_
  exact WW.less (by decide) (by decide) (cS_darkLoop (w := w) (fun u fr => ⟨rfl, fr⟩) 600 (S.wRq 0 S.rq) (nI 0) w3 gr (by decide) hS2 (hW.noReq _) hE rfl ((wFr.refl _ _).thn fr2 (fun b _ hb => hS.lP2 hb)))
end
section
variable {G : wdG} {l : Launch} {w : wdW} {hl : Nat} {o inp sb : Nat} {I : Nat → Int32} {cur : aS} {hn : Nat} {hist : Nat → aS} {sv : Option aS} {ic : Nat → Int32} {on : Nat} {oc : Nat → Int32}
theorem cO_requireHours (x : Int32) : Sp l G MX1_requireHours 7 1 6 [.int x] w (fun q w' => bif decide (x = -1) then tQ nP 16 w q w' else q = .inl (some (.int x)) ∧ w' = w) := by
  refine Sp.of rfl (by decide +kernel) kX1_requireHours (wd_le rfl) ?_
  refine WW.run (pc' := 2) (lv' := [(0, .int x)]) (st' := [.int (-1), .int x]) 2 rfl ?_
  refine WW.join (pc' := 10) (lv' := [(0, .int x)]) (st' := [.int (bI (!decide (x = -1)))]) ?_ ?_
  rotate_left
  · cases hb : (decide (x = -1)) with
    | false =>
      intro H
      refine WW.icmp_eq (tgt := 9) rfl rfl (fun hno => absurd hno (of_decide_eq_false hb)) (fun _ => ?_)
      refine WW.run (pc' := 10) (lv' := [(0, .int x)]) (st' := [.int (nI 1)]) 2 rfl ?_
      exact H
    | true =>
      intro H
      refine WW.icmp_eq (tgt := 9) rfl rfl (fun _ => ?_) (fun hno => absurd (of_decide_eq_true hb) hno)
      refine WW.run (pc' := 10) (lv' := [(0, .int x)]) (st' := [.int (nI 0)]) 1 rfl ?_
      exact H
  generalize decide (x = -1) = bb
  refine WW.callS [.int (bI (!bb))] [] rfl mX1_171 (sO_requireElement (!bb)) rfl rfl (wd_le rfl) (wd_le rfl) (wd_le rfl) (wd_le rfl) (fun o w' hq => ?_)
  cases bb with
  | true =>
    obtain ⟨q, e1, rfl, e3, e4⟩ := hq
    show WX _ _ _ 10 _ [] _ _ _
    exact WX.out (fun _ h => nomatch h) ⟨q, e1, rfl, e3, e4⟩
  | false =>
    obtain ⟨rfl, hw9⟩ := hq
    show WW _ _ _ 13 _ [] _
    rw [hw9]
    clear hw9 w'
    refine WW.run (pc' := 14) (lv' := [(0, .int x)]) (st' := [.int x]) 1 rfl ?_
    exact WW.iret rfl rfl rfl ⟨rfl, rfl⟩
theorem cO_hoursOfOil (h : isOf G w o hl inp sb I cur hn hist sv ic on oc) (hWf : aWf cur) (hE : aEnds 600 cur) : Sp l G MX1_hoursOfOil 8 2061 8346 [.ref o] w (oA G o hl inp sb I cur hn hist sv ic on oc [16] (bif decide ((cur.wRq 0 cur.rq).dark 600 (nI 0) = -1) then .inl 1 else .inr (.int ((cur.wRq 0 cur.rq).dark 600 (nI 0)))) w) := by
  have hO := h
  obtain ⟨st, harr, hg, sva, sbarr, h⟩ := h
  have g := h
  obtain ⟨g1, g2, ⟨lo, Z, gs, gl, gr, g3, -⟩, g4, g5, g6, g7⟩ := h
  have hst := g3.1.1
  refine Sp.of rfl (by decide +kernel) kX1_hoursOfOil (wd_le rfl) ?_
  refine WW.ok fun ok => ?_
  replace ok : wdOk G w := ok
  refine WW.run (pc' := 1) (lv' := [(0, .ref o)]) (st' := [.ref o]) 1 rfl ?_
  refine WW.get rfl fX1_10 g1 (show _ = some (.ref st) from rfl) ?_
  refine WW.callV [] st [] rfl mX1_71 (cS_copy g3 hWf) (wdRecv.obj hst rfl) rfl rfl (wd_le rfl) (wd_le rfl) (wd_le rfl) (wd_le rfl) (fun o w1 hq => ?_)
  obtain ⟨a, ha, rfl, ⟨Z2, gs2, gl2, gr2, hC⟩, fr1⟩ := hq
  show WW _ _ _ 7 _ [.ref a] _
  refine WW.callV [] a [] rfl mX1_175 (cS_dark hC hWf hE) (wdRecv.obj hC.1.1 rfl) rfl rfl (wd_le rfl) (wd_le rfl) (wd_le rfl) (wd_le rfl) (fun o w2 hq => ?_)
  obtain ⟨rfl, fr2⟩ := hq
  have frT : wFr nP w w2 := fr1.thn fr2 (fun b hb (e : w.2 ≤ b) => by omega)
  generalize (cur.wRq 0 cur.rq).dark 600 (nI 0) = x
  show WW _ _ _ 10 _ [.int x] _
  refine WW.callS [.int x] [] rfl mX1_178 (cO_requireHours x) rfl rfl (wd_le rfl) (wd_le rfl) (wd_le rfl) (wd_le rfl) (fun o w3 hq => ?_)
  cases hb : decide (x = -1) with
  | true =>
    rw [hb] at hq
    obtain ⟨q, e1, rfl, e3, e4⟩ := hq
    have frU : wFr nP w w3 := frT.thn0 e3
    show WX _ _ _ 10 _ [] _ _ _
    exact WX.out (fun _ h => nomatch h) ⟨oFr.of0 ok frU, hO.fr0 ok frU, 16, q, rfl, rfl⟩
  | false =>
    rw [hb] at hq
    obtain ⟨rfl, hw9⟩ := hq
    show WW _ _ _ 13 _ [.int x] _
    rw [hw9]
    exact WW.iret rfl rfl rfl ⟨oFr.of0 ok frT, hO.fr0 ok frT, rfl⟩
end
