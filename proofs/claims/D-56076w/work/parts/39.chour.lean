set_option maxRecDepth 100000
/-! THE COMPONENT's HOUR -/
theorem isS.k11 {G : wdG} {w : wdW} {lo a : Nat} {Z gs gl gr : Nat → Nat} {S : aS} (h : isS G w lo a Z gs gl gr S) (b : Nat) (p : wdPay) : isS G (wPut w 11 b p) lo a Z gs gl gr S := by
  obtain ⟨⟨a1, a2⟩, ⟨b1, b2, b3⟩, c, ⟨d1, d2⟩, ⟨f1, f2⟩, g⟩ := h
  exact ⟨⟨(wPut_k (by decide)).trans a1, a2⟩, ⟨b1.to (fun _ hp => (wPut_k (by decide)).trans hp) (fun _ hp => (wPut_k (by decide)).trans hp), b2.to (fun _ hp => (wPut_k (by decide)).trans hp) (fun _ hp => (wPut_k (by decide)).trans hp), b3.to (fun _ hp => (wPut_k (by decide)).trans hp) (fun _ hp => (wPut_k (by decide)).trans hp)⟩, c, ⟨fun i hi => ⟨(wPut_k (by decide)).trans (d1 i hi).1, (d1 i hi).2⟩, d2⟩, ⟨fun i hi => ⟨(wPut_k (by decide)).trans (f1 i hi).1, (f1 i hi).2⟩, f2⟩, fun k hk => (wPut_k (by decide)).trans (g k hk)⟩
section
variable {l : Launch} {G : wdG} {w : wdW} {lo a : Nat} {Z gs gl gr : Nat → Nat} {S : aS}
theorem cS_renew (hS : isS G w lo a Z gs gl gr S) (hW : aWf S) {k : Nat} (hk : k < S.nr) : Sp l G MX2_renew 5 1 6 [.ref a, .ref (gr k)] w (fun o w' => (∃ q, o = .inr ("LampLeaseOffice$PoorException", q) ∧ wFr nP w w' ∧ S.renew1 k = S.wRef (S.refused + nI 1)) ∨ (o = .inl none ∧ isS G w' lo a Z gs gl gr (S.renew1 k) ∧ wFr (hP lo) w w' ∧ ∀ k b, k ≠ 1 → k ≠ 3 → k ≠ 4 → w'.1 k b = w.1 k b)) := by
  have h8 := hW.2.1
  have h6 := hW.1
  obtain ⟨hx, hl0⟩ := hW.2.2.2.2.1 k hk
  have hle := hW.2.2.2.1 _ hx
  have hrq := hS.2.2.2.2.2 k hk
  have hren : S.renew1 k = bif decide ((S.la (S.rq k).1).lv * (S.rq k).2 ≤ (S.sh ((S.la (S.rq k).1).le - 1)).1) then (S.pays ((S.la (S.rq k).1).le - 1) ((S.la (S.rq k).1).lv * (S.rq k).2)).wLa (S.rq k).1 ((S.la (S.rq k).1).lv, (S.la (S.rq k).1).le, (S.la (S.rq k).1).en + (S.rq k).2, (S.la (S.rq k).1).br, (S.la (S.rq k).1).was) else S.wRef (S.refused + nI 1) := rfl
  generalize hxx : (S.rq k).1 = x at hx hl0 hle hrq hren
  generalize hhh : (S.rq k).2 = h at hrq hren
  replace hrq : w.1 6 (gr k) = some (.inl [.int (nI x), .int h]) := by rw [← hxx, ← hhh]; exact hS.2.2.2.2.2 k hk
  obtain ⟨j, hj⟩ : ∃ j, j = (S.la x).le - 1 := ⟨_, rfl⟩
  rw [← hj] at hren
  have hjn : j < S.ns := by omega
  have hla := (hS.2.2.2.2.1.1 x hx).1
  have hsh := (hS.2.2.2.1.1 j hjn).1
  have hll := hS.2.1.2.1
  have hls := hS.2.1.1
  obtain ⟨mc0, hl0'⟩ := hll.1
  obtain ⟨mc1, hl1'⟩ := hls.1
  refine Sp.of rfl (by decide +kernel) kX2_renew (wd_le rfl) ?_
  refine WW.ok fun ok => ?_
  replace ok : wdOk G w := ok
  have h1 := hS.1.1
  refine WW.run (pc' := 1) (lv' := [(0, .ref a), (1, .ref (gr k))]) (st' := [.ref a]) 1 rfl ?_
  refine WW.get rfl fX2_18 h1 (show _ = some (.ref (Z 1)) from rfl) ?_
  refine WW.run (pc' := 5) (lv' := [(0, .ref a), (1, .ref (gr k))]) (st' := [.ref (gr k), .ref (Z 1)]) 1 rfl ?_
  refine WW.get rfl fX2_102 hrq (show _ = some (.int (nI x)) from rfl) ?_
  refine WW.callV [.int (nI x)] (Z 1) [] rfl mX2_81 (sL_get hll hx) (wdRecv.obj hl0' rfl) rfl rfl (wd_le rfl) (wd_le rfl) (wd_le rfl) (wd_le rfl) (fun o w' hq => ?_)
  obtain ⟨rfl, hw9⟩ := hq
  show WW _ _ _ 11 _ [.ref (gl x)] _
  rw [hw9]
  clear hw9 w'
  refine WW.castY rfl hla rfl lX2_49 (Or.inl rfl) ?_
  refine WW.run (pc' := 17) (lv' := [(2, .ref (gl x)), (0, .ref a), (1, .ref (gr k))]) (st' := [.ref a, .ref a]) 3 rfl ?_
  refine WW.get rfl fX2_63 h1 (show _ = some (.int S.office) from rfl) ?_
  refine WW.run (pc' := 21) (lv' := [(2, .ref (gl x)), (0, .ref a), (1, .ref (gr k))]) (st' := [.ref a, .int S.office, .ref a]) 1 rfl ?_
  refine WW.get rfl fX2_12 h1 (show _ = some (.ref (Z 0)) from rfl) ?_
  refine WW.run (pc' := 25) (lv' := [(2, .ref (gl x)), (0, .ref a), (1, .ref (gr k))]) (st' := [.ref (gl x), .ref (Z 0), .int S.office, .ref a]) 1 rfl ?_
  refine WW.get rfl fX2_130 hla (show _ = some (.int (nI (S.la x).2.1 - nI 1)) from rfl) ?_
  rw [show nI (S.la x).2.1 - nI 1 = nI j from (wn_sub rfl rfl hl0).trans (by rw [hj])]
  refine WW.callV [.int (nI j)] (Z 0) [.int S.office, .ref a] rfl mX2_81 (sL_get hls hjn) (wdRecv.obj hl1' rfl) rfl rfl (wd_le rfl) (wd_le rfl) (wd_le rfl) (wd_le rfl) (fun o w' hq => ?_)
  obtain ⟨rfl, hw9⟩ := hq
  show WW _ _ _ 31 _ [.ref (gs j), .int S.office, .ref a] _
  rw [hw9]
  clear hw9 w'
  refine WW.castY rfl hsh rfl lX2_39 (Or.inl rfl) ?_
  refine WW.run (pc' := 36) (lv' := [(2, .ref (gl x)), (0, .ref a), (1, .ref (gr k))]) (st' := [.ref (gr k), .ref (gl x), .ref (gs j), .int S.office, .ref a]) 2 rfl ?_
  refine WW.get rfl fX2_151 hrq (show _ = some (.int h) from rfl) ?_
  refine WW.callV [.int h] (gl x) [.ref (gs j), .int S.office, .ref a] rfl mX2_118 (sP_cost hla h) (wdRecv.obj hla rfl) rfl rfl (wd_le rfl) (wd_le rfl) (wd_le rfl) (wd_le rfl) (fun o w' hq => ?_)
  obtain ⟨rfl, hw9⟩ := hq
  show WW _ _ _ 42 _ [.int ((S.la x).lv * h), .ref (gs j), .int S.office, .ref a] _
  rw [hw9]
  clear hw9 w'
  generalize hc : (S.la x).lv * h = c at hren
  refine WW.callV [.int c] (gs j) [.int S.office, .ref a] rfl mX2_122 (sH_pay hsh c) (wdRecv.obj hsh rfl) rfl rfl (wd_le rfl) (wd_le rfl) (wd_le rfl) (wd_le rfl) (fun o w' hq => ?_)
  by_cases hlt : (S.sh j).1 < c
  · skip
    rw [if_pos hlt] at hq
    obtain ⟨q, rfl, fr⟩ := hq
    show WX _ _ _ 42 _ [.int S.office, .ref a] _ _ _
    refine WX.out (fun _ h => nomatch h) (Or.inl ⟨q, rfl, fr, ?_⟩)
    rw [hren, decide_eq_false (Int32.not_le.mpr hlt)]
    rfl
  · skip
    rw [if_neg hlt] at hq
    obtain ⟨rfl, hw9⟩ := hq
    show WW _ _ _ 45 _ [.int c, .int S.office, .ref a] _
    rw [hw9]
    clear hw9 w'
    have hS1 := hS.putSh hjn ((S.sh j).1 - c, (S.sh j).2.1, (S.sh j).2.2)
    have fr1 : wFr (hP lo) w (wPut w 3 (gs j) (.inl (shF ((S.sh j).1 - c, (S.sh j).2.1, (S.sh j).2.2)))) := (wFr.refl _ _).put (Or.inl (hS.2.2.2.1.1 j hjn).2)
    have kk1 : ∀ k b, k ≠ 1 → k ≠ 3 → k ≠ 4 → (wPut w 3 (gs j) (.inl (shF ((S.sh j).1 - c, (S.sh j).2.1, (S.sh j).2.2)))).1 k b = w.1 k b := fun k b _ e _ => wPut_k e
    generalize wPut w 3 (gs j) (.inl (shF ((S.sh j).1 - c, (S.sh j).2.1, (S.sh j).2.2))) = w1 at hS1 fr1 kk1
    have h1b := hS1.1.1
    refine WW.run (pc' := 46) (lv' := [(2, .ref (gl x)), (0, .ref a), (1, .ref (gr k))]) (st' := [.int (S.office + c), .ref a]) 1 rfl ?_
    refine WW.put [.ref (Z 0), .ref (Z 1), .ref (Z 2), .int S.oil, .int S.hour, .int (S.office + c), .int S.refused] rfl pfX2_63 h1b (wd_le rfl) rfl rfl rfl ?_
    have h2 : (wPut w1 1 a (.inl [.ref (Z 0), .ref (Z 1), .ref (Z 2), .int S.oil, .int S.hour, .int (S.office + c), .int S.refused])).1 1 a = some (.inl [.ref (Z 0), .ref (Z 1), .ref (Z 2), .int S.oil, .int S.hour, .int (S.office + c), .int S.refused]) := wPut_same _ _ _ _
    have hS2 := hS1.putO (S.pays j c) rfl rfl rfl
    have fr2 : wFr (hP lo) w (wPut w1 1 a (.inl [.ref (Z 0), .ref (Z 1), .ref (Z 2), .int S.oil, .int S.hour, .int (S.office + c), .int S.refused])) := fr1.put (Or.inl hS.1.2)
    replace hS2 : isS G (wPut w1 1 a (.inl [.ref (Z 0), .ref (Z 1), .ref (Z 2), .int S.oil, .int S.hour, .int (S.office + c), .int S.refused])) lo a Z gs gl gr (S.pays j c) := hS2
    obtain ⟨w2, hw2⟩ : ∃ w2, w2 = (wPut w1 1 a (.inl [.ref (Z 0), .ref (Z 1), .ref (Z 2), .int S.oil, .int S.hour, .int (S.office + c), .int S.refused])) := ⟨_, rfl⟩
    have kk2 : ∀ k b, k ≠ 1 → k ≠ 3 → k ≠ 4 → w2.1 k b = w.1 k b := fun k b e1 e3 e4 => by rw [hw2, wPut_k e1]; exact kk1 k b e1 e3 e4
    rw [← hw2] at fr2 hS2 ⊢
    have hla2 := (hS2.2.2.2.2.1.1 x hx).1
    have hrq2 := hS2.2.2.2.2.2 k hk
    replace hrq2 : w2.1 6 (gr k) = some (.inl [.int (nI x), .int h]) := by rw [← hxx, ← hhh]; exact hrq2
    refine WW.run (pc' := 51) (lv' := [(2, .ref (gl x)), (0, .ref a), (1, .ref (gr k))]) (st' := [.ref (gl x), .ref (gl x)]) 2 rfl ?_
    refine WW.get rfl fX2_133 hla2 (show _ = some (.int ((S.la x).2.2.1)) from rfl) ?_
    refine WW.run (pc' := 55) (lv' := [(2, .ref (gl x)), (0, .ref a), (1, .ref (gr k))]) (st' := [.ref (gr k), .int ((S.la x).2.2.1), .ref (gl x)]) 1 rfl ?_
    refine WW.get rfl fX2_151 hrq2 (show _ = some (.int h) from rfl) ?_
    refine WW.run (pc' := 59) (lv' := [(2, .ref (gl x)), (0, .ref a), (1, .ref (gr k))]) (st' := [.int (((S.la x).2.2.1) + h), .ref (gl x)]) 1 rfl ?_
    refine WW.put [.int ((S.la x).1), .int (nI (S.la x).2.1 - nI 1), .int (((S.la x).2.2.1) + h), .int ((S.la x).2.2.2.1), .int (bI (S.la x).2.2.2.2)] rfl pfX2_133 hla2 (wd_le rfl) rfl rfl rfl ?_
    have h3 : (wPut w2 4 (gl x) (.inl [.int ((S.la x).1), .int (nI (S.la x).2.1 - nI 1), .int (((S.la x).2.2.1) + h), .int ((S.la x).2.2.2.1), .int (bI (S.la x).2.2.2.2)])).1 4 (gl x) = some (.inl [.int ((S.la x).1), .int (nI (S.la x).2.1 - nI 1), .int (((S.la x).2.2.1) + h), .int ((S.la x).2.2.2.1), .int (bI (S.la x).2.2.2.2)]) := wPut_same _ _ _ _
    have hS3 := hS2.putLa (i := x) hx ((S.la x).lv, (S.la x).le, (S.la x).en + h, (S.la x).br, (S.la x).was)
    refine WW.vret rfl rfl (Or.inr ⟨rfl, ?_, fr2.put (Or.inl (hS.2.2.2.2.1.1 x hx).2), fun k b e1 e3 e4 => (wPut_k e4).trans (kk2 k b e1 e3 e4)⟩)
    rw [hren, decide_eq_true (Int32.not_lt.mp hlt)]
    exact hS3
theorem cS_processRequests (hS : isS G w lo a Z gs gl gr S) (hW : aWf S) : Sp l G MX2_processRequests 6 9 52 [.ref a] w (fun o w' => o = .inl none ∧ isS G w' lo a Z gs gl gr S.renew ∧ wFr (hP lo) w w') := by
  have h9 := hW.2.2.1
  refine Sp.ofH rfl (by decide +kernel) kX2_processRequests (wd_le rfl) ?_
  refine WW.ok fun ok => ?_
  replace ok : wdOk G w := ok
  have h1 := hS.1.1
  refine WW.run (pc' := 1) (lv' := [(0, .ref a)]) (st' := [.ref a]) 1 rfl ?_
  refine WW.get rfl fX2_21 h1 (show _ = some (.ref (Z 2)) from rfl) ?_
  have hl := hS.2.1.2.2
  obtain ⟨mc0, hl0⟩ := hl.1
  refine WW.callV [] (Z 2) [] rfl mX2_25 (sL_iterator hl) (wdRecv.obj hl0 rfl) rfl rfl (wd_le rfl) (wd_le rfl) (wd_le rfl) (wd_le rfl) (fun o w' hq => ?_)
  obtain ⟨it, mc, hit, rfl, hw, hmc⟩ := hq
  show WW _ _ _ 7 _ [.ref it] _
  refine WW.run (pc' := 8) (lv' := [(1, .ref it), (0, .ref a)]) (st' := []) 1 rfl ?_
  have fr0 : wFr nP w w' := by rw [hw]; exact (wFr.refl _ _).new hit
  have hS0 := hS.fr ok fr0
  have hmc' : w'.1 10 (Z 2) = some (.inl [.int mc, .ref (Z 5), .int (nI S.nr)]) := fr0.at ok hmc (fun z => z)
  have hsame := renewTo_same S
  refine WW.each (X := (l, G, MX2_processRequests, 6, 9, 52, _)) (r := (RX7, TX7, 2)) (g := gr) 6 8 27 49 (fun i => 8 - i) (fun i => 48 - 6 * i) (fun i => [(1, .ref it), (0, .ref a)]) (fun i => [(2, .ref (gr i)), (1, .ref it), (0, .ref a)]) (fun i u => wFr (hP lo) w u ∧ isS G u lo a Z gs gl gr (S.renewTo i) ∧ u.1 10 (Z 2) = some (.inl [.int mc, .ref (Z 5), .int (nI S.nr)])) (fun i u h => ⟨by have h2 := h.2.1.2.1.2.2; rw [(hsame i).2.2.1] at h2; exact h2, h.2.2⟩) (fun i u hi h => ⟨_, h.2.1.2.2.2.2.2 i (by rw [(hsame i).2.2.1]; exact hi)⟩) (fun i u p h => ?_) (fun _ => rfl) rfl mX2_29 rfl rfl (fun _ => rfl) rfl mX2_35 rfl rfl lX2_54 (fun _ => rfl) (wd_le rfl) (fun i u hi hI hIt ih => ?_) (fun u hI => ?_) ⟨fr0.mono (fun _ _ z => absurd z (fun z => z)), hS0, hmc'⟩ ⟨-1, by rw [hw]; exact wNew_same _ _ _ _⟩
  · exact ⟨h.1.put (Or.inr hit), h.2.1.k11 it p, (wPut_k (by decide)).trans h.2.2⟩
  · obtain ⟨fr, hS1, hm⟩ := hI
    obtain ⟨lr, hIt⟩ := hIt
    have hs := hsame i
    have hW1 := hW.renewTo i
    have hstep : S.renewTo (i + 1) = (S.renewTo i).renew1 i := rfl
    rw [hstep] at ih
    have hi' : i < (S.renewTo i).nr := by rw [hs.2.2.1]; exact hi
    generalize S.renewTo i = T at hS1 hW1 ih hs hi'
    have h1 := hS1.1.1
    refine WW.ok fun oku => ?_
    replace oku : wdOk G u := oku
    refine WW.run (pc' := 29) (lv' := [(2, .ref (gr i)), (1, .ref it), (0, .ref a)]) (st' := [.ref (gr i), .ref a]) 2 rfl ?_
    refine WW.callV [.ref (gr i)] a [] rfl mX2_154 (cS_renew hS1 hW1 hi') (wdRecv.obj h1 rfl) rfl rfl (wd_le rfl) (wd_le rfl) (by omega) (by omega) (fun o w' hq => ?_)
    rcases hq with ⟨q, rfl, fr1, hr⟩ | ⟨rfl, hS2, fr1, kk⟩
    · skip
      show WX _ _ _ 29 _ [] _ _ _
      refine WX.catch_ [] _ [] "LampLeaseOffice$PoorException" rfl (fun _ h => nomatch h) rfl (by decide) lX2_125 nq1090 ?_
      rw [hr] at ih
      have hS2 := hS1.fr oku fr1
      have h2 := hS2.1.1
      have hIt2 := fr1.at oku hIt (fun z => z)
      have hm2 := fr1.at oku hm (fun z => z)
      have fr2 : wFr (hP lo) w w' := fr.thn0 fr1
      refine WW.run (pc' := 38) (lv' := [(3, .ref q), (2, .ref (gr i)), (1, .ref it), (0, .ref a)]) (st' := [.ref a, .ref a]) 3 rfl ?_
      refine WW.get rfl fX2_66 h2 (show _ = some (.int T.refused) from rfl) ?_
      refine WW.run (pc' := 43) (lv' := [(3, .ref q), (2, .ref (gr i)), (1, .ref it), (0, .ref a)]) (st' := [.int (T.refused + (nI 1)), .ref a]) 2 rfl ?_
      refine WW.put [.ref (Z 0), .ref (Z 1), .ref (Z 2), .int T.oil, .int T.hour, .int T.office, .int (T.refused + (nI 1))] rfl pfX2_66 h2 (wd_le rfl) rfl rfl rfl ?_
      have h3 : (wPut w' 1 a (.inl [.ref (Z 0), .ref (Z 1), .ref (Z 2), .int T.oil, .int T.hour, .int T.office, .int (T.refused + (nI 1))])).1 1 a = some (.inl [.ref (Z 0), .ref (Z 1), .ref (Z 2), .int T.oil, .int T.hour, .int T.office, .int (T.refused + (nI 1))]) := wPut_same _ _ _ _
      have hS3 := hS2.putO (T.wRef (T.refused + nI 1)) rfl rfl rfl
      refine WW.run (pc' := 8) (lv' := [(3, .ref q), (2, .ref (gr i)), (1, .ref it), (0, .ref a)]) (st' := []) 1 rfl ?_
      refine WW.pick (lv' := [(1, .ref it), (0, .ref a)]) [2, 3] rfl ?_
      exact WW.less (by omega) (by omega) (ih _ ⟨fr2.put (Or.inl hS1.1.2), hS3, (wPut_k (by decide)).trans hm2⟩ ⟨lr, (wPut_k (by decide)).trans hIt2⟩)
    · skip
      show WW _ _ _ 32 _ [] _
      refine WW.run (pc' := 8) (lv' := [(2, .ref (gr i)), (1, .ref it), (0, .ref a)]) (st' := []) 2 rfl ?_
      refine WW.pick (lv' := [(1, .ref it), (0, .ref a)]) [1, 2] rfl ?_
      refine WW.less (by omega) (by omega) (ih _ ⟨fr.thn fr1 (fun _ _ z => z), hS2, (kk 10 _ (by decide) (by decide) (by decide)).trans hm⟩ ⟨lr, (kk 11 _ (by decide) (by decide) (by decide)).trans hIt⟩)
  · obtain ⟨fr, hS1, hm⟩ := hI
    have h1 := hS1.1.1
    have hl1 := hS1.2.1.2.2
    refine WW.ok fun oku => ?_
    replace oku : wdOk G u := oku
    refine WW.run (pc' := 50) (lv' := [(1, .ref it), (0, .ref a)]) (st' := [.ref a]) 1 rfl ?_
    refine WW.get rfl fX2_21 h1 (show _ = some (.ref (Z 2)) from rfl) ?_
    refine WW.callV [] (Z 2) [] rfl mX2_158 (sL_clear hl1) (wdRecv.obj hm rfl) rfl rfl (wd_le rfl) (wd_le rfl) (by omega) (by omega) (fun o w' hq => ?_)
    obtain ⟨rfl, hL, h2, h3⟩ := hq
    show WW _ _ _ 56 _ [] _
    have fr2 := wFr.of h2 h3
    have hS2 := hS1.reRq oku (n := 0) (rq' := S.rq) hL fr2 (fun k hk => absurd hk (Nat.not_lt_zero k))
    exact WW.vret rfl rfl ⟨rfl, hS2, fr.thn fr2 (fun b _ hb => hS1.lP2 hb)⟩
theorem cS_burn (hS : isS G w lo a Z gs gl gr S) (hW : aWf S) : Sp l G MX2_burn 3 1 4 [.ref a] w (fun o w' => o = .inl (some (.int S.brights)) ∧ isS G w' lo a Z gs gl gr S.burn ∧ wFr (hP lo) w w') := by
  refine Sp.of rfl (by decide +kernel) kX2_burn (wd_le rfl) ?_
  refine WW.ok fun ok => ?_
  replace ok : wdOk G w := ok
  have h1 := hS.1.1
  refine WW.run (pc' := 3) (lv' := [(1, .int (nI 0)), (0, .ref a)]) (st' := [.ref a]) 3 rfl ?_
  refine WW.get rfl fX2_18 h1 (show _ = some (.ref (Z 1)) from rfl) ?_
  have hl := hS.2.1.2.1
  obtain ⟨mc0, hl0⟩ := hl.1
  refine WW.callV [] (Z 1) [] rfl mX2_25 (sL_iterator hl) (wdRecv.obj hl0 rfl) rfl rfl (wd_le rfl) (wd_le rfl) (wd_le rfl) (wd_le rfl) (fun o w' hq => ?_)
  obtain ⟨it, mc, hit, rfl, hw, hmc⟩ := hq
  show WW _ _ _ 9 _ [.ref it] _
  refine WW.run (pc' := 10) (lv' := [(2, .ref it), (1, .int (nI 0)), (0, .ref a)]) (st' := []) 1 rfl ?_
  have fr0 : wFr nP w w' := by rw [hw]; exact (wFr.refl _ _).new hit
  have hS0 := hS.fr ok fr0
  have hmc' : w'.1 10 (Z 1) = some (.inl [.int mc, .ref (Z 4), .int (nI S.nl)]) := fr0.at ok hmc (fun z => z)
  have hsame := burnTo_same S
  refine WW.each (X := (l, G, MX2_burn, 3, 1, 4, _)) (r := (RX5, TX5, 5)) (g := gl) 4 10 29 64 (fun _ => 0) (fun _ => 0) (fun i => [(2, .ref it), (1, .int (S.burnN i)), (0, .ref a)]) (fun i => [(3, .ref (gl i)), (2, .ref it), (1, .int (S.burnN i)), (0, .ref a)]) (fun i u => wFr (hP lo) w u ∧ isS G u lo a Z gs gl gr (S.burnTo i) ∧ u.1 10 (Z 1) = some (.inl [.int mc, .ref (Z 4), .int (nI S.nl)])) (fun i u h => ⟨by have h2 := h.2.1.2.1.2.1; rw [(hsame i).2.1] at h2; exact h2, h.2.2⟩) (fun i u hi h => ⟨_, (h.2.1.2.2.2.2.1.1 i (by rw [(hsame i).2.1]; exact hi)).1⟩) (fun i u p h => ?_) (fun _ => rfl) rfl mX2_29 rfl rfl (fun _ => rfl) rfl mX2_35 rfl rfl lX2_49 (fun _ => rfl) (wd_le rfl) (fun i u hi hI hIt ih => ?_) (fun u hI => ?_) ⟨fr0.mono (fun _ _ z => absurd z (fun z => z)), hS0, hmc'⟩ ⟨-1, by rw [hw]; exact wNew_same _ _ _ _⟩
  · exact ⟨h.1.put (Or.inr hit), h.2.1.k11 it p, (wPut_k (by decide)).trans h.2.2⟩
  · obtain ⟨fr, hS1, hm⟩ := hI
    have hs := hsame i
    have hW1 := hW.burnTo i
    have hi' : i < (S.burnTo i).nl := by rw [hs.2.1]; exact hi
    rw [show S.burnTo (i + 1) = (S.burnTo i).burn1 i from rfl, show S.burnN (i + 1) = S.burnN i + bI ((S.burnTo i).glow i) from rfl] at ih
    generalize S.burnTo i = T at hS1 hW1 ih hs hi'
    generalize S.burnN i = acc at ih
    have h1 := hS1.1.1
    have hla := (hS1.2.2.2.2.1.1 i hi').1
    have hlo := (hS1.2.2.2.2.1.1 i hi').2
    refine WW.run (pc' := 31) (lv' := [(3, .ref (gl i)), (2, .ref it), (1, .int acc), (0, .ref a)]) (st' := [.ref a, .ref a]) 2 rfl ?_
    refine WW.get rfl fX2_56 h1 (show _ = some (.int T.oil) from rfl) ?_
    refine WW.run (pc' := 36) (lv' := [(3, .ref (gl i)), (2, .ref it), (1, .int acc), (0, .ref a)]) (st' := [.ref a, .ref (gl i), .int T.oil, .ref a]) 2 rfl ?_
    refine WW.get rfl fX2_56 h1 (show _ = some (.int T.oil) from rfl) ?_
    refine WW.callV [.int T.oil] (gl i) [.int T.oil, .ref a] rfl mX2_161 (sP_burn hla (hW1.le hi') T.oil) (wdRecv.obj hla rfl) rfl rfl (wd_le rfl) (wd_le rfl) (wd_le rfl) (wd_le rfl) (fun o w' hq => ?_)
    obtain ⟨rfl, hw9⟩ := hq
    show WW _ _ _ 42 _ [.int (bif T.glow i then (T.la i).lv else nI 0), .int T.oil, .ref a] _
    rw [hw9]
    have hS2 := hS1.putLa (i := i) hi' ((T.la i).lv, (T.la i).le, (T.la i).en, (T.la i).br + bI (T.glow i), T.glow i)
    have fr2 : wFr (hP lo) w (wPut u 4 (gl i) (.inl (laF ((T.la i).lv, (T.la i).le, (T.la i).en, (T.la i).br + bI (T.glow i), T.glow i)))) := fr.put (Or.inl hlo)
    have hm2 : (wPut u 4 (gl i) (.inl (laF ((T.la i).lv, (T.la i).le, (T.la i).en, (T.la i).br + bI (T.glow i), T.glow i)))).1 10 (Z 1) = some (.inl [.int mc, .ref (Z 4), .int (nI S.nl)]) := (wPut_k (by decide)).trans hm
    have hIt2 : isIt (wPut u 4 (gl i) (.inl (laF ((T.la i).lv, (T.la i).le, (T.la i).en, (T.la i).br + bI (T.glow i), T.glow i)))) it (Z 1) (i + 1) mc := hIt.put (by decide)
    change WW _ _ _ _ _ _ (wPut u 4 (gl i) (.inl (laF ((T.la i).lv, (T.la i).le, (T.la i).en, (T.la i).br + bI (T.glow i), T.glow i))))
    generalize wPut u 4 (gl i) (.inl (laF ((T.la i).lv, (T.la i).le, (T.la i).en, (T.la i).br + bI (T.glow i), T.glow i))) = w2 at hS2 fr2 hm2 hIt2 ⊢
    have h1b := hS2.1.1
    refine WW.run (pc' := 43) (lv' := [(3, .ref (gl i)), (2, .ref it), (1, .int acc), (0, .ref a)]) (st' := [.int (T.oil - (bif T.glow i then (T.la i).lv else nI 0)), .ref a]) 1 rfl ?_
    refine WW.put [.ref (Z 0), .ref (Z 1), .ref (Z 2), .int (T.oil - (bif T.glow i then (T.la i).lv else nI 0)), .int T.hour, .int T.office, .int T.refused] rfl pfX2_56 h1b (wd_le rfl) rfl rfl rfl ?_
    have h3 : (wPut w2 1 a (.inl [.ref (Z 0), .ref (Z 1), .ref (Z 2), .int (T.oil - (bif T.glow i then (T.la i).lv else nI 0)), .int T.hour, .int T.office, .int T.refused])).1 1 a = some (.inl [.ref (Z 0), .ref (Z 1), .ref (Z 2), .int (T.oil - (bif T.glow i then (T.la i).lv else nI 0)), .int T.hour, .int T.office, .int T.refused]) := wPut_same _ _ _ _
    have hS3 : isS G (wPut w2 1 a (.inl [.ref (Z 0), .ref (Z 1), .ref (Z 2), .int (T.oil - (bif T.glow i then (T.la i).lv else nI 0)), .int T.hour, .int T.office, .int T.refused])) lo a Z gs gl gr (T.burn1 i) := hS2.putO (T.burn1 i) rfl rfl rfl
    have fr3 : wFr (hP lo) w (wPut w2 1 a (.inl [.ref (Z 0), .ref (Z 1), .ref (Z 2), .int (T.oil - (bif T.glow i then (T.la i).lv else nI 0)), .int T.hour, .int T.office, .int T.refused])) := fr2.put (Or.inl hS1.1.2)
    have hm3 : (wPut w2 1 a (.inl [.ref (Z 0), .ref (Z 1), .ref (Z 2), .int (T.oil - (bif T.glow i then (T.la i).lv else nI 0)), .int T.hour, .int T.office, .int T.refused])).1 10 (Z 1) = some (.inl [.int mc, .ref (Z 4), .int (nI S.nl)]) := (wPut_k (by decide)).trans hm2
    have hIt3 : isIt (wPut w2 1 a (.inl [.ref (Z 0), .ref (Z 1), .ref (Z 2), .int (T.oil - (bif T.glow i then (T.la i).lv else nI 0)), .int T.hour, .int T.office, .int T.refused])) it (Z 1) (i + 1) mc := hIt2.put (by decide)
    obtain ⟨w3, hw3⟩ : ∃ w3, w3 = (wPut w2 1 a (.inl [.ref (Z 0), .ref (Z 1), .ref (Z 2), .int (T.oil - (bif T.glow i then (T.la i).lv else nI 0)), .int T.hour, .int T.office, .int T.refused])) := ⟨_, rfl⟩
    rw [← hw3] at hS3 fr3 hm3 hIt3 ⊢
    have hla3 := (hS3.2.2.2.2.1.1 i hi').1
    rw [show (T.burn1 i).la i = ((T.la i).lv, (T.la i).le, (T.la i).en, (T.la i).br + bI (T.glow i), T.glow i) from va_up_self _ _ _] at hla3
    generalize hg : T.glow i = g at ih hla3
    refine WW.run (pc' := 48) (lv' := [(3, .ref (gl i)), (2, .ref it), (1, .int acc), (0, .ref a)]) (st' := [.ref (gl i), .int acc]) 2 rfl ?_
    refine WW.get rfl fX2_164 hla3 (show _ = some (.int (bI g)) from rfl) ?_
    refine WW.join (pc' := 59) (lv' := [(3, .ref (gl i)), (2, .ref it), (1, .int acc), (0, .ref a)]) (st' := [.int (bI g), .int acc]) ?_ ?_
    rotate_left
    · cases hb : g with
      | false =>
        intro H
        refine WW.if_eq (tgt := 58) rfl rfl (fun _ => ?_) (fun hno => absurd rfl hno)
        refine WW.run (pc' := 59) (lv' := [(3, .ref (gl i)), (2, .ref it), (1, .int acc), (0, .ref a)]) (st' := [.int (nI 0), .int acc]) 1 rfl ?_
        exact H
      | true =>
        intro H
        refine WW.if_eq (tgt := 58) rfl rfl (fun hno => absurd hno (by decide)) (fun _ => ?_)
        refine WW.run (pc' := 59) (lv' := [(3, .ref (gl i)), (2, .ref it), (1, .int acc), (0, .ref a)]) (st' := [.int (nI 1), .int acc]) 2 rfl ?_
        exact H
    refine WW.run (pc' := 10) (lv' := [(1, .int (acc + (bI g))), (3, .ref (gl i)), (2, .ref it), (0, .ref a)]) (st' := []) 3 rfl ?_
    refine WW.pick (lv' := [(2, .ref it), (1, .int (acc + (bI g))), (0, .ref a)]) [2, 0, 3] rfl ?_
    exact ih _ ⟨fr3, hS3, hm3⟩ hIt3
  · obtain ⟨fr, hS1, hm⟩ := hI
    refine WW.run (pc' := 65) (lv' := [(2, .ref it), (1, .int S.brights), (0, .ref a)]) (st' := [.int S.brights]) 1 rfl ?_
    exact WW.iret rfl rfl rfl ⟨rfl, hS1, fr⟩
theorem cS_endLeases (hS : isS G w lo a Z gs gl gr S) (hW : aWf S) : Sp l G MX2_endLeases 4 0 0 [.ref a] w (fun o w' => o = .inl (some (.int (S.endN S.nl))) ∧ (∃ gr', isS G w' lo a Z gs gl gr' (S.endTo S.nl)) ∧ wFr (hP lo) w w') := by
  have h8 := hW.2.1
  refine Sp.of rfl (by decide +kernel) kX2_endLeases (wd_le rfl) ?_
  refine WW.run (pc' := 4) (lv' := [(2, .int (nI 0)), (1, .int (nI 0)), (0, .ref a)]) (st' := []) 4 rfl ?_
  refine WW.upW S.nl (fun _ => 0) (fun _ => 0) (fun i => [(2, .int (nI i)), (1, .int (S.endN i)), (0, .ref a)]) (fun i u => (∃ gr', isS G u lo a Z gs gl gr' (S.endTo i)) ∧ wFr (hP lo) w u) (fun i u hi hI ih => ?_) (fun u hI => ?_) ⟨⟨gr, hS⟩, wFr.refl _ _⟩
  · obtain ⟨⟨gr1, hS1⟩, fr⟩ := hI
    have hW1 := hW.endTo i
    obtain ⟨hns, hnl⟩ := endTo_same S i
    rw [show S.endTo (i + 1) = (S.endTo i).end1 i from rfl, show S.endN (i + 1) = S.endN i + bI ((S.endTo i).over i) from rfl] at ih
    generalize S.endTo i = T at hS1 hW1 ih hns hnl
    generalize S.endN i = acc at ih
    have hov : T.over i = (Nat.blt 0 (T.la i).le && decide ((T.la i).en = T.hour)) := rfl
    unfold aS.end1 at ih
    have hi' : i < T.nl := by omega
    have h1 := hS1.1.1
    have hla := (hS1.2.2.2.2.1.1 i hi').1
    have hl := hS1.2.1.2.1
    obtain ⟨mc0, hl0⟩ := hl.1
    refine WW.run (pc' := 6) (lv' := [(2, .int (nI i)), (1, .int acc), (0, .ref a)]) (st' := [.ref a, .int (nI i)]) 2 rfl ?_
    refine WW.get rfl fX2_18 h1 (show _ = some (.ref (Z 1)) from rfl) ?_
    refine WW.callV [] (Z 1) [.int (nI i)] rfl mX2_69 (sL_size hl) (wdRecv.obj hl0 rfl) rfl rfl (wd_le rfl) (wd_le rfl) (wd_le rfl) (wd_le rfl) (fun o w' hq => ?_)
    obtain ⟨rfl, hw9⟩ := hq
    show WW _ _ _ 12 _ [.int (nI T.nl), .int (nI i)] _
    rw [hw9]
    clear hw9 w'
    refine WW.icmp_ge (tgt := 67) rfl rfl (fun hno => absurd hno (nI_ge hi' (by omega))) (fun _ => ?_)
    refine WW.run (pc' := 16) (lv' := [(2, .int (nI i)), (1, .int acc), (0, .ref a)]) (st' := [.ref a]) 1 rfl ?_
    refine WW.get rfl fX2_18 h1 (show _ = some (.ref (Z 1)) from rfl) ?_
    refine WW.run (pc' := 20) (lv' := [(2, .int (nI i)), (1, .int acc), (0, .ref a)]) (st' := [.int (nI i), .ref (Z 1)]) 1 rfl ?_
    refine WW.callV [.int (nI i)] (Z 1) [] rfl mX2_81 (sL_get hl hi') (wdRecv.obj hl0 rfl) rfl rfl (wd_le rfl) (wd_le rfl) (wd_le rfl) (wd_le rfl) (fun o w' hq => ?_)
    obtain ⟨rfl, hw9⟩ := hq
    show WW _ _ _ 23 _ [.ref (gl i)] _
    rw [hw9]
    clear hw9 w'
    refine WW.castY rfl hla rfl lX2_49 (Or.inl rfl) ?_
    refine WW.callV [] (gl i) [] rfl mX2_89 (sP_isLeased hla (hW1.le hi')) (wdRecv.obj hla rfl) rfl rfl (wd_le rfl) (wd_le rfl) (wd_le rfl) (wd_le rfl) (fun o w' hq => ?_)
    obtain ⟨rfl, hw9⟩ := hq
    show WW _ _ _ 29 _ [.int (bI (Nat.blt 0 (T.la i).le))] _
    rw [hw9]
    clear hw9 w'
    cases h0 : Nat.blt 0 (T.la i).le with
    | false =>
      refine WW.if_eq (tgt := 61) rfl rfl (fun _ => ?_) (fun hno => absurd rfl hno)
      refine WW.run (pc' := 4) (lv' := [(2, .int ((nI i) + nI 1)), (1, .int acc), (0, .ref a)]) (st' := []) 2 rfl ?_
      refine WW.pick (lv' := [(2, .int ((nI i) + nI 1)), (1, .int acc), (0, .ref a)]) [0, 1, 2] rfl ?_
      rw [nI_add]
      rw [hov, h0] at ih
      have h9 := ih _ ⟨⟨gr1, hS1⟩, fr⟩
      rw [show acc + bI (false && decide ((T.la i).en = T.hour)) = acc from Int32.add_n0 acc] at h9
      exact h9
    | true =>
      refine WW.if_eq (tgt := 61) rfl rfl (fun hno => absurd hno (by decide)) (fun _ => ?_)
      refine WW.run (pc' := 33) (lv' := [(2, .int (nI i)), (1, .int acc), (0, .ref a)]) (st' := [.ref a]) 1 rfl ?_
      refine WW.get rfl fX2_18 h1 (show _ = some (.ref (Z 1)) from rfl) ?_
      refine WW.run (pc' := 37) (lv' := [(2, .int (nI i)), (1, .int acc), (0, .ref a)]) (st' := [.int (nI i), .ref (Z 1)]) 1 rfl ?_
      refine WW.callV [.int (nI i)] (Z 1) [] rfl mX2_81 (sL_get hl hi') (wdRecv.obj hl0 rfl) rfl rfl (wd_le rfl) (wd_le rfl) (wd_le rfl) (wd_le rfl) (fun o w' hq => ?_)
      obtain ⟨rfl, hw9⟩ := hq
      show WW _ _ _ 40 _ [.ref (gl i)] _
      rw [hw9]
      clear hw9 w'
      refine WW.castY rfl hla rfl lX2_49 (Or.inl rfl) ?_
      refine WW.get rfl fX2_133 hla (show _ = some (.int ((T.la i).2.2.1)) from rfl) ?_
      refine WW.run (pc' := 47) (lv' := [(2, .int (nI i)), (1, .int acc), (0, .ref a)]) (st' := [.ref a, .int ((T.la i).2.2.1)]) 1 rfl ?_
      refine WW.get rfl fX2_60 h1 (show _ = some (.int T.hour) from rfl) ?_
      by_cases h2 : (T.la i).en = T.hour
      · skip
        refine WW.icmp_ne (tgt := 61) rfl rfl (fun hno => absurd h2 hno) (fun _ => ?_)
        rw [hov, h0, decide_eq_true h2] at ih
        refine WW.run (pc' := 55) (lv' := [(2, .int (nI i)), (1, .int acc), (0, .ref a)]) (st' := [.int (nI i), .ref a]) 2 rfl ?_
        refine WW.callV [.int (nI i)] a [] rfl mX2_148 (cS_endLease hS1 hW1 hi') (wdRecv.obj h1 rfl) rfl rfl (wd_le rfl) (wd_le rfl) (wd_le rfl) (wd_le rfl) (fun o w' hq => ?_)
        obtain ⟨rfl, hS2, fr2⟩ := hq
        show WW _ _ _ 58 _ [] _
        refine WW.run (pc' := 4) (lv' := [(2, .int ((nI i) + nI 1)), (1, .int (acc + nI 1)), (0, .ref a)]) (st' := []) 3 rfl ?_
        refine WW.pick (lv' := [(2, .int ((nI i) + nI 1)), (1, .int (acc + nI 1)), (0, .ref a)]) [0, 1, 2] rfl ?_
        rw [nI_add]
        exact ih _ ⟨hS2, fr.thn fr2 (fun _ _ z => z)⟩
      · skip
        refine WW.icmp_ne (tgt := 61) rfl rfl (fun _ => ?_) (fun hno => absurd hno h2)
        rw [hov, h0, decide_eq_false h2] at ih
        refine WW.run (pc' := 4) (lv' := [(2, .int ((nI i) + nI 1)), (1, .int acc), (0, .ref a)]) (st' := []) 2 rfl ?_
        refine WW.pick (lv' := [(2, .int ((nI i) + nI 1)), (1, .int acc), (0, .ref a)]) [0, 1, 2] rfl ?_
        rw [nI_add]
        have h9 := ih _ ⟨⟨gr1, hS1⟩, fr⟩
        rw [show acc + bI (true && false) = acc from Int32.add_n0 acc] at h9
        exact h9
  · obtain ⟨⟨gr1, hS1⟩, fr⟩ := hI
    obtain ⟨hns, hnl⟩ := endTo_same S S.nl
    have h1 := hS1.1.1
    have hl := hS1.2.1.2.1
    obtain ⟨mc0, hl0⟩ := hl.1
    refine WW.run (pc' := 6) (lv' := [(2, .int (nI S.nl)), (1, .int (S.endN S.nl)), (0, .ref a)]) (st' := [.ref a, .int (nI S.nl)]) 2 rfl ?_
    refine WW.get rfl fX2_18 h1 (show _ = some (.ref (Z 1)) from rfl) ?_
    refine WW.callV [] (Z 1) [.int (nI S.nl)] rfl mX2_69 (sL_size hl) (wdRecv.obj hl0 rfl) rfl rfl (wd_le rfl) (wd_le rfl) (wd_le rfl) (wd_le rfl) (fun o w' hq => ?_)
    obtain ⟨rfl, hw9⟩ := hq
    show WW _ _ _ 12 _ [.int (nI ((S.endTo S.nl).nl)), .int (nI S.nl)] _
    rw [hw9]
    refine WW.icmp_ge (tgt := 67) rfl rfl (fun _ => ?_) (fun hno => absurd (by rw [hnl]; exact Int32.le_refl _) hno)
    refine WW.run (pc' := 68) (lv' := [(2, .int (nI S.nl)), (1, .int (S.endN S.nl)), (0, .ref a)]) (st' := [.int (S.endN S.nl)]) 1 rfl ?_
    exact WW.iret rfl rfl rfl ⟨rfl, ⟨gr1, hS1⟩, fr⟩
end
