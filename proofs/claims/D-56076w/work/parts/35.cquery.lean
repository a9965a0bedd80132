set_option maxRecDepth 100000
/-! THE COMPONENT's QUESTIONS OF A STATE -/
theorem aAny_true {p : Nat → Bool} {i : Nat} : ∀ {n : Nat}, i < n → p i = true → aAny p n = true
  | 0, h, _ => absurd h (Nat.not_lt_zero _)
  | n + 1, h, hp => by
    show (aAny p n || p n) = true
    by_cases e : i = n
    · subst e; rw [hp]; simp
    · rw [aAny_true (n := n) (by omega) hp]; rfl
/-- the least end behind x, or -1 -/
def aS.next (S : aS) (x : Int32) : Nat → Int32
  | 0 => -1
  | i + 1 => bif (Nat.blt 0 (S.la i).le && decide (x < (S.la i).en)) && (decide (S.next x i = -1) || decide ((S.la i).en < S.next x i)) then (S.la i).en else S.next x i
def aS.after (S : aS) (x : Int32) : Int32 := aSum (fun i => bif Nat.blt 0 (S.la i).le && decide (x < (S.la i).en) then (S.la i).lv else nI 0) S.nl
section
variable {l : Launch} {G : wdG} {w : wdW} {lo a : Nat} {Z gs gl gr : Nat → Nat} {S : aS}
theorem cS_needs (hS : isS G w lo a Z gs gl gr S) (hW : aWf S) : Sp l G MX2_consumption 3 1 4 [.ref a] w (fun o w' => o = .inl (some (.int S.needs)) ∧ wFr nP w w') := by
  refine Sp.of rfl (by decide +kernel) kX2_consumption (wd_le rfl) ?_
  refine WW.ok fun ok => ?_
  replace ok : wdOk G w := ok
  have h1 := hS.1.1
  refine WW.run (pc' := 3) (lv' := [(1, .int (nI 0)), (0, .ref a)]) (st' := [.ref a]) 3 rfl ?_
  refine WW.get rfl fX2_18 h1 (show _ = some (.ref (Z 1)) from rfl) ?_
  have hl := hS.2.1.2.1
  obtain ⟨mc0, hl0⟩ := hl.1
  refine WW.callV [] (Z 1) [] rfl mX2_25 (sL_iterator hl) (wdRecv.obj hl0 rfl) rfl rfl (wd_le rfl) (wd_le rfl) (wd_le rfl) (wd_le rfl) (fun o w' hq => ?_)
  obtain ⟨it, mc, hit, rfl, hw, hmc⟩ := hq
  show WW _ _ _ 9 _ [.ref it] _
  refine WW.run (pc' := 10) (lv' := [(2, .ref it), (1, .int (nI 0)), (0, .ref a)]) (st' := []) 1 rfl ?_
  have hq0 := qInv.start ok hl hmc hit (.inl [.int (nI 0), .int (-1), .int mc, .ref (Z 1)])
  rw [← hw] at hq0
  refine WW.each 4 10 29 50 (fun _ => 0) (fun _ => 0) (fun i => [(2, .ref it), (1, .int (aSum (fun z => bif Nat.blt 0 (S.la z).le then (S.la z).lv else nI 0) i)), (0, .ref a)]) (fun i => [(3, .ref (gl i)), (2, .ref it), (1, .int (aSum (fun z => bif Nat.blt 0 (S.la z).le then (S.la z).lv else nI 0) i)), (0, .ref a)]) (fun _ u => qInv G w (Z 1) (Z 4) S.nl gl mc u) (fun _ _ h => h.2) (fun i u hi h => ⟨_, ((hS.fr ok h.1).2.2.2.2.1.1 i hi).1⟩) (fun _ _ p h => h.put hit p) (fun _ => rfl) rfl mX2_29 rfl rfl (fun _ => rfl) rfl mX2_35 rfl rfl lX2_49 (fun _ => rfl) (wd_le rfl) (fun i u hi hI hIt ih => ?_) (fun u hI => ?_) hq0 ⟨-1, by rw [hw]; exact wNew_same _ _ _ _⟩
  · skip
    have hla := ((hS.fr ok hI.1).2.2.2.2.1.1 i hi).1
    refine WW.run (pc' := 31) (lv' := [(3, .ref (gl i)), (2, .ref it), (1, .int (aSum (fun z => bif Nat.blt 0 (S.la z).le then (S.la z).lv else nI 0) i)), (0, .ref a)]) (st' := [.ref (gl i), .int (aSum (fun z => bif Nat.blt 0 (S.la z).le then (S.la z).lv else nI 0) i)]) 2 rfl ?_
    refine WW.callV [] (gl i) [.int (aSum (fun z => bif Nat.blt 0 (S.la z).le then (S.la z).lv else nI 0) i)] rfl mX2_89 (sP_isLeased hla (hW.le hi)) (wdRecv.obj hla rfl) rfl rfl (wd_le rfl) (wd_le rfl) (wd_le rfl) (wd_le rfl) (fun o w' hq => ?_)
    obtain ⟨rfl, hw9⟩ := hq
    show WW _ _ _ 34 _ [.int (bI (Nat.blt 0 (S.la i).le)), .int (aSum (fun z => bif Nat.blt 0 (S.la z).le then (S.la z).lv else nI 0) i)] _
    rw [hw9]
    clear hw9 w'
    refine WW.join (pc' := 45) (lv' := [(3, .ref (gl i)), (2, .ref it), (1, .int (aSum (fun z => bif Nat.blt 0 (S.la z).le then (S.la z).lv else nI 0) i)), (0, .ref a)]) (st' := [.int (bif Nat.blt 0 (S.la i).le then (S.la i).1 else nI 0), .int (aSum (fun z => bif Nat.blt 0 (S.la z).le then (S.la z).lv else nI 0) i)]) ?_ ?_
    rotate_left
    · cases hb : (Nat.blt 0 (S.la i).le) with
      | false =>
        intro H
        refine WW.if_eq (tgt := 44) rfl rfl (fun _ => ?_) (fun hno => absurd rfl hno)
        refine WW.run (pc' := 45) (lv' := [(3, .ref (gl i)), (2, .ref it), (1, .int (aSum (fun z => bif Nat.blt 0 (S.la z).le then (S.la z).lv else nI 0) i)), (0, .ref a)]) (st' := [.int (nI 0), .int (aSum (fun z => bif Nat.blt 0 (S.la z).le then (S.la z).lv else nI 0) i)]) 1 rfl ?_
        exact H
      | true =>
        intro H
        refine WW.if_eq (tgt := 44) rfl rfl (fun hno => absurd hno (by decide)) (fun _ => ?_)
        refine WW.run (pc' := 38) (lv' := [(3, .ref (gl i)), (2, .ref it), (1, .int (aSum (fun z => bif Nat.blt 0 (S.la z).le then (S.la z).lv else nI 0) i)), (0, .ref a)]) (st' := [.ref (gl i), .int (aSum (fun z => bif Nat.blt 0 (S.la z).le then (S.la z).lv else nI 0) i)]) 1 rfl ?_
        refine WW.get rfl fX2_99 hla (show _ = some (.int ((S.la i).1)) from rfl) ?_
        refine WW.run (pc' := 45) (lv' := [(3, .ref (gl i)), (2, .ref it), (1, .int (aSum (fun z => bif Nat.blt 0 (S.la z).le then (S.la z).lv else nI 0) i)), (0, .ref a)]) (st' := [.int ((S.la i).1), .int (aSum (fun z => bif Nat.blt 0 (S.la z).le then (S.la z).lv else nI 0) i)]) 1 rfl ?_
        exact H
    refine WW.run (pc' := 10) (lv' := [(1, .int ((aSum (fun z => bif Nat.blt 0 (S.la z).le then (S.la z).lv else nI 0) i) + (bif Nat.blt 0 (S.la i).le then (S.la i).1 else nI 0))), (3, .ref (gl i)), (2, .ref it), (0, .ref a)]) (st' := []) 3 rfl ?_
    refine WW.pick (lv' := [(2, .ref it), (1, .int ((aSum (fun z => bif Nat.blt 0 (S.la z).le then (S.la z).lv else nI 0) i) + (bif Nat.blt 0 (S.la i).le then (S.la i).1 else nI 0))), (0, .ref a)]) [2, 0, 3] rfl ?_
    exact ih _ hI hIt
  refine WW.run (pc' := 51) (lv' := [(2, .ref it), (1, .int (aSum (fun z => bif Nat.blt 0 (S.la z).le then (S.la z).lv else nI 0) S.nl)), (0, .ref a)]) (st' := [.int (aSum (fun z => bif Nat.blt 0 (S.la z).le then (S.la z).lv else nI 0) S.nl)]) 1 rfl ?_
  exact WW.iret rfl rfl rfl ⟨rfl, hI.1⟩
theorem cS_leasesOf (hS : isS G w lo a Z gs gl gr S) (hW : aWf S) {j : Nat} (hj : j < 2 ^ 30) : Sp l G MX2_leasesOf 3 1 4 [.ref a, .int (nI j)] w (fun o w' => o = .inl (some (.int (S.leasesOf j))) ∧ wFr nP w w') := by
  refine Sp.of rfl (by decide +kernel) kX2_leasesOf (wd_le rfl) ?_
  refine WW.ok fun ok => ?_
  replace ok : wdOk G w := ok
  have h1 := hS.1.1
  refine WW.run (pc' := 3) (lv' := [(2, .int (nI 0)), (0, .ref a), (1, .int (nI j))]) (st' := [.ref a]) 3 rfl ?_
  refine WW.get rfl fX2_18 h1 (show _ = some (.ref (Z 1)) from rfl) ?_
  have hl := hS.2.1.2.1
  obtain ⟨mc0, hl0⟩ := hl.1
  refine WW.callV [] (Z 1) [] rfl mX2_25 (sL_iterator hl) (wdRecv.obj hl0 rfl) rfl rfl (wd_le rfl) (wd_le rfl) (wd_le rfl) (wd_le rfl) (fun o w' hq => ?_)
  obtain ⟨it, mc, hit, rfl, hw, hmc⟩ := hq
  show WW _ _ _ 9 _ [.ref it] _
  refine WW.run (pc' := 10) (lv' := [(3, .ref it), (2, .int (nI 0)), (0, .ref a), (1, .int (nI j))]) (st' := []) 1 rfl ?_
  have hq0 := qInv.start ok hl hmc hit (.inl [.int (nI 0), .int (-1), .int mc, .ref (Z 1)])
  rw [← hw] at hq0
  refine WW.each 4 10 30 50 (fun _ => 0) (fun _ => 0) (fun i => [(3, .ref it), (2, .int (aSum (fun z => bI ((S.la z).le == j + 1)) i)), (0, .ref a), (1, .int (nI j))]) (fun i => [(4, .ref (gl i)), (3, .ref it), (2, .int (aSum (fun z => bI ((S.la z).le == j + 1)) i)), (0, .ref a), (1, .int (nI j))]) (fun _ u => qInv G w (Z 1) (Z 4) S.nl gl mc u) (fun _ _ h => h.2) (fun i u hi h => ⟨_, ((hS.fr ok h.1).2.2.2.2.1.1 i hi).1⟩) (fun _ _ p h => h.put hit p) (fun _ => rfl) rfl mX2_29 rfl rfl (fun _ => rfl) rfl mX2_35 rfl rfl lX2_49 (fun _ => rfl) (wd_le rfl) (fun i u hi hI hIt ih => ?_) (fun u hI => ?_) hq0 ⟨-1, by rw [hw]; exact wNew_same _ _ _ _⟩
  · skip
    have hla := ((hS.fr ok hI.1).2.2.2.2.1.1 i hi).1
    refine WW.run (pc' := 34) (lv' := [(4, .ref (gl i)), (3, .ref it), (2, .int (aSum (fun z => bI ((S.la z).le == j + 1)) i)), (0, .ref a), (1, .int (nI j))]) (st' := [.int (nI j), .ref (gl i), .int (aSum (fun z => bI ((S.la z).le == j + 1)) i)]) 3 rfl ?_
    refine WW.callV [.int (nI j)] (gl i) [.int (aSum (fun z => bI ((S.la z).le == j + 1)) i)] rfl mX2_95 (sP_isLeasedTo hla (hW.le hi) hj) (wdRecv.obj hla rfl) rfl rfl (wd_le rfl) (wd_le rfl) (wd_le rfl) (wd_le rfl) (fun o w' hq => ?_)
    obtain ⟨rfl, hw9⟩ := hq
    show WW _ _ _ 37 _ [.int (bI ((S.la i).le == j + 1)), .int (aSum (fun z => bI ((S.la z).le == j + 1)) i)] _
    rw [hw9]
    clear hw9 w'
    refine WW.join (pc' := 45) (lv' := [(4, .ref (gl i)), (3, .ref it), (2, .int (aSum (fun z => bI ((S.la z).le == j + 1)) i)), (0, .ref a), (1, .int (nI j))]) (st' := [.int (bI ((S.la i).le == j + 1)), .int (aSum (fun z => bI ((S.la z).le == j + 1)) i)]) ?_ ?_
    rotate_left
    · cases hb : ((S.la i).le == j + 1) with
      | false =>
        intro H
        refine WW.if_eq (tgt := 44) rfl rfl (fun _ => ?_) (fun hno => absurd rfl hno)
        refine WW.run (pc' := 45) (lv' := [(4, .ref (gl i)), (3, .ref it), (2, .int (aSum (fun z => bI ((S.la z).le == j + 1)) i)), (0, .ref a), (1, .int (nI j))]) (st' := [.int (nI 0), .int (aSum (fun z => bI ((S.la z).le == j + 1)) i)]) 1 rfl ?_
        exact H
      | true =>
        intro H
        refine WW.if_eq (tgt := 44) rfl rfl (fun hno => absurd hno (by decide)) (fun _ => ?_)
        refine WW.run (pc' := 45) (lv' := [(4, .ref (gl i)), (3, .ref it), (2, .int (aSum (fun z => bI ((S.la z).le == j + 1)) i)), (0, .ref a), (1, .int (nI j))]) (st' := [.int (nI 1), .int (aSum (fun z => bI ((S.la z).le == j + 1)) i)]) 2 rfl ?_
        exact H
    refine WW.run (pc' := 10) (lv' := [(2, .int ((aSum (fun z => bI ((S.la z).le == j + 1)) i) + (bI ((S.la i).le == j + 1)))), (4, .ref (gl i)), (3, .ref it), (0, .ref a), (1, .int (nI j))]) (st' := []) 3 rfl ?_
    refine WW.pick (lv' := [(3, .ref it), (2, .int ((aSum (fun z => bI ((S.la z).le == j + 1)) i) + (bI ((S.la i).le == j + 1)))), (0, .ref a), (1, .int (nI j))]) [2, 0, 3, 4] rfl ?_
    exact ih _ hI hIt
  refine WW.run (pc' := 51) (lv' := [(3, .ref it), (2, .int (aSum (fun z => bI ((S.la z).le == j + 1)) S.nl)), (0, .ref a), (1, .int (nI j))]) (st' := [.int (aSum (fun z => bI ((S.la z).le == j + 1)) S.nl)]) 1 rfl ?_
  exact WW.iret rfl rfl rfl ⟨rfl, hI.1⟩
theorem cS_demand (hS : isS G w lo a Z gs gl gr S) (hW : aWf S) {j : Nat} (hj : j < 2 ^ 30) : Sp l G MX2_demand 3 1 4 [.ref a, .int (nI j)] w (fun o w' => o = .inl (some (.int (S.demand j))) ∧ wFr nP w w') := by
  refine Sp.of rfl (by decide +kernel) kX2_demand (wd_le rfl) ?_
  refine WW.ok fun ok => ?_
  replace ok : wdOk G w := ok
  have h1 := hS.1.1
  refine WW.run (pc' := 3) (lv' := [(2, .int (nI 0)), (0, .ref a), (1, .int (nI j))]) (st' := [.ref a]) 3 rfl ?_
  refine WW.get rfl fX2_18 h1 (show _ = some (.ref (Z 1)) from rfl) ?_
  have hl := hS.2.1.2.1
  obtain ⟨mc0, hl0⟩ := hl.1
  refine WW.callV [] (Z 1) [] rfl mX2_25 (sL_iterator hl) (wdRecv.obj hl0 rfl) rfl rfl (wd_le rfl) (wd_le rfl) (wd_le rfl) (wd_le rfl) (fun o w' hq => ?_)
  obtain ⟨it, mc, hit, rfl, hw, hmc⟩ := hq
  show WW _ _ _ 9 _ [.ref it] _
  refine WW.run (pc' := 10) (lv' := [(3, .ref it), (2, .int (nI 0)), (0, .ref a), (1, .int (nI j))]) (st' := []) 1 rfl ?_
  have hq0 := qInv.start ok hl hmc hit (.inl [.int (nI 0), .int (-1), .int mc, .ref (Z 1)])
  rw [← hw] at hq0
  refine WW.each 4 10 30 54 (fun _ => 0) (fun _ => 0) (fun i => [(3, .ref it), (2, .int (aSum (fun z => bif (S.la z).le == j + 1 then (S.la z).lv else nI 0) i)), (0, .ref a), (1, .int (nI j))]) (fun i => [(4, .ref (gl i)), (3, .ref it), (2, .int (aSum (fun z => bif (S.la z).le == j + 1 then (S.la z).lv else nI 0) i)), (0, .ref a), (1, .int (nI j))]) (fun _ u => qInv G w (Z 1) (Z 4) S.nl gl mc u) (fun _ _ h => h.2) (fun i u hi h => ⟨_, ((hS.fr ok h.1).2.2.2.2.1.1 i hi).1⟩) (fun _ _ p h => h.put hit p) (fun _ => rfl) rfl mX2_29 rfl rfl (fun _ => rfl) rfl mX2_35 rfl rfl lX2_49 (fun _ => rfl) (wd_le rfl) (fun i u hi hI hIt ih => ?_) (fun u hI => ?_) hq0 ⟨-1, by rw [hw]; exact wNew_same _ _ _ _⟩
  · skip
    have hla := ((hS.fr ok hI.1).2.2.2.2.1.1 i hi).1
    refine WW.run (pc' := 34) (lv' := [(4, .ref (gl i)), (3, .ref it), (2, .int (aSum (fun z => bif (S.la z).le == j + 1 then (S.la z).lv else nI 0) i)), (0, .ref a), (1, .int (nI j))]) (st' := [.int (nI j), .ref (gl i), .int (aSum (fun z => bif (S.la z).le == j + 1 then (S.la z).lv else nI 0) i)]) 3 rfl ?_
    refine WW.callV [.int (nI j)] (gl i) [.int (aSum (fun z => bif (S.la z).le == j + 1 then (S.la z).lv else nI 0) i)] rfl mX2_95 (sP_isLeasedTo hla (hW.le hi) hj) (wdRecv.obj hla rfl) rfl rfl (wd_le rfl) (wd_le rfl) (wd_le rfl) (wd_le rfl) (fun o w' hq => ?_)
    obtain ⟨rfl, hw9⟩ := hq
    show WW _ _ _ 37 _ [.int (bI ((S.la i).le == j + 1)), .int (aSum (fun z => bif (S.la z).le == j + 1 then (S.la z).lv else nI 0) i)] _
    rw [hw9]
    clear hw9 w'
    refine WW.join (pc' := 49) (lv' := [(4, .ref (gl i)), (3, .ref it), (2, .int (aSum (fun z => bif (S.la z).le == j + 1 then (S.la z).lv else nI 0) i)), (0, .ref a), (1, .int (nI j))]) (st' := [.int (bif (S.la i).le == j + 1 then (S.la i).1 else nI 0), .int (aSum (fun z => bif (S.la z).le == j + 1 then (S.la z).lv else nI 0) i)]) ?_ ?_
    rotate_left
    · cases hb : ((S.la i).le == j + 1) with
      | false =>
        intro H
        refine WW.if_eq (tgt := 48) rfl rfl (fun _ => ?_) (fun hno => absurd rfl hno)
        refine WW.run (pc' := 49) (lv' := [(4, .ref (gl i)), (3, .ref it), (2, .int (aSum (fun z => bif (S.la z).le == j + 1 then (S.la z).lv else nI 0) i)), (0, .ref a), (1, .int (nI j))]) (st' := [.int (nI 0), .int (aSum (fun z => bif (S.la z).le == j + 1 then (S.la z).lv else nI 0) i)]) 1 rfl ?_
        exact H
      | true =>
        intro H
        refine WW.if_eq (tgt := 48) rfl rfl (fun hno => absurd hno (by decide)) (fun _ => ?_)
        refine WW.run (pc' := 42) (lv' := [(4, .ref (gl i)), (3, .ref it), (2, .int (aSum (fun z => bif (S.la z).le == j + 1 then (S.la z).lv else nI 0) i)), (0, .ref a), (1, .int (nI j))]) (st' := [.ref (gl i), .int (aSum (fun z => bif (S.la z).le == j + 1 then (S.la z).lv else nI 0) i)]) 1 rfl ?_
        refine WW.get rfl fX2_99 hla (show _ = some (.int ((S.la i).1)) from rfl) ?_
        refine WW.run (pc' := 49) (lv' := [(4, .ref (gl i)), (3, .ref it), (2, .int (aSum (fun z => bif (S.la z).le == j + 1 then (S.la z).lv else nI 0) i)), (0, .ref a), (1, .int (nI j))]) (st' := [.int ((S.la i).1), .int (aSum (fun z => bif (S.la z).le == j + 1 then (S.la z).lv else nI 0) i)]) 1 rfl ?_
        exact H
    refine WW.run (pc' := 10) (lv' := [(2, .int ((aSum (fun z => bif (S.la z).le == j + 1 then (S.la z).lv else nI 0) i) + (bif (S.la i).le == j + 1 then (S.la i).1 else nI 0))), (4, .ref (gl i)), (3, .ref it), (0, .ref a), (1, .int (nI j))]) (st' := []) 3 rfl ?_
    refine WW.pick (lv' := [(3, .ref it), (2, .int ((aSum (fun z => bif (S.la z).le == j + 1 then (S.la z).lv else nI 0) i) + (bif (S.la i).le == j + 1 then (S.la i).1 else nI 0))), (0, .ref a), (1, .int (nI j))]) [2, 0, 3, 4] rfl ?_
    exact ih _ hI hIt
  refine WW.run (pc' := 55) (lv' := [(3, .ref it), (2, .int (aSum (fun z => bif (S.la z).le == j + 1 then (S.la z).lv else nI 0) S.nl)), (0, .ref a), (1, .int (nI j))]) (st' := [.int (aSum (fun z => bif (S.la z).le == j + 1 then (S.la z).lv else nI 0) S.nl)]) 1 rfl ?_
  exact WW.iret rfl rfl rfl ⟨rfl, hI.1⟩
theorem cS_isRequested (hS : isS G w lo a Z gs gl gr S) (hW : aWf S) {x : Nat} (hx : x < 2 ^ 31) : Sp l G MX2_isRequested 3 1 4 [.ref a, .int (nI x)] w (fun o w' => o = .inl (some (.int (bI (S.isReq x)))) ∧ wFr nP w w') := by
  refine Sp.of rfl (by decide +kernel) kX2_isRequested (wd_le rfl) ?_
  refine WW.ok fun ok => ?_
  replace ok : wdOk G w := ok
  have h1 := hS.1.1
  refine WW.run (pc' := 1) (lv' := [(0, .ref a), (1, .int (nI x))]) (st' := [.ref a]) 1 rfl ?_
  refine WW.get rfl fX2_21 h1 (show _ = some (.ref (Z 2)) from rfl) ?_
  have hl := hS.2.1.2.2
  obtain ⟨mc0, hl0⟩ := hl.1
  refine WW.callV [] (Z 2) [] rfl mX2_25 (sL_iterator hl) (wdRecv.obj hl0 rfl) rfl rfl (wd_le rfl) (wd_le rfl) (wd_le rfl) (wd_le rfl) (fun o w' hq => ?_)
  obtain ⟨it, mc, hit, rfl, hw, hmc⟩ := hq
  show WW _ _ _ 7 _ [.ref it] _
  refine WW.run (pc' := 8) (lv' := [(2, .ref it), (0, .ref a), (1, .int (nI x))]) (st' := []) 1 rfl ?_
  have hq0 := qInv.start ok hl hmc hit (.inl [.int (nI 0), .int (-1), .int mc, .ref (Z 2)])
  rw [← hw] at hq0
  refine WW.each 6 8 27 40 (fun _ => 0) (fun _ => 0) (fun i => [(2, .ref it), (0, .ref a), (1, .int (nI x))]) (fun i => [(3, .ref (gr i)), (2, .ref it), (0, .ref a), (1, .int (nI x))]) (fun i u => qInv G w (Z 2) (Z 5) S.nr gr mc u ∧ (aAny (fun z => (S.rq z).1 == x) i = false)) (fun _ _ h => h.1.2) (fun i u hi h => ⟨_, ((hS.fr ok h.1.1).2.2.2.2.2 i hi)⟩) (fun _ _ p h => ⟨h.1.put hit p, h.2⟩) (fun _ => rfl) rfl mX2_29 rfl rfl (fun _ => rfl) rfl mX2_35 rfl rfl lX2_54 (fun _ => rfl) (wd_le rfl) (fun i u hi hI hIt ih => ?_) (fun u hI => ?_) ⟨hq0, rfl⟩ ⟨-1, by rw [hw]; exact wNew_same _ _ _ _⟩
  · skip
    have hla := ((hS.fr ok hI.1.1).2.2.2.2.2 i hi)
    refine WW.run (pc' := 28) (lv' := [(3, .ref (gr i)), (2, .ref it), (0, .ref a), (1, .int (nI x))]) (st' := [.ref (gr i)]) 1 rfl ?_
    refine WW.get rfl fX2_102 hla (show _ = some (.int (nI (S.rq i).1)) from rfl) ?_
    refine WW.run (pc' := 32) (lv' := [(3, .ref (gr i)), (2, .ref it), (0, .ref a), (1, .int (nI x))]) (st' := [.int (nI x), .int (nI (S.rq i).1)]) 1 rfl ?_
    have hb := (hW.2.2.2.2.1 i hi).1
    have hb2 := hW.2.1
    by_cases e : (S.rq i).1 = x
    · skip
      refine WW.icmp_ne (tgt := 37) rfl rfl (fun hno => absurd (by rw [e]) hno) (fun _ => ?_)
      refine WW.run (pc' := 36) (lv' := [(3, .ref (gr i)), (2, .ref it), (0, .ref a), (1, .int (nI x))]) (st' := [.int (nI 1)]) 1 rfl ?_
      exact WW.iret rfl rfl rfl ⟨by rw [show S.isReq x = true from aAny_true hi (by simp [e])]; rfl, hI.1.1⟩
    · skip
      refine WW.icmp_ne (tgt := 37) rfl rfl (fun _ => ?_) (fun hno => absurd hno (by rw [nI_eq (by omega) hx]; exact e))
      refine WW.run (pc' := 8) (lv' := [(3, .ref (gr i)), (2, .ref it), (0, .ref a), (1, .int (nI x))]) (st' := []) 1 rfl ?_
      refine WW.pick (lv' := [(2, .ref it), (0, .ref a), (1, .int (nI x))]) [1, 2, 3] rfl ?_
      exact ih _ ⟨hI.1, by show (aAny _ i || ((S.rq i).1 == x)) = false; rw [hI.2]; simp [e]⟩ hIt
  refine WW.run (pc' := 41) (lv' := [(2, .ref it), (0, .ref a), (1, .int (nI x))]) (st' := [.int (nI 0)]) 1 rfl ?_
  exact WW.iret rfl rfl rfl ⟨by rw [show S.isReq x = false from hI.2]; rfl, hI.1.1⟩
theorem cS_hasLight (hS : isS G w lo a Z gs gl gr S) (hW : aWf S) {j : Nat} (hj : j < 2 ^ 30) : Sp l G MX2_hasLight 3 1 4 [.ref a, .int (nI j)] w (fun o w' => o = .inl (some (.int (bI (S.lit j)))) ∧ wFr nP w w') := by
  refine Sp.of rfl (by decide +kernel) kX2_hasLight (wd_le rfl) ?_
  refine WW.ok fun ok => ?_
  replace ok : wdOk G w := ok
  have h1 := hS.1.1
  refine WW.run (pc' := 1) (lv' := [(0, .ref a), (1, .int (nI j))]) (st' := [.ref a]) 1 rfl ?_
  refine WW.get rfl fX2_18 h1 (show _ = some (.ref (Z 1)) from rfl) ?_
  have hl := hS.2.1.2.1
  obtain ⟨mc0, hl0⟩ := hl.1
  refine WW.callV [] (Z 1) [] rfl mX2_25 (sL_iterator hl) (wdRecv.obj hl0 rfl) rfl rfl (wd_le rfl) (wd_le rfl) (wd_le rfl) (wd_le rfl) (fun o w' hq => ?_)
  obtain ⟨it, mc, hit, rfl, hw, hmc⟩ := hq
  show WW _ _ _ 7 _ [.ref it] _
  refine WW.run (pc' := 8) (lv' := [(2, .ref it), (0, .ref a), (1, .int (nI j))]) (st' := []) 1 rfl ?_
  have hq0 := qInv.start ok hl hmc hit (.inl [.int (nI 0), .int (-1), .int mc, .ref (Z 1)])
  rw [← hw] at hq0
  refine WW.each 4 8 27 47 (fun _ => 0) (fun _ => 0) (fun i => [(2, .ref it), (0, .ref a), (1, .int (nI j))]) (fun i => [(3, .ref (gl i)), (2, .ref it), (0, .ref a), (1, .int (nI j))]) (fun i u => qInv G w (Z 1) (Z 4) S.nl gl mc u ∧ (aAny (fun z => (S.la z).le == j + 1 && (S.la z).was) i = false)) (fun _ _ h => h.1.2) (fun i u hi h => ⟨_, ((hS.fr ok h.1.1).2.2.2.2.1.1 i hi).1⟩) (fun _ _ p h => ⟨h.1.put hit p, h.2⟩) (fun _ => rfl) rfl mX2_29 rfl rfl (fun _ => rfl) rfl mX2_35 rfl rfl lX2_49 (fun _ => rfl) (wd_le rfl) (fun i u hi hI hIt ih => ?_) (fun u hI => ?_) ⟨hq0, rfl⟩ ⟨-1, by rw [hw]; exact wNew_same _ _ _ _⟩
  · skip
    have hla := ((hS.fr ok hI.1.1).2.2.2.2.1.1 i hi).1
    refine WW.run (pc' := 29) (lv' := [(3, .ref (gl i)), (2, .ref it), (0, .ref a), (1, .int (nI j))]) (st' := [.int (nI j), .ref (gl i)]) 2 rfl ?_
    refine WW.callV [.int (nI j)] (gl i) [] rfl mX2_95 (sP_isLeasedTo hla (hW.le hi) hj) (wdRecv.obj hla rfl) rfl rfl (wd_le rfl) (wd_le rfl) (wd_le rfl) (wd_le rfl) (fun o w' hq => ?_)
    obtain ⟨rfl, hw9⟩ := hq
    show WW _ _ _ 32 _ [.int (bI ((S.la i).le == j + 1))] _
    rw [hw9]
    clear hw9 w'
    cases h2 : ((S.la i).le == j + 1) with
    | false =>
      refine WW.if_eq (tgt := 44) rfl rfl (fun _ => ?_) (fun hno => absurd rfl hno)
      refine WW.run (pc' := 8) (lv' := [(3, .ref (gl i)), (2, .ref it), (0, .ref a), (1, .int (nI j))]) (st' := []) 1 rfl ?_
      refine WW.pick (lv' := [(2, .ref it), (0, .ref a), (1, .int (nI j))]) [1, 2, 3] rfl ?_
      exact ih _ ⟨hI.1, by show (aAny _ i || ((S.la i).le == j + 1 && (S.la i).2.2.2.2)) = false; rw [hI.2, h2]; rfl⟩ hIt
    | true =>
      refine WW.if_eq (tgt := 44) rfl rfl (fun hno => absurd hno (by decide)) (fun _ => ?_)
      refine WW.run (pc' := 36) (lv' := [(3, .ref (gl i)), (2, .ref it), (0, .ref a), (1, .int (nI j))]) (st' := [.ref (gl i)]) 1 rfl ?_
      refine WW.get rfl fX2_164 hla (show _ = some (.int (bI (S.la i).2.2.2.2)) from rfl) ?_
      cases h3 : (S.la i).2.2.2.2 with
      | false =>
        refine WW.if_eq (tgt := 44) rfl rfl (fun _ => ?_) (fun hno => absurd rfl hno)
        refine WW.run (pc' := 8) (lv' := [(3, .ref (gl i)), (2, .ref it), (0, .ref a), (1, .int (nI j))]) (st' := []) 1 rfl ?_
        refine WW.pick (lv' := [(2, .ref it), (0, .ref a), (1, .int (nI j))]) [1, 2, 3] rfl ?_
        exact ih _ ⟨hI.1, by show (aAny _ i || ((S.la i).le == j + 1 && (S.la i).2.2.2.2)) = false; rw [hI.2, h2, h3]; rfl⟩ hIt
      | true =>
        refine WW.if_eq (tgt := 44) rfl rfl (fun hno => absurd hno (by decide)) (fun _ => ?_)
        refine WW.run (pc' := 43) (lv' := [(3, .ref (gl i)), (2, .ref it), (0, .ref a), (1, .int (nI j))]) (st' := [.int (nI 1)]) 1 rfl ?_
        exact WW.iret rfl rfl rfl ⟨by rw [show S.lit j = true from aAny_true hi (by show ((S.la i).le == j + 1 && (S.la i).2.2.2.2) = true; rw [h2, h3]; rfl)]; rfl, hI.1.1⟩
  refine WW.run (pc' := 48) (lv' := [(2, .ref it), (0, .ref a), (1, .int (nI j))]) (st' := [.int (nI 0)]) 1 rfl ?_
  exact WW.iret rfl rfl rfl ⟨by rw [show S.lit j = false from hI.2]; rfl, hI.1.1⟩
theorem cS_nextEnd (hS : isS G w lo a Z gs gl gr S) (hW : aWf S) (x : Int32) : Sp l G MX2_nextEnd 3 1 4 [.ref a, .int x] w (fun o w' => o = .inl (some (.int (S.next x S.nl))) ∧ wFr nP w w') := by
  refine Sp.of rfl (by decide +kernel) kX2_nextEnd (wd_le rfl) ?_
  refine WW.ok fun ok => ?_
  replace ok : wdOk G w := ok
  have h1 := hS.1.1
  refine WW.run (pc' := 3) (lv' := [(2, .int (-1)), (0, .ref a), (1, .int x)]) (st' := [.ref a]) 3 rfl ?_
  refine WW.get rfl fX2_18 h1 (show _ = some (.ref (Z 1)) from rfl) ?_
  have hl := hS.2.1.2.1
  obtain ⟨mc0, hl0⟩ := hl.1
  refine WW.callV [] (Z 1) [] rfl mX2_25 (sL_iterator hl) (wdRecv.obj hl0 rfl) rfl rfl (wd_le rfl) (wd_le rfl) (wd_le rfl) (wd_le rfl) (fun o w' hq => ?_)
  obtain ⟨it, mc, hit, rfl, hw, hmc⟩ := hq
  show WW _ _ _ 9 _ [.ref it] _
  refine WW.run (pc' := 10) (lv' := [(3, .ref it), (2, .int (-1)), (0, .ref a), (1, .int x)]) (st' := []) 1 rfl ?_
  have hq0 := qInv.start ok hl hmc hit (.inl [.int (nI 0), .int (-1), .int mc, .ref (Z 1)])
  rw [← hw] at hq0
  refine WW.each 4 10 30 86 (fun _ => 0) (fun _ => 0) (fun i => [(3, .ref it), (2, .int (S.next x i)), (0, .ref a), (1, .int x)]) (fun i => [(4, .ref (gl i)), (3, .ref it), (2, .int (S.next x i)), (0, .ref a), (1, .int x)]) (fun _ u => qInv G w (Z 1) (Z 4) S.nl gl mc u) (fun _ _ h => h.2) (fun i u hi h => ⟨_, ((hS.fr ok h.1).2.2.2.2.1.1 i hi).1⟩) (fun _ _ p h => h.put hit p) (fun _ => rfl) rfl mX2_29 rfl rfl (fun _ => rfl) rfl mX2_35 rfl rfl lX2_49 (fun _ => rfl) (wd_le rfl) (fun i u hi hI hIt ih => ?_) (fun u hI => ?_) hq0 ⟨-1, by rw [hw]; exact wNew_same _ _ _ _⟩
  · skip
    have hla := ((hS.fr ok hI.1).2.2.2.2.1.1 i hi).1
    have hnx : S.next x (i + 1) = (bif (Nat.blt 0 (S.la i).le && decide (x < (S.la i).en)) && (decide (S.next x i = -1) || decide ((S.la i).en < S.next x i)) then (S.la i).en else S.next x i) := rfl
    rw [hnx] at ih
    generalize S.next x i = nx at ih
    refine WW.run (pc' := 32) (lv' := [(4, .ref (gl i)), (3, .ref it), (2, .int nx), (0, .ref a), (1, .int x)]) (st' := [.ref (gl i)]) 1 rfl ?_
    refine WW.callV [] (gl i) [] rfl mX2_89 (sP_isLeased hla (hW.le hi)) (wdRecv.obj hla rfl) rfl rfl (wd_le rfl) (wd_le rfl) (wd_le rfl) (wd_le rfl) (fun o w' hq => ?_)
    obtain ⟨rfl, hw9⟩ := hq
    show WW _ _ _ 35 _ [.int (bI (Nat.blt 0 (S.la i).le))] _
    rw [hw9]
    clear hw9 w'
    refine WW.join (pc' := 52) (lv' := [(4, .ref (gl i)), (3, .ref it), (2, .int nx), (0, .ref a), (1, .int x)]) (st' := [.int (bI (Nat.blt 0 (S.la i).le && decide (x < (S.la i).en)))]) ?_ (fun H => ?_)
    rotate_left
    · skip
      cases h0 : Nat.blt 0 (S.la i).le with
      | false =>
        refine WW.if_eq (tgt := 51) rfl rfl (fun _ => ?_) (fun hno => absurd rfl hno)
        refine WW.run (pc' := 52) (lv' := [(4, .ref (gl i)), (3, .ref it), (2, .int nx), (0, .ref a), (1, .int x)]) (st' := [.int (nI 0)]) 1 rfl ?_
        rw [h0] at H
        exact H
      | true =>
        refine WW.if_eq (tgt := 51) rfl rfl (fun hno => absurd hno (by decide)) (fun _ => ?_)
        refine WW.run (pc' := 40) (lv' := [(4, .ref (gl i)), (3, .ref it), (2, .int nx), (0, .ref a), (1, .int x)]) (st' := [.ref (gl i)]) 1 rfl ?_
        refine WW.get rfl fX2_133 hla (show _ = some (.int ((S.la i).2.2.1)) from rfl) ?_
        refine WW.run (pc' := 44) (lv' := [(4, .ref (gl i)), (3, .ref it), (2, .int nx), (0, .ref a), (1, .int x)]) (st' := [.int x, .int ((S.la i).2.2.1)]) 1 rfl ?_
        rw [h0] at H
        by_cases h1 : x < (S.la i).en
        · skip
          refine WW.icmp_le (tgt := 51) rfl rfl (fun hno => absurd hno (Int32.not_le.mpr h1)) (fun _ => ?_)
          refine WW.run (pc' := 52) (lv' := [(4, .ref (gl i)), (3, .ref it), (2, .int nx), (0, .ref a), (1, .int x)]) (st' := [.int (nI 1)]) 2 rfl ?_
          rw [decide_eq_true h1] at H
          exact H
        · skip
          refine WW.icmp_le (tgt := 51) rfl rfl (fun _ => ?_) (fun hno => absurd (Int32.not_lt.mp h1) hno)
          refine WW.run (pc' := 52) (lv' := [(4, .ref (gl i)), (3, .ref it), (2, .int nx), (0, .ref a), (1, .int x)]) (st' := [.int (nI 0)]) 1 rfl ?_
          rw [decide_eq_false h1] at H
          exact H
    generalize hg : (Nat.blt 0 (S.la i).le && decide (x < (S.la i).en)) = g
    rw [hg] at ih
    refine WW.run (pc' := 56) (lv' := [(5, .int (bI g)), (4, .ref (gl i)), (3, .ref it), (2, .int nx), (0, .ref a), (1, .int x)]) (st' := [.int (bI g)]) 2 rfl ?_
    cases g with
    | false =>
      refine WW.if_eq (tgt := 81) rfl rfl (fun _ => ?_) (fun hno => absurd rfl hno)
      refine WW.run (pc' := 10) (lv' := [(2, .int nx), (5, .int (bI false)), (4, .ref (gl i)), (3, .ref it), (0, .ref a), (1, .int x)]) (st' := []) 3 rfl ?_
      refine WW.pick (lv' := [(3, .ref it), (2, .int nx), (0, .ref a), (1, .int x)]) [3, 0, 4, 5] rfl ?_
      exact ih _ hI hIt
    | true =>
      refine WW.if_eq (tgt := 81) rfl rfl (fun hno => absurd hno (by decide)) (fun _ => ?_)
      refine WW.run (pc' := 61) (lv' := [(5, .int (bI true)), (4, .ref (gl i)), (3, .ref it), (2, .int nx), (0, .ref a), (1, .int x)]) (st' := [.int (-1), .int nx]) 2 rfl ?_
      by_cases h1 : nx = -1
      · skip
        refine WW.icmp_eq (tgt := 73) rfl rfl (fun _ => ?_) (fun hno => absurd h1 hno)
        refine WW.run (pc' := 75) (lv' := [(5, .int (bI true)), (4, .ref (gl i)), (3, .ref it), (2, .int nx), (0, .ref a), (1, .int x)]) (st' := [.ref (gl i)]) 1 rfl ?_
        refine WW.get rfl fX2_133 hla (show _ = some (.int ((S.la i).2.2.1)) from rfl) ?_
        refine WW.run (pc' := 10) (lv' := [(2, .int ((S.la i).2.2.1)), (5, .int (bI true)), (4, .ref (gl i)), (3, .ref it), (0, .ref a), (1, .int x)]) (st' := []) 3 rfl ?_
        refine WW.pick (lv' := [(3, .ref it), (2, .int ((S.la i).2.2.1)), (0, .ref a), (1, .int x)]) [3, 0, 4, 5] rfl ?_
        rw [decide_eq_true h1] at ih
        exact ih _ hI hIt
      · skip
        refine WW.icmp_eq (tgt := 73) rfl rfl (fun hno => absurd hno h1) (fun _ => ?_)
        refine WW.run (pc' := 66) (lv' := [(5, .int (bI true)), (4, .ref (gl i)), (3, .ref it), (2, .int nx), (0, .ref a), (1, .int x)]) (st' := [.ref (gl i)]) 1 rfl ?_
        refine WW.get rfl fX2_133 hla (show _ = some (.int ((S.la i).2.2.1)) from rfl) ?_
        refine WW.run (pc' := 70) (lv' := [(5, .int (bI true)), (4, .ref (gl i)), (3, .ref it), (2, .int nx), (0, .ref a), (1, .int x)]) (st' := [.int nx, .int ((S.la i).2.2.1)]) 1 rfl ?_
        rw [decide_eq_false h1] at ih
        by_cases h2 : (S.la i).en < nx
        · skip
          refine WW.icmp_ge (tgt := 81) rfl rfl (fun hno => absurd hno (Int32.not_le.mpr h2)) (fun _ => ?_)
          refine WW.run (pc' := 75) (lv' := [(5, .int (bI true)), (4, .ref (gl i)), (3, .ref it), (2, .int nx), (0, .ref a), (1, .int x)]) (st' := [.ref (gl i)]) 1 rfl ?_
          refine WW.get rfl fX2_133 hla (show _ = some (.int ((S.la i).2.2.1)) from rfl) ?_
          refine WW.run (pc' := 10) (lv' := [(2, .int ((S.la i).2.2.1)), (5, .int (bI true)), (4, .ref (gl i)), (3, .ref it), (0, .ref a), (1, .int x)]) (st' := []) 3 rfl ?_
          refine WW.pick (lv' := [(3, .ref it), (2, .int ((S.la i).2.2.1)), (0, .ref a), (1, .int x)]) [3, 0, 4, 5] rfl ?_
          rw [decide_eq_true h2] at ih
          exact ih _ hI hIt
        · skip
          refine WW.icmp_ge (tgt := 81) rfl rfl (fun _ => ?_) (fun hno => absurd (Int32.not_lt.mp h2) hno)
          refine WW.run (pc' := 10) (lv' := [(2, .int nx), (5, .int (bI true)), (4, .ref (gl i)), (3, .ref it), (0, .ref a), (1, .int x)]) (st' := []) 3 rfl ?_
          refine WW.pick (lv' := [(3, .ref it), (2, .int nx), (0, .ref a), (1, .int x)]) [3, 0, 4, 5] rfl ?_
          rw [decide_eq_false h2] at ih
          exact ih _ hI hIt
  refine WW.run (pc' := 87) (lv' := [(3, .ref it), (2, .int (S.next x S.nl)), (0, .ref a), (1, .int x)]) (st' := [.int (S.next x S.nl)]) 1 rfl ?_
  exact WW.iret rfl rfl rfl ⟨rfl, hI.1⟩
theorem cS_after (hS : isS G w lo a Z gs gl gr S) (hW : aWf S) (x : Int32) : Sp l G MX2_consumptionAfter 3 1 4 [.ref a, .int x] w (fun o w' => o = .inl (some (.int (S.after x))) ∧ wFr nP w w') := by
  refine Sp.of rfl (by decide +kernel) kX2_consumptionAfter (wd_le rfl) ?_
  refine WW.ok fun ok => ?_
  replace ok : wdOk G w := ok
  have h1 := hS.1.1
  refine WW.run (pc' := 3) (lv' := [(2, .int (nI 0)), (0, .ref a), (1, .int x)]) (st' := [.ref a]) 3 rfl ?_
  refine WW.get rfl fX2_18 h1 (show _ = some (.ref (Z 1)) from rfl) ?_
  have hl := hS.2.1.2.1
  obtain ⟨mc0, hl0⟩ := hl.1
  refine WW.callV [] (Z 1) [] rfl mX2_25 (sL_iterator hl) (wdRecv.obj hl0 rfl) rfl rfl (wd_le rfl) (wd_le rfl) (wd_le rfl) (wd_le rfl) (fun o w' hq => ?_)
  obtain ⟨it, mc, hit, rfl, hw, hmc⟩ := hq
  show WW _ _ _ 9 _ [.ref it] _
  refine WW.run (pc' := 10) (lv' := [(3, .ref it), (2, .int (nI 0)), (0, .ref a), (1, .int x)]) (st' := []) 1 rfl ?_
  have hq0 := qInv.start ok hl hmc hit (.inl [.int (nI 0), .int (-1), .int mc, .ref (Z 1)])
  rw [← hw] at hq0
  refine WW.each 4 10 30 62 (fun _ => 0) (fun _ => 0) (fun i => [(3, .ref it), (2, .int (aSum (fun z => bif Nat.blt 0 (S.la z).le && decide (x < (S.la z).en) then (S.la z).lv else nI 0) i)), (0, .ref a), (1, .int x)]) (fun i => [(4, .ref (gl i)), (3, .ref it), (2, .int (aSum (fun z => bif Nat.blt 0 (S.la z).le && decide (x < (S.la z).en) then (S.la z).lv else nI 0) i)), (0, .ref a), (1, .int x)]) (fun _ u => qInv G w (Z 1) (Z 4) S.nl gl mc u) (fun _ _ h => h.2) (fun i u hi h => ⟨_, ((hS.fr ok h.1).2.2.2.2.1.1 i hi).1⟩) (fun _ _ p h => h.put hit p) (fun _ => rfl) rfl mX2_29 rfl rfl (fun _ => rfl) rfl mX2_35 rfl rfl lX2_49 (fun _ => rfl) (wd_le rfl) (fun i u hi hI hIt ih => ?_) (fun u hI => ?_) hq0 ⟨-1, by rw [hw]; exact wNew_same _ _ _ _⟩
  · skip
    have hla := ((hS.fr ok hI.1).2.2.2.2.1.1 i hi).1
    generalize hacc : aSum (fun z => bif Nat.blt 0 (S.la z).le && decide (x < (S.la z).en) then (S.la z).lv else nI 0) i = acc
    refine WW.run (pc' := 33) (lv' := [(4, .ref (gl i)), (3, .ref it), (2, .int acc), (0, .ref a), (1, .int x)]) (st' := [.ref (gl i), .int acc]) 2 rfl ?_
    refine WW.callV [] (gl i) [.int acc] rfl mX2_89 (sP_isLeased hla (hW.le hi)) (wdRecv.obj hla rfl) rfl rfl (wd_le rfl) (wd_le rfl) (wd_le rfl) (wd_le rfl) (fun o w' hq => ?_)
    obtain ⟨rfl, hw9⟩ := hq
    show WW _ _ _ 36 _ [.int (bI (Nat.blt 0 (S.la i).le)), .int acc] _
    rw [hw9]
    clear hw9 w'
    refine WW.join (pc' := 57) (lv' := [(4, .ref (gl i)), (3, .ref it), (2, .int acc), (0, .ref a), (1, .int x)]) (st' := [.int (bif Nat.blt 0 (S.la i).le && decide (x < (S.la i).en) then (S.la i).lv else nI 0), .int acc]) ?_ (fun H => ?_)
    rotate_left
    · skip
      cases h0 : Nat.blt 0 (S.la i).le with
      | false =>
        refine WW.if_eq (tgt := 56) rfl rfl (fun _ => ?_) (fun hno => absurd rfl hno)
        refine WW.run (pc' := 57) (lv' := [(4, .ref (gl i)), (3, .ref it), (2, .int acc), (0, .ref a), (1, .int x)]) (st' := [.int (nI 0), .int acc]) 1 rfl ?_
        rw [h0] at H
        exact H
      | true =>
        refine WW.if_eq (tgt := 56) rfl rfl (fun hno => absurd hno (by decide)) (fun _ => ?_)
        refine WW.run (pc' := 41) (lv' := [(4, .ref (gl i)), (3, .ref it), (2, .int acc), (0, .ref a), (1, .int x)]) (st' := [.ref (gl i), .int acc]) 1 rfl ?_
        refine WW.get rfl fX2_133 hla (show _ = some (.int ((S.la i).2.2.1)) from rfl) ?_
        refine WW.run (pc' := 45) (lv' := [(4, .ref (gl i)), (3, .ref it), (2, .int acc), (0, .ref a), (1, .int x)]) (st' := [.int x, .int ((S.la i).2.2.1), .int acc]) 1 rfl ?_
        rw [h0] at H
        by_cases h1 : x < (S.la i).en
        · skip
          refine WW.icmp_le (tgt := 56) rfl rfl (fun hno => absurd hno (Int32.not_le.mpr h1)) (fun _ => ?_)
          refine WW.run (pc' := 50) (lv' := [(4, .ref (gl i)), (3, .ref it), (2, .int acc), (0, .ref a), (1, .int x)]) (st' := [.ref (gl i), .int acc]) 1 rfl ?_
          refine WW.get rfl fX2_99 hla (show _ = some (.int ((S.la i).1)) from rfl) ?_
          refine WW.run (pc' := 57) (lv' := [(4, .ref (gl i)), (3, .ref it), (2, .int acc), (0, .ref a), (1, .int x)]) (st' := [.int ((S.la i).1), .int acc]) 1 rfl ?_
          rw [decide_eq_true h1] at H
          exact H
        · skip
          refine WW.icmp_le (tgt := 56) rfl rfl (fun _ => ?_) (fun hno => absurd (Int32.not_lt.mp h1) hno)
          refine WW.run (pc' := 57) (lv' := [(4, .ref (gl i)), (3, .ref it), (2, .int acc), (0, .ref a), (1, .int x)]) (st' := [.int (nI 0), .int acc]) 1 rfl ?_
          rw [decide_eq_false h1] at H
          exact H
    refine WW.run (pc' := 10) (lv' := [(2, .int (acc + (bif Nat.blt 0 (S.la i).le && decide (x < (S.la i).en) then (S.la i).lv else nI 0))), (4, .ref (gl i)), (3, .ref it), (0, .ref a), (1, .int x)]) (st' := []) 3 rfl ?_
    refine WW.pick (lv' := [(3, .ref it), (2, .int (acc + (bif Nat.blt 0 (S.la i).le && decide (x < (S.la i).en) then (S.la i).lv else nI 0))), (0, .ref a), (1, .int x)]) [2, 0, 3, 4] rfl ?_
    rw [← hacc]
    exact ih _ hI hIt
  refine WW.run (pc' := 63) (lv' := [(3, .ref it), (2, .int (aSum (fun z => bif Nat.blt 0 (S.la z).le && decide (x < (S.la z).en) then (S.la z).lv else nI 0) S.nl)), (0, .ref a), (1, .int x)]) (st' := [.int (aSum (fun z => bif Nat.blt 0 (S.la z).le && decide (x < (S.la z).en) then (S.la z).lv else nI 0) S.nl)]) 1 rfl ?_
  exact WW.iret rfl rfl rfl ⟨rfl, hI.1⟩
end
