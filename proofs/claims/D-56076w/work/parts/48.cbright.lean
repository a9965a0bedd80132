set_option maxRecDepth 100000
/-! MOST BRIGHT by greed -/
def aS.mbB (S : aS) (t x : Int32) (i : Nat) : Bool := Nat.blt 0 (S.la i).le && (decide ((S.la i).lv = t) && decide (t ≤ x))
def aS.mb1 (S : aS) (t : Int32) (p : Int32 × Int32) : Nat → Int32 × Int32
  | 0 => p
  | i + 1 => ((S.mb1 t p i).1 - (bif S.mbB t (S.mb1 t p i).1 i then t else nI 0), (S.mb1 t p i).2 + (bif S.mbB t (S.mb1 t p i).1 i then nI 1 else nI 0))
def aS.most (S : aS) : Int32 := (S.mb1 (nI 3) (S.mb1 (nI 2) (S.mb1 (nI 1) (S.oil, nI 0) S.nl) S.nl) S.nl).2
section
variable {l : Launch} {G : wdG} {w : wdW} {lo a : Nat} {Z gs gl gr : Nat → Nat} {S : aS}
theorem cS_mbLevel {Q : wdO → wdW → Prop} {kc ks : Nat} {w0 : wdW} (t oil cnt : Int32) (hS : isS G w lo a Z gs gl gr S) (hW : aWf S) (fr : wFr nP w0 w) (k : ∀ u, wFr nP w0 u → WW (l, G, MX2_mostBright, 3, 2000, 8000, Q) kc ks 103 [(3, .int t), (2, .int (S.mb1 t (oil, cnt) S.nl).2), (1, .int (S.mb1 t (oil, cnt) S.nl).1), (0, .ref a)] [] u) : WW (l, G, MX2_mostBright, 3, 2000, 8000, Q) (kc + 1) (ks + 4) 14 [(3, .int t), (2, .int cnt), (1, .int oil), (0, .ref a)] [] w := by
  refine WW.ok fun ok => ?_
  replace ok : wdOk G w := ok
  have h1 := hS.1.1
  refine WW.run (pc' := 15) (lv' := [(3, .int t), (2, .int cnt), (1, .int oil), (0, .ref a)]) (st' := [.ref a]) 1 rfl ?_
  refine WW.get rfl fX2_18 h1 (show _ = some (.ref (Z 1)) from rfl) ?_
  have hl := hS.2.1.2.1
  obtain ⟨mc0, hl0⟩ := hl.1
  refine WW.callV [] (Z 1) [] rfl mX2_25 (sL_iterator hl) (wdRecv.obj hl0 rfl) rfl rfl (wd_le rfl) (wd_le rfl) (by omega) (by omega) (fun o w' hq => ?_)
  obtain ⟨it, mc, hit, rfl, hw, hmc⟩ := hq
  show WW _ _ _ 21 _ [.ref it] _
  refine WW.run (pc' := 23) (lv' := [(4, .ref it), (3, .int t), (2, .int cnt), (1, .int oil), (0, .ref a)]) (st' := []) 1 rfl ?_
  have hq0 := qInv.start ok hl hmc hit (.inl [.int (nI 0), .int (-1), .int mc, .ref (Z 1)])
  rw [← hw] at hq0
  refine WW.each 4 23 45 103 (fun _ => kc) (fun _ => ks) (fun i => [(4, .ref it), (3, .int t), (2, .int ((S.mb1 t (oil, cnt) i).2)), (1, .int ((S.mb1 t (oil, cnt) i).1)), (0, .ref a)]) (fun i => [(5, .ref (gl i)), (4, .ref it), (3, .int t), (2, .int ((S.mb1 t (oil, cnt) i).2)), (1, .int ((S.mb1 t (oil, cnt) i).1)), (0, .ref a)]) (fun _ u => qInv G w (Z 1) (Z 4) S.nl gl mc u) (fun _ _ h => h.2) (fun i u hi h => ⟨_, ((hS.fr ok h.1).2.2.2.2.1.1 i hi).1⟩) (fun _ _ p h => h.put hit p) (fun _ => rfl) rfl mX2_29 rfl rfl (fun _ => rfl) rfl mX2_35 rfl rfl lX2_49 (fun _ => rfl) (wd_le rfl) (fun i u hi hI hIt ih => ?_) (fun u hI => ?_) hq0 ⟨-1, by rw [hw]; exact wNew_same _ _ _ _⟩
  · skip
    have hla := ((hS.fr ok hI.1).2.2.2.2.1.1 i hi).1
    have hnx : S.mb1 t (oil, cnt) (i + 1) = ((S.mb1 t (oil, cnt) i).1 - (bif S.mbB t (S.mb1 t (oil, cnt) i).1 i then t else nI 0), (S.mb1 t (oil, cnt) i).2 + (bif S.mbB t (S.mb1 t (oil, cnt) i).1 i then nI 1 else nI 0)) := rfl
    rw [hnx] at ih
    generalize (S.mb1 t (oil, cnt) i).1 = ol at ih
    generalize (S.mb1 t (oil, cnt) i).2 = cn at ih
    refine WW.run (pc' := 47) (lv' := [(5, .ref (gl i)), (4, .ref it), (3, .int t), (2, .int cn), (1, .int ol), (0, .ref a)]) (st' := [.ref (gl i)]) 1 rfl ?_
    refine WW.callV [] (gl i) [] rfl mX2_89 (sP_isLeased hla (hW.le hi)) (wdRecv.obj hla rfl) rfl rfl (wd_le rfl) (wd_le rfl) (by omega) (by omega) (fun o w' hq => ?_)
    obtain ⟨rfl, hw9⟩ := hq
    show WW _ _ _ 50 _ [.int (bI (Nat.blt 0 (S.la i).le))] _
    rw [hw9]
    clear hw9 w'
    refine WW.join (pc' := 72) (lv' := [(5, .ref (gl i)), (4, .ref it), (3, .int t), (2, .int cn), (1, .int ol), (0, .ref a)]) (st' := [.int (bI (S.mbB t ol i))]) ?_ (fun H => ?_)
    rotate_left
    · skip
      unfold aS.mbB at H
      cases h0 : Nat.blt 0 (S.la i).le with
      | false =>
        refine WW.if_eq (tgt := 71) rfl rfl (fun _ => ?_) (fun hno => absurd rfl hno)
        refine WW.run (pc' := 72) (lv' := [(5, .ref (gl i)), (4, .ref it), (3, .int t), (2, .int cn), (1, .int ol), (0, .ref a)]) (st' := [.int (nI 0)]) 1 rfl ?_
        rw [h0] at H
        exact H
      | true =>
        refine WW.if_eq (tgt := 71) rfl rfl (fun hno => absurd hno (by decide)) (fun _ => ?_)
        refine WW.run (pc' := 55) (lv' := [(5, .ref (gl i)), (4, .ref it), (3, .int t), (2, .int cn), (1, .int ol), (0, .ref a)]) (st' := [.ref (gl i)]) 1 rfl ?_
        refine WW.get rfl fX2_99 hla (show _ = some (.int ((S.la i).1)) from rfl) ?_
        refine WW.run (pc' := 59) (lv' := [(5, .ref (gl i)), (4, .ref it), (3, .int t), (2, .int cn), (1, .int ol), (0, .ref a)]) (st' := [.int t, .int ((S.la i).1)]) 1 rfl ?_
        rw [h0] at H
        by_cases h1 : (S.la i).lv = t
        · skip
          refine WW.icmp_ne (tgt := 71) rfl rfl (fun hno => absurd h1 hno) (fun _ => ?_)
          rw [decide_eq_true h1] at H
          refine WW.run (pc' := 64) (lv' := [(5, .ref (gl i)), (4, .ref it), (3, .int t), (2, .int cn), (1, .int ol), (0, .ref a)]) (st' := [.int ol, .int t]) 2 rfl ?_
          by_cases h2 : t ≤ ol
          · skip
            refine WW.icmp_gt (tgt := 71) rfl rfl (fun hno => absurd hno (Int32.not_lt.mpr h2)) (fun _ => ?_)
            refine WW.run (pc' := 72) (lv' := [(5, .ref (gl i)), (4, .ref it), (3, .int t), (2, .int cn), (1, .int ol), (0, .ref a)]) (st' := [.int (nI 1)]) 2 rfl ?_
            rw [decide_eq_true h2] at H
            exact H
          · skip
            refine WW.icmp_gt (tgt := 71) rfl rfl (fun _ => ?_) (fun hno => absurd (Int32.not_le.mp h2) hno)
            refine WW.run (pc' := 72) (lv' := [(5, .ref (gl i)), (4, .ref it), (3, .int t), (2, .int cn), (1, .int ol), (0, .ref a)]) (st' := [.int (nI 0)]) 1 rfl ?_
            rw [decide_eq_false h2] at H
            exact H
        · skip
          refine WW.icmp_ne (tgt := 71) rfl rfl (fun _ => ?_) (fun hno => absurd hno h1)
          refine WW.run (pc' := 72) (lv' := [(5, .ref (gl i)), (4, .ref it), (3, .int t), (2, .int cn), (1, .int ol), (0, .ref a)]) (st' := [.int (nI 0)]) 1 rfl ?_
          rw [decide_eq_false h1] at H
          exact H
    generalize S.mbB t ol i = g at ih
    refine WW.run (pc' := 77) (lv' := [(6, .int (bI g)), (5, .ref (gl i)), (4, .ref it), (3, .int t), (2, .int cn), (1, .int ol), (0, .ref a)]) (st' := [.int (bI g), .int ol]) 3 rfl ?_
    refine WW.join (pc' := 85) (lv' := [(6, .int (bI g)), (5, .ref (gl i)), (4, .ref it), (3, .int t), (2, .int cn), (1, .int ol), (0, .ref a)]) (st' := [.int (bif g then t else nI 0), .int ol]) ?_ ?_
    rotate_left
    · cases hb : g with
      | false =>
        intro H
        refine WW.if_eq (tgt := 84) rfl rfl (fun _ => ?_) (fun hno => absurd rfl hno)
        refine WW.run (pc' := 85) (lv' := [(6, .int (bI false)), (5, .ref (gl i)), (4, .ref it), (3, .int t), (2, .int cn), (1, .int ol), (0, .ref a)]) (st' := [.int (nI 0), .int ol]) 1 rfl ?_
        exact H
      | true =>
        intro H
        refine WW.if_eq (tgt := 84) rfl rfl (fun hno => absurd hno (by decide)) (fun _ => ?_)
        refine WW.run (pc' := 85) (lv' := [(6, .int (bI true)), (5, .ref (gl i)), (4, .ref it), (3, .int t), (2, .int cn), (1, .int ol), (0, .ref a)]) (st' := [.int t, .int ol]) 2 rfl ?_
        exact H
    refine WW.run (pc' := 90) (lv' := [(1, .int (ol - (bif g then t else nI 0))), (6, .int (bI g)), (5, .ref (gl i)), (4, .ref it), (3, .int t), (2, .int cn), (0, .ref a)]) (st' := [.int (bI g), .int cn]) 4 rfl ?_
    refine WW.join (pc' := 98) (lv' := [(1, .int (ol - (bif g then t else nI 0))), (6, .int (bI g)), (5, .ref (gl i)), (4, .ref it), (3, .int t), (2, .int cn), (0, .ref a)]) (st' := [.int (bif g then nI 1 else nI 0), .int cn]) ?_ ?_
    rotate_left
    · cases hb : g with
      | false =>
        intro H
        refine WW.if_eq (tgt := 97) rfl rfl (fun _ => ?_) (fun hno => absurd rfl hno)
        refine WW.run (pc' := 98) (lv' := [(1, .int (ol - (bif false then t else nI 0))), (6, .int (bI false)), (5, .ref (gl i)), (4, .ref it), (3, .int t), (2, .int cn), (0, .ref a)]) (st' := [.int (nI 0), .int cn]) 1 rfl ?_
        exact H
      | true =>
        intro H
        refine WW.if_eq (tgt := 97) rfl rfl (fun hno => absurd hno (by decide)) (fun _ => ?_)
        refine WW.run (pc' := 98) (lv' := [(1, .int (ol - (bif true then t else nI 0))), (6, .int (bI true)), (5, .ref (gl i)), (4, .ref it), (3, .int t), (2, .int cn), (0, .ref a)]) (st' := [.int (nI 1), .int cn]) 2 rfl ?_
        exact H
    refine WW.run (pc' := 23) (lv' := [(2, .int (cn + (bif g then nI 1 else nI 0))), (1, .int (ol - (bif g then t else nI 0))), (6, .int (bI g)), (5, .ref (gl i)), (4, .ref it), (3, .int t), (0, .ref a)]) (st' := []) 3 rfl ?_
    refine WW.pick (lv' := [(4, .ref it), (3, .int t), (2, .int (cn + (bif g then nI 1 else nI 0))), (1, .int (ol - (bif g then t else nI 0))), (0, .ref a)]) [4, 5, 0, 1, 6] rfl ?_
    exact ih _ hI hIt
  refine WW.pick (lv' := [(3, .int t), (2, .int ((S.mb1 t (oil, cnt) S.nl).2)), (1, .int ((S.mb1 t (oil, cnt) S.nl).1)), (0, .ref a)]) [1, 2, 3, 4] rfl ?_
  exact k u (fr.thn0 hI.1)
theorem cS_most (hS : isS G w lo a Z gs gl gr S) (hW : aWf S) : Sp l G MX2_mostBright 3 2000 8000 [.ref a] w (fun q w' => q = .inl (some (.int S.most)) ∧ wFr nP w w') := by
  refine Sp.of rfl (by decide +kernel) kX2_mostBright (wd_le rfl) ?_
  refine WW.ok fun ok => ?_
  replace ok : wdOk G w := ok
  have h1 := hS.1.1
  refine WW.run (pc' := 1) (lv' := [(0, .ref a)]) (st' := [.ref a]) 1 rfl ?_
  refine WW.get rfl fX2_56 h1 (show _ = some (.int S.oil) from rfl) ?_
  refine WW.run (pc' := 9) (lv' := [(3, .int (nI 1)), (2, .int (nI 0)), (1, .int S.oil), (0, .ref a)]) (st' := []) 5 rfl ?_
  refine WW.run (pc' := 11) (lv' := [(3, .int (nI 1)), (2, .int (nI 0)), (1, .int S.oil), (0, .ref a)]) (st' := [.int (nI 3), .int (nI 1)]) 2 rfl ?_
  refine WW.icmp_gt (tgt := 109) rfl rfl (fun hno => absurd hno (by decide)) (fun _ => ?_)
  refine WW.less (by decide) (by decide) (cS_mbLevel (kc := 1000) (ks := 4000) (w0 := w) (nI 1) S.oil (nI 0) hS hW (wFr.refl _ _) (fun u1 fr1 => ?_))
  have hS1 := hS.fr ok fr1
  generalize hp1 : S.mb1 (nI 1) (S.oil, nI 0) S.nl = p1
  refine WW.run (pc' := 9) (lv' := [(3, .int ((nI 1) + nI 1)), (2, .int p1.2), (1, .int p1.1), (0, .ref a)]) (st' := []) 2 rfl ?_
  refine WW.run (pc' := 11) (lv' := [(3, .int ((nI 1) + nI 1)), (2, .int p1.2), (1, .int p1.1), (0, .ref a)]) (st' := [.int (nI 3), .int ((nI 1) + nI 1)]) 2 rfl ?_
  refine WW.icmp_gt (tgt := 109) rfl rfl (fun hno => absurd hno (by decide)) (fun _ => ?_)
  refine WW.less (by decide) (by decide) (cS_mbLevel (kc := 500) (ks := 2000) (w0 := w) (nI 2) p1.1 p1.2 hS1 hW fr1 (fun u2 fr2 => ?_))
  have hS2 := hS.fr ok fr2
  generalize hp2 : S.mb1 (nI 2) (p1.1, p1.2) S.nl = p2
  refine WW.run (pc' := 9) (lv' := [(3, .int ((nI 2) + nI 1)), (2, .int p2.2), (1, .int p2.1), (0, .ref a)]) (st' := []) 2 rfl ?_
  refine WW.run (pc' := 11) (lv' := [(3, .int ((nI 2) + nI 1)), (2, .int p2.2), (1, .int p2.1), (0, .ref a)]) (st' := [.int (nI 3), .int ((nI 2) + nI 1)]) 2 rfl ?_
  refine WW.icmp_gt (tgt := 109) rfl rfl (fun hno => absurd hno (by decide)) (fun _ => ?_)
  refine WW.less (by decide) (by decide) (cS_mbLevel (kc := 100) (ks := 1000) (w0 := w) (nI 3) p2.1 p2.2 hS2 hW fr2 (fun u3 fr3 => ?_))
  generalize hp3 : S.mb1 (nI 3) (p2.1, p2.2) S.nl = p3
  refine WW.run (pc' := 9) (lv' := [(3, .int ((nI 3) + nI 1)), (2, .int p3.2), (1, .int p3.1), (0, .ref a)]) (st' := []) 2 rfl ?_
  refine WW.run (pc' := 11) (lv' := [(3, .int ((nI 3) + nI 1)), (2, .int p3.2), (1, .int p3.1), (0, .ref a)]) (st' := [.int (nI 3), .int ((nI 3) + nI 1)]) 2 rfl ?_
  refine WW.icmp_gt (tgt := 109) rfl rfl (fun _ => ?_) (fun hno => absurd (by decide) hno)
  refine WW.run (pc' := 110) (lv' := [(3, .int ((nI 3) + nI 1)), (2, .int p3.2), (1, .int p3.1), (0, .ref a)]) (st' := [.int p3.2]) 1 rfl ?_
  subst hp1
  subst hp2
  subst hp3
  exact WW.iret rfl rfl rfl ⟨rfl, fr3⟩
end
