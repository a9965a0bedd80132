set_option maxRecDepth 100000
/-! THE OFFICE: lamp by end -/
def aS.eB (S : aS) (i k : Nat) : Bool := (!(k == i) && Nat.blt 0 (S.la k).le) && aSooner (S.la k) (S.la i) (Nat.blt k i)
def aS.eRank (S : aS) (i : Nat) (n : Nat) : Int32 := aSum (fun k => bI (S.eB i k)) n
def aSeekP (p : Nat → Bool) : Nat → Nat → Option Nat
  | 0, _ => none
  | n + 1, i => bif p i then some i else aSeekP p n (i + 1)
section
variable {G : wdG} {l : Launch} {w : wdW} {hl : Nat} {o inp sb : Nat} {I : Nat → Int32} {S : aS} {hn : Nat} {hist : Nat → aS} {sv : Option aS} {ic : Nat → Int32} {on : Nat} {oc : Nat → Int32}
theorem cO_eRank {Q : wdO → wdW → Prop} {kc ks st lo : Nat} {Z gs gl gr : Nat → Nat} {fs : List Value} (g1 : w.1 0 o = some (.inl (.ref st :: fs))) (hS : isS G w lo st Z gs gl gr S) (hWf : aWf S) {i : Nat} (hi : i < S.nl) (x : Int32) (k : WW (l, G, MX1_lampByEnd, 8, 2061, 8346, Q) kc ks 140 [(5, .int (nI S.nl)), (4, .int (S.eRank i S.nl)), (3, .ref (gl i)), (2, .int (nI i)), (0, .ref o), (1, .int x)] [] w) : WW (l, G, MX1_lampByEnd, 8, 2061, 8346, Q) kc ks 37 [(5, .int (nI 0)), (4, .int (nI 0)), (3, .ref (gl i)), (2, .int (nI i)), (0, .ref o), (1, .int x)] [] w := by
  have hst := hS.1.1
  have hnl := hWf.2.1
  have hL := hS.2.1.2.1
  obtain ⟨mc9, hl9⟩ := hL.1
  have hsi := (hS.2.2.2.2.1.1 i hi).1
  refine WW.up S.nl (fun j => [(5, .int (nI j)), (4, .int (S.eRank i j)), (3, .ref (gl i)), (2, .int (nI i)), (0, .ref o), (1, .int x)]) (fun j hj ih => ?_) ?_
  · skip
    have e : S.eRank i (j + 1) = S.eRank i j + bI (S.eB i j) := rfl
    rw [e] at ih
    generalize S.eRank i j = rk at ih
    have hsj := (hS.2.2.2.2.1.1 j hj).1
    refine WW.run (pc' := 40) (lv' := [(5, .int (nI j)), (4, .int rk), (3, .ref (gl i)), (2, .int (nI i)), (0, .ref o), (1, .int x)]) (st' := [.ref o, .int (nI j)]) 2 rfl ?_
    refine WW.get rfl fX1_10 g1 (show _ = some (.ref st) from rfl) ?_
    refine WW.get rfl fX1_130 hst (show _ = some (.ref (Z 1)) from rfl) ?_
    refine WW.callV [] (Z 1) [.int (nI j)] rfl mX1_59 (sL_size hL) (wdRecv.obj hl9 rfl) rfl rfl (wd_le rfl) (wd_le rfl) (by omega) (by omega) (fun o w' hq => ?_)
    obtain ⟨rfl, hw9⟩ := hq
    show WW _ _ _ 49 _ [.int (nI S.nl), .int (nI j)] _
    rw [hw9]
    clear hw9 w'
    refine WW.icmp_ge (tgt := 140) rfl rfl (fun hno => absurd hno (nI_ge hj (by omega))) (fun _ => ?_)
    refine WW.run (pc' := 55) (lv' := [(5, .int (nI j)), (4, .int rk), (3, .ref (gl i)), (2, .int (nI i)), (0, .ref o), (1, .int x)]) (st' := [.int (nI i), .int (nI j)]) 2 rfl ?_
    refine WW.join (pc' := 84) (lv' := [(5, .int (nI j)), (4, .int rk), (3, .ref (gl i)), (2, .int (nI i)), (0, .ref o), (1, .int x)]) (st' := [.int (bI (!(j == i) && Nat.blt 0 (S.la j).le))]) ?_ (fun H => ?_)
    rotate_left
    · skip
      by_cases e1 : j = i
      · skip
        rw [show (j == i) = true from beq_iff_eq.mpr e1] at H
        refine WW.icmp_eq (tgt := 83) rfl rfl (fun _ => ?_) (fun hno => absurd (congrArg nI e1) hno)
        refine WW.run (pc' := 84) (lv' := [(5, .int (nI j)), (4, .int rk), (3, .ref (gl i)), (2, .int (nI i)), (0, .ref o), (1, .int x)]) (st' := [.int (nI 0)]) 1 rfl ?_
        exact H
      · skip
        rw [show (j == i) = false from beq_eq_false_iff_ne.mpr e1] at H
        refine WW.icmp_eq (tgt := 83) rfl rfl (fun hno => absurd hno (fun z => e1 ((nI_eq (by omega) (by omega)).mp z))) (fun _ => ?_)
        refine WW.run (pc' := 59) (lv' := [(5, .int (nI j)), (4, .int rk), (3, .ref (gl i)), (2, .int (nI i)), (0, .ref o), (1, .int x)]) (st' := [.ref o]) 1 rfl ?_
        refine WW.get rfl fX1_10 g1 (show _ = some (.ref st) from rfl) ?_
        refine WW.get rfl fX1_130 hst (show _ = some (.ref (Z 1)) from rfl) ?_
        refine WW.run (pc' := 67) (lv' := [(5, .int (nI j)), (4, .int rk), (3, .ref (gl i)), (2, .int (nI i)), (0, .ref o), (1, .int x)]) (st' := [.int (nI j), .ref (Z 1)]) 1 rfl ?_
        refine WW.callV [.int (nI j)] (Z 1) [] rfl mX1_207 (sL_get hL hj) (wdRecv.obj hl9 rfl) rfl rfl (wd_le rfl) (wd_le rfl) (by omega) (by omega) (fun o w' hq => ?_)
        obtain ⟨rfl, hw9⟩ := hq
        show WW _ _ _ 70 _ [.ref (gl j)] _
        rw [hw9]
        clear hw9 w'
        refine WW.castY rfl hsj rfl lX1_138 (Or.inl rfl) ?_
        refine WW.callV [] (gl j) [] rfl mX1_142 (sP_isLeased hsj (hWf.le hj)) (wdRecv.obj hsj rfl) rfl rfl (wd_le rfl) (wd_le rfl) (by omega) (by omega) (fun o w' hq => ?_)
        obtain ⟨rfl, hw9⟩ := hq
        show WW _ _ _ 76 _ [.int (bI (Nat.blt 0 (S.la j).le))] _
        rw [hw9]
        clear hw9 w'
        generalize Nat.blt 0 (S.la j).le = ah at H
        cases ah with
        | false =>
          refine WW.if_eq (tgt := 83) rfl rfl (fun _ => ?_) (fun hno => absurd rfl hno)
          refine WW.run (pc' := 84) (lv' := [(5, .int (nI j)), (4, .int rk), (3, .ref (gl i)), (2, .int (nI i)), (0, .ref o), (1, .int x)]) (st' := [.int (nI 0)]) 1 rfl ?_
          exact H
        | true =>
          refine WW.if_eq (tgt := 83) rfl rfl (fun hno => absurd hno (by decide)) (fun _ => ?_)
          refine WW.run (pc' := 84) (lv' := [(5, .int (nI j)), (4, .int rk), (3, .ref (gl i)), (2, .int (nI i)), (0, .ref o), (1, .int x)]) (st' := [.int (nI 1)]) 2 rfl ?_
          exact H
    have e7 : S.eB i j = ((!(j == i) && Nat.blt 0 (S.la j).le) && aSooner (S.la j) (S.la i) (Nat.blt j i)) := rfl
    rw [e7] at ih
    generalize (!(j == i) && Nat.blt 0 (S.la j).le) = b1 at ih
    refine WW.run (pc' := 90) (lv' := [(6, .int (bI b1)), (5, .int (nI j)), (4, .int rk), (3, .ref (gl i)), (2, .int (nI i)), (0, .ref o), (1, .int x)]) (st' := [.int (bI b1), .int rk]) 3 rfl ?_
    refine WW.join (pc' := 131) (lv' := [(6, .int (bI b1)), (5, .int (nI j)), (4, .int rk), (3, .ref (gl i)), (2, .int (nI i)), (0, .ref o), (1, .int x)]) (st' := [.int (bI (b1 && aSooner (S.la j) (S.la i) (Nat.blt j i))), .int rk]) ?_ (fun H => ?_)
    rotate_left
    · skip
      cases b1 with
      | false =>
        refine WW.if_eq (tgt := 130) rfl rfl (fun _ => ?_) (fun hno => absurd rfl hno)
        refine WW.run (pc' := 131) (lv' := [(6, .int (bI false)), (5, .int (nI j)), (4, .int rk), (3, .ref (gl i)), (2, .int (nI i)), (0, .ref o), (1, .int x)]) (st' := [.int (nI 0), .int rk]) 1 rfl ?_
        exact H
      | true =>
        refine WW.if_eq (tgt := 130) rfl rfl (fun hno => absurd hno (by decide)) (fun _ => ?_)
        refine WW.run (pc' := 94) (lv' := [(6, .int (bI true)), (5, .int (nI j)), (4, .int rk), (3, .ref (gl i)), (2, .int (nI i)), (0, .ref o), (1, .int x)]) (st' := [.ref o, .int rk]) 1 rfl ?_
        refine WW.get rfl fX1_10 g1 (show _ = some (.ref st) from rfl) ?_
        refine WW.get rfl fX1_130 hst (show _ = some (.ref (Z 1)) from rfl) ?_
        refine WW.run (pc' := 102) (lv' := [(6, .int (bI true)), (5, .int (nI j)), (4, .int rk), (3, .ref (gl i)), (2, .int (nI i)), (0, .ref o), (1, .int x)]) (st' := [.int (nI j), .ref (Z 1), .int rk]) 1 rfl ?_
        refine WW.callV [.int (nI j)] (Z 1) [.int rk] rfl mX1_207 (sL_get hL hj) (wdRecv.obj hl9 rfl) rfl rfl (wd_le rfl) (wd_le rfl) (by omega) (by omega) (fun o w' hq => ?_)
        obtain ⟨rfl, hw9⟩ := hq
        show WW _ _ _ 105 _ [.ref (gl j), .int rk] _
        rw [hw9]
        clear hw9 w'
        refine WW.castY rfl hsj rfl lX1_138 (Or.inl rfl) ?_
        refine WW.run (pc' := 112) (lv' := [(6, .int (bI true)), (5, .int (nI j)), (4, .int rk), (3, .ref (gl i)), (2, .int (nI i)), (0, .ref o), (1, .int x)]) (st' := [.int (nI i), .int (nI j), .ref (gl i), .ref (gl j), .int rk]) 3 rfl ?_
        refine WW.join (pc' := 120) (lv' := [(6, .int (bI true)), (5, .int (nI j)), (4, .int rk), (3, .ref (gl i)), (2, .int (nI i)), (0, .ref o), (1, .int x)]) (st' := [.int (bI (Nat.blt j i)), .ref (gl i), .ref (gl j), .int rk]) ?_ ?_
        rotate_left
        · cases hb : (Nat.blt j i) with
          | false =>
            intro H
            refine WW.icmp_ge (tgt := 119) rfl rfl (fun _ => ?_) (fun hno => absurd (nI_le (Nat.le_of_not_lt (fun q => by rw [show Nat.blt j i = true from Nat.ble_eq_true_of_le q] at hb; cases hb)) (by omega)) hno)
            refine WW.run (pc' := 120) (lv' := [(6, .int (bI true)), (5, .int (nI j)), (4, .int rk), (3, .ref (gl i)), (2, .int (nI i)), (0, .ref o), (1, .int x)]) (st' := [.int (nI 0), .ref (gl i), .ref (gl j), .int rk]) 1 rfl ?_
            exact H
          | true =>
            intro H
            refine WW.icmp_ge (tgt := 119) rfl rfl (fun hno => absurd hno (nI_ge (Nat.le_of_ble_eq_true hb) (by omega))) (fun _ => ?_)
            refine WW.run (pc' := 120) (lv' := [(6, .int (bI true)), (5, .int (nI j)), (4, .int rk), (3, .ref (gl i)), (2, .int (nI i)), (0, .ref o), (1, .int x)]) (st' := [.int (nI 1), .ref (gl i), .ref (gl j), .int rk]) 2 rfl ?_
            exact H
        refine WW.callV [.ref (gl i), .int (bI (Nat.blt j i))] (gl j) [.int rk] rfl mX1_230 (sP_sooner hsj hsi (Nat.blt j i)) (wdRecv.obj hsj rfl) rfl rfl (wd_le rfl) (wd_le rfl) (by omega) (by omega) (fun o w' hq => ?_)
        obtain ⟨rfl, hw9⟩ := hq
        show WW _ _ _ 123 _ [.int (bI (aSooner (S.la j) (S.la i) (Nat.blt j i))), .int rk] _
        rw [hw9]
        clear hw9 w'
        generalize aSooner (S.la j) (S.la i) (Nat.blt j i) = ah at H
        cases ah with
        | false =>
          refine WW.if_eq (tgt := 130) rfl rfl (fun _ => ?_) (fun hno => absurd rfl hno)
          refine WW.run (pc' := 131) (lv' := [(6, .int (bI true)), (5, .int (nI j)), (4, .int rk), (3, .ref (gl i)), (2, .int (nI i)), (0, .ref o), (1, .int x)]) (st' := [.int (nI 0), .int rk]) 1 rfl ?_
          exact H
        | true =>
          refine WW.if_eq (tgt := 130) rfl rfl (fun hno => absurd hno (by decide)) (fun _ => ?_)
          refine WW.run (pc' := 131) (lv' := [(6, .int (bI true)), (5, .int (nI j)), (4, .int rk), (3, .ref (gl i)), (2, .int (nI i)), (0, .ref o), (1, .int x)]) (st' := [.int (nI 1), .int rk]) 2 rfl ?_
          exact H
    generalize aSooner (S.la j) (S.la i) (Nat.blt j i) = b2 at ih
    refine WW.run (pc' := 37) (lv' := [(5, .int ((nI j) + nI 1)), (4, .int (rk + (bI (b1 && b2)))), (6, .int (bI b1)), (3, .ref (gl i)), (2, .int (nI i)), (0, .ref o), (1, .int x)]) (st' := []) 4 rfl ?_
    rw [((wn_add rfl rfl) : (nI j) + nI 1 = nI (j + 1))]
    refine WW.pick (lv' := [(5, .int (nI (j + 1))), (4, .int (rk + (bI (b1 && b2)))), (3, .ref (gl i)), (2, .int (nI i)), (0, .ref o), (1, .int x)]) [0, 1, 3, 4, 5, 6] rfl ?_
    exact ih
  · skip
    refine WW.run (pc' := 40) (lv' := [(5, .int (nI S.nl)), (4, .int (S.eRank i S.nl)), (3, .ref (gl i)), (2, .int (nI i)), (0, .ref o), (1, .int x)]) (st' := [.ref o, .int (nI S.nl)]) 2 rfl ?_
    refine WW.get rfl fX1_10 g1 (show _ = some (.ref st) from rfl) ?_
    refine WW.get rfl fX1_130 hst (show _ = some (.ref (Z 1)) from rfl) ?_
    refine WW.callV [] (Z 1) [.int (nI S.nl)] rfl mX1_59 (sL_size hL) (wdRecv.obj hl9 rfl) rfl rfl (wd_le rfl) (wd_le rfl) (by omega) (by omega) (fun o w' hq => ?_)
    obtain ⟨rfl, hw9⟩ := hq
    show WW _ _ _ 49 _ [.int (nI S.nl), .int (nI S.nl)] _
    rw [hw9]
    clear hw9 w'
    refine WW.icmp_ge (tgt := 140) rfl rfl (fun _ => ?_) (fun hno => absurd (nI_le (Nat.le_refl _) (by omega)) hno)
    exact k
theorem cO_byEnd (h : isOf G w o hl inp sb I S hn hist sv ic on oc) (hWf : aWf S) (x : Int32) : Sp l G MX1_lampByEnd 8 2061 8346 [.ref o, .int x] w (oA G o hl inp sb I S hn hist sv ic on oc [16] (match aSeekP (fun i => Nat.blt 0 (S.la i).le && decide (S.eRank i S.nl = x)) S.nl 0 with | some i => .inr (.int (nI i)) | none => .inl 1) w) := by
  have hO := h
  obtain ⟨st, harr, hg, sva, sbarr, h⟩ := h
  have g := h
  obtain ⟨g1, g2, ⟨lo, Z, gs, gl, gr, hS, -⟩, g4, g5, g6, g7⟩ := h
  have hst := hS.1.1
  have hnl := hWf.2.1
  have hL := hS.2.1.2.1
  obtain ⟨mc9, hl9⟩ := hL.1
  refine Sp.of rfl (by decide +kernel) kX1_lampByEnd (wd_le rfl) ?_
  refine WW.ok fun ok => ?_
  replace ok : wdOk G w := ok
  refine WW.run (pc' := 2) (lv' := [(2, .int (nI 0)), (0, .ref o), (1, .int x)]) (st' := []) 2 rfl ?_
  have key : ∀ (n i : Nat) (r : Nat ⊕ Value), n + i = S.nl → (match aSeekP (fun i => Nat.blt 0 (S.la i).le && decide (S.eRank i S.nl = x)) n i with | some i => .inr (.int (nI i)) | none => .inl 1) = r → WW (l, G, MX1_lampByEnd, 8, 2061, 8346, oA G o hl inp sb I S hn hist sv ic on oc [16] r w) 2061 8346 2 [(2, .int (nI i)), (0, .ref o), (1, .int x)] [] w := by
    intro n
    induction n with
    | zero =>
      intro i r hi hr
      have hr : .inl 1 = r := hr
      subst hr
      refine WW.run (pc' := 4) (lv' := [(2, .int (nI i)), (0, .ref o), (1, .int x)]) (st' := [.ref o, .int (nI i)]) 2 rfl ?_
      refine WW.get rfl fX1_10 g1 (show _ = some (.ref st) from rfl) ?_
      refine WW.get rfl fX1_130 hst (show _ = some (.ref (Z 1)) from rfl) ?_
      refine WW.callV [] (Z 1) [.int (nI i)] rfl mX1_59 (sL_size hL) (wdRecv.obj hl9 rfl) rfl rfl (wd_le rfl) (wd_le rfl) (wd_le rfl) (wd_le rfl) (fun o w' hq => ?_)
      obtain ⟨rfl, hw9⟩ := hq
      show WW _ _ _ 13 _ [.int (nI S.nl), .int (nI i)] _
      rw [hw9]
      clear hw9 w'
      refine WW.icmp_ge (tgt := 161) rfl rfl (fun _ => ?_) (fun hno => absurd (nI_le (show S.nl ≤ i by omega) (by omega)) hno)
      refine WW.make0 rfl rfl rfl mkX1_52 moX1_52 (ci := 16) rfl (by decide) (wd_le rfl) (wd_le rfl) (wd_le rfl) (wd_le rfl) (wd_le rfl) (wd_le rfl) (fun q hq => ?_)
      have ha : (wNew w 16 q (.inl [])).1 16 q = some (.inl []) := wNew_same _ _ _ _
      refine WW.athrow rfl ha rfl ?_
      have fr : wFr nP w (wNew w 16 q (.inl [])) := (wFr.refl _ _).new hq
      exact WX.out (fun _ h => nomatch h) ⟨oFr.of0 ok fr, hO.fr0 ok fr, 16, q, rfl, rfl⟩
    | succ n ih =>
      intro i r hi hr
      have hi2 : i < S.nl := by omega
      have hsi := (hS.2.2.2.2.1.1 i hi2).1
      refine WW.run (pc' := 4) (lv' := [(2, .int (nI i)), (0, .ref o), (1, .int x)]) (st' := [.ref o, .int (nI i)]) 2 rfl ?_
      refine WW.get rfl fX1_10 g1 (show _ = some (.ref st) from rfl) ?_
      refine WW.get rfl fX1_130 hst (show _ = some (.ref (Z 1)) from rfl) ?_
      refine WW.callV [] (Z 1) [.int (nI i)] rfl mX1_59 (sL_size hL) (wdRecv.obj hl9 rfl) rfl rfl (wd_le rfl) (wd_le rfl) (wd_le rfl) (wd_le rfl) (fun o w' hq => ?_)
      obtain ⟨rfl, hw9⟩ := hq
      show WW _ _ _ 13 _ [.int (nI S.nl), .int (nI i)] _
      rw [hw9]
      clear hw9 w'
      refine WW.icmp_ge (tgt := 161) rfl rfl (fun hno => absurd hno (nI_ge hi2 (by omega))) (fun _ => ?_)
      refine WW.run (pc' := 17) (lv' := [(2, .int (nI i)), (0, .ref o), (1, .int x)]) (st' := [.ref o]) 1 rfl ?_
      refine WW.get rfl fX1_10 g1 (show _ = some (.ref st) from rfl) ?_
      refine WW.get rfl fX1_130 hst (show _ = some (.ref (Z 1)) from rfl) ?_
      refine WW.run (pc' := 24) (lv' := [(2, .int (nI i)), (0, .ref o), (1, .int x)]) (st' := [.int (nI i), .ref (Z 1)]) 1 rfl ?_
      refine WW.callV [.int (nI i)] (Z 1) [] rfl mX1_207 (sL_get hL hi2) (wdRecv.obj hl9 rfl) rfl rfl (wd_le rfl) (wd_le rfl) (wd_le rfl) (wd_le rfl) (fun o w' hq => ?_)
      obtain ⟨rfl, hw9⟩ := hq
      show WW _ _ _ 27 _ [.ref (gl i)] _
      rw [hw9]
      clear hw9 w'
      refine WW.castY rfl hsi rfl lX1_138 (Or.inl rfl) ?_
      refine WW.run (pc' := 37) (lv' := [(5, .int (nI 0)), (4, .int (nI 0)), (3, .ref (gl i)), (2, .int (nI i)), (0, .ref o), (1, .int x)]) (st' := []) 5 rfl ?_
      refine cO_eRank g1 hS hWf hi2 x ?_
      have e0 : aSeekP (fun i => Nat.blt 0 (S.la i).le && decide (S.eRank i S.nl = x)) (n + 1) i = bif Nat.blt 0 (S.la i).le && decide (S.eRank i S.nl = x) then some i else aSeekP (fun i => Nat.blt 0 (S.la i).le && decide (S.eRank i S.nl = x)) n (i + 1) := rfl
      rw [e0] at hr
      refine WW.run (pc' := 141) (lv' := [(5, .int (nI S.nl)), (4, .int (S.eRank i S.nl)), (3, .ref (gl i)), (2, .int (nI i)), (0, .ref o), (1, .int x)]) (st' := [.ref (gl i)]) 1 rfl ?_
      refine WW.callV [] (gl i) [] rfl mX1_142 (sP_isLeased hsi (hWf.le hi2)) (wdRecv.obj hsi rfl) rfl rfl (wd_le rfl) (wd_le rfl) (wd_le rfl) (wd_le rfl) (fun o w' hq => ?_)
      obtain ⟨rfl, hw9⟩ := hq
      show WW _ _ _ 144 _ [.int (bI (Nat.blt 0 (S.la i).le))] _
      rw [hw9]
      clear hw9 w'
      generalize Nat.blt 0 (S.la i).le = ah at hr
      cases ah with
      | false =>
        refine WW.if_eq (tgt := 155) rfl rfl (fun _ => ?_) (fun hno => absurd rfl hno)
        refine WW.run (pc' := 2) (lv' := [(2, .int ((nI i) + nI 1)), (5, .int (nI S.nl)), (4, .int (S.eRank i S.nl)), (3, .ref (gl i)), (0, .ref o), (1, .int x)]) (st' := []) 2 rfl ?_
        rw [((wn_add rfl rfl) : (nI i) + nI 1 = nI (i + 1))]
        refine WW.pick (lv' := [(2, .int (nI (i + 1))), (0, .ref o), (1, .int x)]) [0, 4, 5] rfl ?_
        exact ih (i + 1) r (by omega) hr
      | true =>
        refine WW.if_eq (tgt := 155) rfl rfl (fun hno => absurd hno (by decide)) (fun _ => ?_)
        refine WW.run (pc' := 150) (lv' := [(5, .int (nI S.nl)), (4, .int (S.eRank i S.nl)), (3, .ref (gl i)), (2, .int (nI i)), (0, .ref o), (1, .int x)]) (st' := [.int x, .int (S.eRank i S.nl)]) 2 rfl ?_
        refine WW.icmp_ne (tgt := 155) rfl rfl (fun e1 => ?_) (fun e1 => ?_)
        · skip
          rw [decide_eq_false e1] at hr
          refine WW.run (pc' := 2) (lv' := [(2, .int ((nI i) + nI 1)), (5, .int (nI S.nl)), (4, .int (S.eRank i S.nl)), (3, .ref (gl i)), (0, .ref o), (1, .int x)]) (st' := []) 2 rfl ?_
          rw [((wn_add rfl rfl) : (nI i) + nI 1 = nI (i + 1))]
          refine WW.pick (lv' := [(2, .int (nI (i + 1))), (0, .ref o), (1, .int x)]) [0, 4, 5] rfl ?_
          exact ih (i + 1) r (by omega) hr
        rw [decide_eq_true e1] at hr
        have hr : .inr (.int (nI i)) = r := hr
        subst hr
        refine WW.run (pc' := 154) (lv' := [(5, .int (nI S.nl)), (4, .int (S.eRank i S.nl)), (3, .ref (gl i)), (2, .int (nI i)), (0, .ref o), (1, .int x)]) (st' := [.int (nI i)]) 1 rfl ?_
        exact WW.iret rfl rfl rfl ⟨oFr.refl _ _, hO, rfl⟩
  exact key S.nl 0 _ rfl rfl
end
