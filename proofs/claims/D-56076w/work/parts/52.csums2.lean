set_option maxRecDepth 100000
def aS.dp (S : aS) : Nat → Nat → Int32
  | 0, k => if k = 0 then nI 0 else -1
  | i + 1, k => bif Nat.blt 0 (S.la i).le then dpG (S.dp i) (tn (S.la i).lv) (tn (S.la i).lv) k else S.dp i k
def aS.top (S : aS) : Nat → Nat → Int32 → Int32
  | 0, _, b => b
  | n + 1, r, b => bif decide (nI r ≤ S.oil) then S.top n (r + 1) (if b < S.dp S.nl r then S.dp S.nl r else b) else b
theorem qInv.only {G : wdG} {w : wdW} {L arr n : Nat} {g : Nat → Nat} {mc : Int32} {u u1 : wdW} {q : Nat} (h : qInv G w L arr n g mc u) (wo : wOnly 32 q u u1) (hq : w.2 ≤ q) : qInv G w L arr n g mc u1 :=
  ⟨⟨⟨fun b hb hn k' => (wo.2 k' b (Or.inr (by omega))).trans (h.1.1.1 b hb hn k'), (funext fun b => wo.2 7 b (Or.inl (by decide))).trans h.1.1.2⟩, by rw [wo.1]; exact h.1.2⟩, h.2.1.to (fun _ hp => (wo.2 _ _ (Or.inl (by decide))).trans hp) (fun _ hp => (wo.2 _ _ (Or.inl (by decide))).trans hp), (wo.2 _ _ (Or.inl (by decide))).trans h.2.2⟩
theorem dp0 {S : aS} (k : Nat) (hk : k < 25) : (if k = 0 ∨ 24 < k then nI 0 else (-1 : Int32)) = S.dp 0 k := by
  show _ = (if k = 0 then nI 0 else (-1 : Int32))
  by_cases e : k = 0
  · rw [if_pos e, if_pos (Or.inl e)]
  · rw [if_neg e, if_neg (by omega)]
section
variable {l : Launch} {G : wdG} {w : wdW} {lo a : Nat} {Z gs gl gr : Nat → Nat} {S : aS}
theorem cS_bsTop {Q : wdO → wdW → Prop} {kc ks q : Nat} {f : Nat → Int32} (hS : isS G w lo a Z gs gl gr S) (hA : w.1 32 q = some (.inr (25, .inl f))) (hf : ∀ k, k < 25 → f k = S.dp S.nl k) (v : Int32) (hQ : Q (.inl (some (.int v))) w) : ∀ (n r : Nat) (b : Int32), n + r = 25 → S.top n r b = v → WW (l, G, MX2_mostBrightBySums, 4, 20, 100, Q) kc ks 128 [(3, .int (nI r)), (2, .int b), (1, .ref q), (0, .ref a)] [] w := by
  have hb := hS.1.1
  intro n
  induction n with
  | zero =>
    intro r b hr hv
    refine WW.run (pc' := 130) (lv' := [(3, .int (nI r)), (2, .int b), (1, .ref q), (0, .ref a)]) (st' := [.ref q, .int (nI r)]) 2 rfl ?_
    refine WW.alen (v := nI 25) 32 0 rfl rfl hA rfl ?_
    refine WW.icmp_ge (tgt := 156) rfl rfl (fun _ => ?_) (fun hno => absurd (nI_le (show 25 ≤ r by omega) (by omega)) hno)
    refine WW.run (pc' := 157) (lv' := [(3, .int (nI r)), (2, .int b), (1, .ref q), (0, .ref a)]) (st' := [.int b]) 1 rfl ?_
    have hv : b = v := hv
    subst hv
    exact WW.iret rfl rfl rfl hQ
  | succ n ih =>
    intro r b hr hv
    have hv0 : S.top (n + 1) r b = bif decide (nI r ≤ S.oil) then S.top n (r + 1) (if b < S.dp S.nl r then S.dp S.nl r else b) else b := rfl
    rw [hv0] at hv
    refine WW.run (pc' := 130) (lv' := [(3, .int (nI r)), (2, .int b), (1, .ref q), (0, .ref a)]) (st' := [.ref q, .int (nI r)]) 2 rfl ?_
    refine WW.alen (v := nI 25) 32 0 rfl rfl hA rfl ?_
    refine WW.icmp_ge (tgt := 156) rfl rfl (fun hno => absurd hno (nI_ge (show r < 25 by omega) (by decide))) (fun _ => ?_)
    refine WW.run (pc' := 136) (lv' := [(3, .int (nI r)), (2, .int b), (1, .ref q), (0, .ref a)]) (st' := [.ref a, .int (nI r)]) 2 rfl ?_
    refine WW.get rfl fX2_56 hb (show _ = some (.int S.oil) from rfl) ?_
    refine WW.icmp_gt (tgt := 156) rfl rfl (fun e1 => ?_) (fun e1 => ?_)
    · skip
      rw [decide_eq_false (Int32.not_le.mpr e1)] at hv
      have hv : b = v := hv
      subst hv
      refine WW.run (pc' := 157) (lv' := [(3, .int (nI r)), (2, .int b), (1, .ref q), (0, .ref a)]) (st' := [.int b]) 1 rfl ?_
      exact WW.iret rfl rfl rfl hQ
    rw [decide_eq_true (Int32.not_lt.mp e1)] at hv
    refine WW.run (pc' := 145) (lv' := [(3, .int (nI r)), (2, .int b), (1, .ref q), (0, .ref a)]) (st' := [.int (nI r), .ref q, .int b]) 3 rfl ?_
    refine WW.ialdN r rfl hA rfl (by omega) (by decide) (hf r (by omega)) ?_
    refine WW.mmax rfl q566 q455 q82 q456 (wd_le rfl) (wd_le rfl) ?_
    refine WW.run (pc' := 128) (lv' := [(3, .int ((nI r) + nI 1)), (2, .int (if b < (S.dp S.nl r) then S.dp S.nl r else b)), (1, .ref q), (0, .ref a)]) (st' := []) 3 rfl ?_
    rw [((wn_add rfl rfl) : (nI r) + nI 1 = nI (r + 1))]
    refine WW.pick (lv' := [(3, .int (nI (r + 1))), (2, .int (if b < (S.dp S.nl r) then S.dp S.nl r else b)), (1, .ref q), (0, .ref a)]) [0, 1, 2, 3] rfl ?_
    exact ih (r + 1) _ (by omega) hv
theorem cS_sums (hS : isS G w lo a Z gs gl gr S) (hW : aWf S) (hL : ∀ i, i < S.nl → 0 < (S.la i).le → ∃ m, 1 ≤ m ∧ m ≤ 24 ∧ (S.la i).lv = nI m) : Sp l G MX2_mostBrightBySums 4 20 100 [.ref a] w (fun o w' => o = .inl (some (.int (S.top 25 0 (nI 0)))) ∧ wFr nP w w') := by
  refine Sp.of rfl (by decide +kernel) kX2_mostBrightBySums (wd_le rfl) ?_
  refine WW.ok fun ok => ?_
  replace ok : wdOk G w := ok
  have h1 := hS.1.1
  refine WW.run (pc' := 2) (lv' := [(0, .ref a)]) (st' := [.int (nI 25)]) 1 rfl ?_
  refine WW.newI rfl rfl (by decide) (wd_le rfl) (wd_le rfl) (fun q hq0 => ?_)
  have fr0 : wFr nP w (wNew w 32 q (.inr (25, .inl (fun _ => nI 0)))) := (wFr.refl _ _).new hq0
  refine WW.run (pc' := 7) (lv' := [(2, .int (nI 1)), (1, .ref q), (0, .ref a)]) (st' := []) 3 rfl ?_
  refine WW.upW 24 (fun _ => 19) (fun _ => 75) (fun i => [(2, .int (nI (i + 1))), (1, .ref q), (0, .ref a)]) (fun i u => wFr nP w u ∧ ∃ f, u.1 32 q = some (.inr (25, .inl f)) ∧ ∀ k, k < 25 → f k = if k = 0 ∨ i < k then nI 0 else -1) (fun i u hi hI ih => ?_) (fun u hI => ?_) ⟨fr0, _, wNew_same _ _ _ _, fun k hk => (if_pos (by omega)).symm⟩
  · skip
    obtain ⟨fr, f, hA, hf⟩ := hI
    refine WW.run (pc' := 9) (lv' := [(2, .int (nI (i + 1))), (1, .ref q), (0, .ref a)]) (st' := [.ref q, .int (nI (i + 1))]) 2 rfl ?_
    refine WW.alen (v := nI 25) 32 0 rfl rfl hA rfl ?_
    refine WW.icmp_ge (tgt := 23) rfl rfl (fun hno => absurd hno (nI_ge (show i + 1 < 25 by omega) (by decide))) (fun _ => ?_)
    refine WW.run (pc' := 16) (lv' := [(2, .int (nI (i + 1))), (1, .ref q), (0, .ref a)]) (st' := [.int (-1), .int (nI (i + 1)), .ref q]) 3 rfl ?_
    refine WW.iastN (f' := upd f (i + 1) (-1)) (i + 1) rfl hA rfl (by omega) (by decide) rfl ?_
    have h2 : (wPut u 32 q (.inr (25, .inl (upd f (i + 1) (-1))))).1 32 q = some (.inr (25, .inl (upd f (i + 1) (-1)))) := wPut_same _ _ _ _
    refine WW.run (pc' := 7) (lv' := [(2, .int ((nI (i + 1)) + nI 1)), (1, .ref q), (0, .ref a)]) (st' := []) 2 rfl ?_
    rw [((wn_add rfl rfl) : (nI (i + 1)) + nI 1 = nI ((i + 1) + 1))]
    refine ih _ ⟨fr.put (Or.inr hq0), _, h2, fun k hk => ?_⟩
    by_cases e : k = i + 1
    · refine (if_pos e).trans (if_neg (by omega)).symm
    · refine (if_neg e).trans ((hf k hk).trans ?_)
      by_cases e2 : k = 0 ∨ i < k
      · rw [if_pos e2, if_pos (by omega)]
      · rw [if_neg e2, if_neg (by omega)]
  · skip
    obtain ⟨fr, f, hA, hf⟩ := hI
    have okw := ok
    refine WW.ok fun ok => ?_
    replace ok : wdOk G u := ok
    have hS1 := hS.fr okw fr
    have hb1 := hS1.1.1
    refine WW.run (pc' := 9) (lv' := [(2, .int (nI 25)), (1, .ref q), (0, .ref a)]) (st' := [.ref q, .int (nI 25)]) 2 rfl ?_
    refine WW.alen (v := nI 25) 32 0 rfl rfl hA rfl ?_
    refine WW.icmp_ge (tgt := 23) rfl rfl (fun _ => ?_) (fun hno => absurd (by decide) hno)
    refine WW.run (pc' := 24) (lv' := [(2, .int (nI 25)), (1, .ref q), (0, .ref a)]) (st' := [.ref a]) 1 rfl ?_
    refine WW.get rfl fX2_18 hb1 (show _ = some (.ref (Z 1)) from rfl) ?_
    have hl := hS1.2.1.2.1
    obtain ⟨mc0, hl0⟩ := hl.1
    refine WW.callV [] (Z 1) [] rfl mX2_25 (sL_iterator hl) (wdRecv.obj hl0 rfl) rfl rfl (wd_le rfl) (wd_le rfl) (wd_le rfl) (wd_le rfl) (fun o u1 hq => ?_)
    obtain ⟨it, mc, hit, rfl, hw, hmc⟩ := hq
    show WW _ _ _ 30 _ [.ref it] _
    refine WW.run (pc' := 31) (lv' := [(2, .ref it), (1, .ref q), (0, .ref a)]) (st' := []) 1 rfl ?_
    have hq1 := qInv.start ok hl hmc hit (.inl [.int (nI 0), .int (-1), .int mc, .ref (Z 1)])
    rw [← hw] at hq1
    have hA1 : u1.1 32 q = some (.inr (25, .inl f)) := hq1.1.eq hA (ok.1 _ _ _ hA).2 (fun h => h)
    have hit2 : w.2 ≤ it := Nat.le_trans fr.2 hit
    refine WW.each 4 31 50 124 (fun _ => 18) (fun _ => 71) (fun i => [(2, .ref it), (1, .ref q), (0, .ref a)]) (fun i => [(3, .ref (gl i)), (2, .ref it), (1, .ref q), (0, .ref a)]) (fun i u => qInv G w (Z 1) (Z 4) S.nl gl mc u ∧ ∃ f, u.1 32 q = some (.inr (25, .inl f)) ∧ ∀ k, k < 25 → f k = S.dp i k) (fun _ _ h => h.1.2) (fun i u hi h => ⟨_, ((hS.fr okw h.1.1).2.2.2.2.1.1 i hi).1⟩) (fun _ _ p h => ⟨h.1.put hit2 p, h.2.elim fun f e => ⟨f, (wPut_k (by decide)).trans e.1, e.2⟩⟩) (fun _ => rfl) rfl mX2_29 rfl rfl (fun _ => rfl) rfl mX2_35 rfl rfl lX2_49 (fun _ => rfl) (wd_le rfl) (fun i u hi hI hIt ih => ?_) (fun u hI => ?_) ⟨⟨fr.trans hq1.1, hq1.2⟩, f, hA1, fun k hk => (hf k hk).trans (dp0 k hk)⟩ ⟨-1, by rw [hw]; exact wNew_same _ _ _ _⟩
    · skip
      obtain ⟨hqi, f, hA, hf⟩ := hI
      have hla := ((hS.fr okw hqi.1).2.2.2.2.1.1 i hi).1
      refine WW.run (pc' := 51) (lv' := [(3, .ref (gl i)), (2, .ref it), (1, .ref q), (0, .ref a)]) (st' := [.ref q]) 1 rfl ?_
      refine WW.alen (v := nI 25) 32 0 rfl rfl hA rfl ?_
      refine WW.run (pc' := 54) (lv' := [(3, .ref (gl i)), (2, .ref it), (1, .ref q), (0, .ref a)]) (st' := [.int ((nI 25) - (nI 1))]) 2 rfl ?_
      have e24 : nI 25 - nI 1 = nI 24 := by decide +kernel
      rw [e24]
      refine WW.run (pc' := 56) (lv' := [(4, .int (nI 24)), (3, .ref (gl i)), (2, .ref it), (1, .ref q), (0, .ref a)]) (st' := []) 1 rfl ?_
      cases h0 : Nat.blt 0 (S.la i).le with
      | false =>
        refine WW.run (pc' := 57) (lv' := [(4, .int (nI 24)), (3, .ref (gl i)), (2, .ref it), (1, .ref q), (0, .ref a)]) (st' := [.ref (gl i)]) 1 rfl ?_
        refine WW.callV [] (gl i) [] rfl mX2_89 (sP_isLeased hla (hW.le hi)) (wdRecv.obj hla rfl) rfl rfl (wd_le rfl) (wd_le rfl) (wd_le rfl) (wd_le rfl) (fun o w' hq => ?_)
        obtain ⟨rfl, hw9⟩ := hq
        show WW _ _ _ 60 _ [.int (bI (Nat.blt 0 (S.la i).le))] _
        rw [hw9]
        clear hw9 w'
        rw [h0]
        refine WW.if_eq (tgt := 121) rfl rfl (fun _ => ?_) (fun hno => absurd rfl hno)
        refine WW.run (pc' := 31) (lv' := [(4, .int (nI 24)), (3, .ref (gl i)), (2, .ref it), (1, .ref q), (0, .ref a)]) (st' := []) 1 rfl ?_
        refine WW.pick (lv' := [(2, .ref it), (1, .ref q), (0, .ref a)]) [2, 3, 4] rfl ?_
        exact ih u ⟨hqi, f, hA, fun k hk => (hf k hk).trans (by show _ = (bif Nat.blt 0 (S.la i).le then _ else S.dp i k); rw [h0]; rfl)⟩ hIt
      | true =>
        obtain ⟨m, m1, m2, hm⟩ := hL i hi (Nat.le_of_ble_eq_true h0)
        refine cS_bsRoom hla (hW.le hi) h0 hm m1 m2 hA (fun h u1 wo hh hg => ?_)
        refine WW.run (pc' := 31) (lv' := [(4, .int (nI (m - 1))), (3, .ref (gl i)), (2, .ref it), (1, .ref q), (0, .ref a)]) (st' := []) 1 rfl ?_
        refine WW.pick (lv' := [(2, .ref it), (1, .ref q), (0, .ref a)]) [2, 3, 4] rfl ?_
        refine ih u1 ⟨hqi.only wo hq0, h, hh, fun k hk => (hg k hk).trans ?_⟩ (hIt.elim fun lr e => ⟨lr, (wo.2 11 it (Or.inl (by decide))).trans e⟩)
        show _ = (bif Nat.blt 0 (S.la i).le then dpG (S.dp i) (tn (S.la i).lv) (tn (S.la i).lv) k else S.dp i k)
        rw [h0, hm, show tn (nI m) = m from nI_clamp (by omega)]
        show dpG f m m k = dpG (S.dp i) m m k
        unfold dpG
        rw [hf k hk, hf (k - m) (by omega)]
    obtain ⟨hqi, f, hA, hf⟩ := hI
    refine WW.run (pc' := 128) (lv' := [(3, .int (nI 0)), (2, .int (nI 0)), (1, .ref q), (0, .ref a)]) (st' := []) 4 rfl ?_
    exact cS_bsTop (hS.fr okw hqi.1) hA hf _ ⟨rfl, hqi.1⟩ 25 0 (nI 0) rfl rfl
end
