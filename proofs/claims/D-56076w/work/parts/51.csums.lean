set_option maxRecDepth 100000
/-! MOST BRIGHT by sums -/
def wOnly (k a : Nat) (w u : wdW) : Prop := u.2 = w.2 ∧ ∀ k' a', (k' ≠ k ∨ a' ≠ a) → u.1 k' a' = w.1 k' a'
theorem wOnly.refl (k a : Nat) (w : wdW) : wOnly k a w w := ⟨rfl, fun _ _ _ => rfl⟩
theorem wOnly.put {k a : Nat} {w u : wdW} (h : wOnly k a w u) (p : wdPay) : wOnly k a w (wPut u k a p) := ⟨h.1, fun k' a' q => by rw [wPut_eq, if_neg (fun e => by rcases q with q | q; exact q e.1; exact q e.2)]; exact h.2 k' a' q⟩
/-- one more lamp, or as before -/
def dpC (x : Int32) : Int32 := bif decide (x = -1) then -1 else x + nI 1
def dpM (x y : Int32) : Int32 := if x < dpC y then dpC y else x
/-- rooms from b on are renewed -/
def dpG (f : Nat → Int32) (m b k : Nat) : Int32 := if b ≤ k then dpM (f k) (f (k - m)) else f k
section
variable {l : Launch} {G : wdG} {w : wdW} {lo a : Nat} {Z gs gl gr : Nat → Nat} {S : aS}
theorem cS_bsRoom {Q : wdO → wdW → Prop} {kc ks it q g m : Nat} {x : aLa} {f : Nat → Int32} (hla : w.1 4 g = some (.inl (laF x))) (hle : x.2.1 < 2 ^ 31) (h0 : Nat.blt 0 x.2.1 = true) (hm : x.1 = nI m) (m1 : 1 ≤ m) (m2 : m ≤ 24) (hA : w.1 32 q = some (.inr (25, .inl f))) (k : ∀ h u, wOnly 32 q w u → u.1 32 q = some (.inr (25, .inl h)) → (∀ k, k < 25 → h k = dpG f m m k) → WW (l, G, MX2_mostBrightBySums, 4, 20, 100, Q) kc ks 121 [(4, .int (nI (m - 1))), (3, .ref g), (2, .ref it), (1, .ref q), (0, .ref a)] [] u) : WW (l, G, MX2_mostBrightBySums, 4, 20, 100, Q) kc ks 56 [(4, .int (nI 24)), (3, .ref g), (2, .ref it), (1, .ref q), (0, .ref a)] [] w := by
  refine WW.upW (25 - m) (fun _ => kc) (fun _ => ks) (fun d => [(4, .int (nI (24 - d))), (3, .ref g), (2, .ref it), (1, .ref q), (0, .ref a)]) (fun d u => wOnly 32 q w u ∧ ∃ h, u.1 32 q = some (.inr (25, .inl h)) ∧ ∀ k, k < 25 → h k = dpG f m (25 - d) k) (fun d u hd hI ih => ?_) (fun u hI => ?_) ⟨wOnly.refl _ _ _, f, hA, fun k hk => (if_neg (by omega)).symm⟩
  · skip
    obtain ⟨wo, h, hh, hf⟩ := hI
    have hl2 : u.1 4 g = some (.inl (laF x)) := (wo.2 4 g (Or.inl (by decide))).trans hla
    have hr : h (24 - d) = f (24 - d) := (hf _ (by omega)).trans (if_neg (by omega))
    have hr2 : h (24 - d - m) = f (24 - d - m) := (hf _ (by omega)).trans (if_neg (by omega))
    generalize hrm : 24 - d = r at hr hr2
    refine WW.run (pc' := 57) (lv' := [(4, .int (nI r)), (3, .ref g), (2, .ref it), (1, .ref q), (0, .ref a)]) (st' := [.ref g]) 1 rfl ?_
    refine WW.callV [] g [] rfl mX2_89 (sP_isLeased hl2 hle) (wdRecv.obj hl2 rfl) rfl rfl (wd_le rfl) (wd_le rfl) (wd_le rfl) (wd_le rfl) (fun o w' hq => ?_)
    obtain ⟨rfl, hw9⟩ := hq
    show WW _ _ _ 60 _ [.int (bI (Nat.blt 0 x.2.1))] _
    rw [hw9]
    clear hw9 w'
    rw [h0]
    refine WW.if_eq (tgt := 121) rfl rfl (fun hno => absurd hno (by decide)) (fun _ => ?_)
    have hl3 : u.1 4 g = some (.inl [.int (nI m), .int (nI x.2.1 - nI 1), .int x.2.2.1, .int x.2.2.2.1, .int (bI x.2.2.2.2)]) := by
      rw [hl2, ← hm]
    refine WW.run (pc' := 66) (lv' := [(4, .int (nI r)), (3, .ref g), (2, .ref it), (1, .ref q), (0, .ref a)]) (st' := [.ref g, .int (nI r)]) 2 rfl ?_
    refine WW.get rfl fX2_99 hl3 (show _ = some (.int (nI m)) from rfl) ?_
    refine WW.icmp_lt (tgt := 121) rfl rfl (fun hno => absurd hno (nI_nlt (show m ≤ r by omega) (by omega))) (fun _ => ?_)
    refine WW.run (pc' := 76) (lv' := [(4, .int (nI r)), (3, .ref g), (2, .ref it), (1, .ref q), (0, .ref a)]) (st' := [.ref g, .int (nI r), .ref q]) 3 rfl ?_
    refine WW.get rfl fX2_99 hl3 (show _ = some (.int (nI m)) from rfl) ?_
    refine WW.run (pc' := 80) (lv' := [(4, .int (nI r)), (3, .ref g), (2, .ref it), (1, .ref q), (0, .ref a)]) (st' := [.int ((nI r) - (nI m)), .ref q]) 1 rfl ?_
    have em : nI r - nI m = nI (r - m) := (wn_sub rfl rfl (by omega))
    rw [em]
    refine WW.ialdN (r - m) rfl hh rfl (by omega) (by decide) hr2 ?_
    refine WW.run (pc' := 82) (lv' := [(4, .int (nI r)), (3, .ref g), (2, .ref it), (1, .ref q), (0, .ref a)]) (st' := [.int (-1), .int (f (r - m))]) 1 rfl ?_
    refine WW.join (pc' := 100) (lv' := [(4, .int (nI r)), (3, .ref g), (2, .ref it), (1, .ref q), (0, .ref a)]) (st' := [.int (dpC (f (r - m)))]) ?_ ?_
    rotate_left
    · cases hb : (decide (f (r - m) = -1)) with
      | false =>
        intro H
        refine WW.icmp_ne (tgt := 89) rfl rfl (fun _ => ?_) (fun hno => absurd hno (of_decide_eq_false hb))
        refine WW.run (pc' := 93) (lv' := [(4, .int (nI r)), (3, .ref g), (2, .ref it), (1, .ref q), (0, .ref a)]) (st' := [.ref g, .int (nI r), .ref q]) 3 rfl ?_
        refine WW.get rfl fX2_99 hl3 (show _ = some (.int (nI m)) from rfl) ?_
        refine WW.run (pc' := 97) (lv' := [(4, .int (nI r)), (3, .ref g), (2, .ref it), (1, .ref q), (0, .ref a)]) (st' := [.int ((nI r) - (nI m)), .ref q]) 1 rfl ?_
        rw [em]
        refine WW.ialdN (r - m) rfl hh rfl (by omega) (by decide) hr2 ?_
        refine WW.run (pc' := 100) (lv' := [(4, .int (nI r)), (3, .ref g), (2, .ref it), (1, .ref q), (0, .ref a)]) (st' := [.int ((f (r - m)) + (nI 1))]) 2 rfl ?_
        unfold dpC at H
        rw [hb] at H
        exact H
      | true =>
        intro H
        refine WW.icmp_ne (tgt := 89) rfl rfl (fun hno => absurd (of_decide_eq_true hb) hno) (fun _ => ?_)
        refine WW.run (pc' := 100) (lv' := [(4, .int (nI r)), (3, .ref g), (2, .ref it), (1, .ref q), (0, .ref a)]) (st' := [.int (-1)]) 2 rfl ?_
        unfold dpC at H
        rw [hb] at H
        exact H
    refine WW.run (pc' := 108) (lv' := [(5, .int (dpC (f (r - m)))), (4, .int (nI r)), (3, .ref g), (2, .ref it), (1, .ref q), (0, .ref a)]) (st' := [.int (nI r), .ref q, .int (nI r), .ref q]) 5 rfl ?_
    refine WW.ialdN r rfl hh rfl (by omega) (by decide) hr ?_
    refine WW.run (pc' := 111) (lv' := [(5, .int (dpC (f (r - m)))), (4, .int (nI r)), (3, .ref g), (2, .ref it), (1, .ref q), (0, .ref a)]) (st' := [.int (dpC (f (r - m))), .int (f r), .int (nI r), .ref q]) 1 rfl ?_
    refine WW.mmax rfl q566 q455 q82 q456 (wd_le rfl) (wd_le rfl) ?_
    refine WW.iastN (f' := upd h r (if (f r) < (dpC (f (r - m))) then dpC (f (r - m)) else f r)) r rfl hh rfl (by omega) (by decide) rfl ?_
    have h2 : (wPut u 32 q (.inr (25, .inl (upd h r (if (f r) < (dpC (f (r - m))) then dpC (f (r - m)) else f r))))).1 32 q = some (.inr (25, .inl (upd h r (if (f r) < (dpC (f (r - m))) then dpC (f (r - m)) else f r)))) := wPut_same _ _ _ _
    refine WW.run (pc' := 56) (lv' := [(4, .int ((nI r) + -1)), (5, .int (dpC (f (r - m)))), (3, .ref g), (2, .ref it), (1, .ref q), (0, .ref a)]) (st' := []) 2 rfl ?_
    refine WW.pick (lv' := [(4, .int ((nI r) + -1)), (3, .ref g), (2, .ref it), (1, .ref q), (0, .ref a)]) [0, 2, 3, 4, 5] rfl ?_
    have e9 : nI r + -1 = nI (24 - (d + 1)) := by
      rw [nI_m1, wn_sub rfl rfl (by omega), show r - 1 = 24 - (d + 1) by omega]
    rw [e9]
    refine ih _ ⟨wo.put _, _, h2, fun k hk => ?_⟩
    by_cases e : k = r
    · subst e
      refine (if_pos rfl).trans ?_
      unfold dpG
      exact (if_pos (by omega)).symm
    · refine (if_neg e).trans ((hf k hk).trans ?_)
      unfold dpG
      by_cases e3 : 25 - d ≤ k
      · rw [if_pos e3, if_pos (by omega)]
      · rw [if_neg e3, if_neg (by omega)]
  · skip
    obtain ⟨wo, h, hh, hf⟩ := hI
    have e1 : 25 - (25 - m) = m := by omega
    have e2 : 24 - (25 - m) = m - 1 := by omega
    rw [e1] at hf
    rw [e2]
    have hl2 : u.1 4 g = some (.inl (laF x)) := (wo.2 4 g (Or.inl (by decide))).trans hla
    have hl3 : u.1 4 g = some (.inl [.int (nI m), .int (nI x.2.1 - nI 1), .int x.2.2.1, .int x.2.2.2.1, .int (bI x.2.2.2.2)]) := by
      rw [hl2, ← hm]
    refine WW.run (pc' := 57) (lv' := [(4, .int (nI (m - 1))), (3, .ref g), (2, .ref it), (1, .ref q), (0, .ref a)]) (st' := [.ref g]) 1 rfl ?_
    refine WW.callV [] g [] rfl mX2_89 (sP_isLeased hl2 hle) (wdRecv.obj hl2 rfl) rfl rfl (wd_le rfl) (wd_le rfl) (wd_le rfl) (wd_le rfl) (fun o w' hq => ?_)
    obtain ⟨rfl, hw9⟩ := hq
    show WW _ _ _ 60 _ [.int (bI (Nat.blt 0 x.2.1))] _
    rw [hw9]
    clear hw9 w'
    rw [h0]
    refine WW.if_eq (tgt := 121) rfl rfl (fun hno => absurd hno (by decide)) (fun _ => ?_)
    refine WW.run (pc' := 66) (lv' := [(4, .int (nI (m - 1))), (3, .ref g), (2, .ref it), (1, .ref q), (0, .ref a)]) (st' := [.ref g, .int (nI (m - 1))]) 2 rfl ?_
    refine WW.get rfl fX2_99 hl3 (show _ = some (.int (nI m)) from rfl) ?_
    refine WW.icmp_lt (tgt := 121) rfl rfl (fun _ => ?_) (fun hno => absurd (nI_lt (by omega) (by omega)) hno)
    exact k h u wo hh hf
end
