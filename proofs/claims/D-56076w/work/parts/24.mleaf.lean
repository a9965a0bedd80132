set_option maxRecDepth 100000
/-! THE MODEL's SMALL METHODS -/
abbrev bI (b : Bool) : Int32 := bif b then 1 else 0
abbrev inR (x lo hi : Int32) : Bool := decide (lo ≤ x) && decide (x ≤ hi)
abbrev SpR (l : Launch) (G : wdG) (M : wdM) (d : Nat) (as : List Value) (w : wdW) (v : Value) : Prop := Sp l G M d 0 0 as w (fun o w' => o = .inl (some v) ∧ w' = w)
theorem WW.join {X : wdX} {kc ks pc pc' : Nat} {lv lv' : List (Nat × Value)} {st st' : List Value} {w : wdW} (k : WW X kc ks pc' lv' st' w) (h : WW X kc ks pc' lv' st' w → WW X kc ks pc lv st w) : WW X kc ks pc lv st w := h k
section
variable {l : Launch} {G : wdG} {w : wdW} {m : Nat} {A : Nat → Nat} {I : Nat → Int32} {F : Nat → Nat → Int32}
theorem sM_in (x lo hi : Int32) : SpR l G MX3_in 0 [.int x, .int lo, .int hi] w (.int (bI (inR x lo hi))) := by
  refine Sp.of rfl (by decide +kernel) kX3_in (wd_le rfl) ?_
  refine WW.run (pc' := 2) (lv' := [(0, .int x), (1, .int lo), (2, .int hi)]) (st' := [.int lo, .int x]) 2 rfl ?_
  refine WW.icmp_lt (tgt := 14) rfl rfl (fun h1 => ?_) (fun h1 => ?_)
  · skip
    refine WW.run (pc' := 15) (lv' := [(0, .int x), (1, .int lo), (2, .int hi)]) (st' := [.int (nI 0)]) 1 rfl ?_
    exact WW.iret rfl rfl rfl ⟨by rw [show inR x lo hi = false by simp only [inR, Bool.and_eq_false_iff, decide_eq_false_iff_not]; exact Or.inl (Int32.not_le.mpr h1)]; rfl, rfl⟩
  refine WW.run (pc' := 7) (lv' := [(0, .int x), (1, .int lo), (2, .int hi)]) (st' := [.int hi, .int x]) 2 rfl ?_
  refine WW.icmp_gt (tgt := 14) rfl rfl (fun h2 => ?_) (fun h2 => ?_)
  · skip
    refine WW.run (pc' := 15) (lv' := [(0, .int x), (1, .int lo), (2, .int hi)]) (st' := [.int (nI 0)]) 1 rfl ?_
    exact WW.iret rfl rfl rfl ⟨by rw [show inR x lo hi = false by simp only [inR, Bool.and_eq_false_iff, decide_eq_false_iff_not]; exact Or.inr (Int32.not_le.mpr h2)]; rfl, rfl⟩
  refine WW.run (pc' := 15) (lv' := [(0, .int x), (1, .int lo), (2, .int hi)]) (st' := [.int (nI 1)]) 2 rfl ?_
  exact WW.iret rfl rfl rfl ⟨by rw [show inR x lo hi = true by simp only [inR, Bool.and_eq_true, decide_eq_true_eq]; exact ⟨Int32.not_lt.mp h1, Int32.not_lt.mp h2⟩]; rfl, rfl⟩
theorem sM_thrown (hM : isM w m A I F) : SpR l G MX3_thrown 0 [.ref m] w (.int (I 2)) := by
  refine Sp.of rfl (by decide +kernel) kX3_thrown (wd_le rfl) ?_
  refine WW.run (pc' := 1) (lv' := [(0, .ref m)]) (st' := [.ref m]) 1 rfl ?_
  refine WW.get rfl fX3_42 hM.1 (show _ = some (.int (I 2)) from rfl) ?_
  exact WW.iret rfl rfl rfl ⟨rfl, rfl⟩
theorem sM_of (hM : isM w m A I F) (i j : Nat) (hb : 25 + 5 * i + j < 81) : SpR l G MX3_of 0 [.ref m, .int (nI i), .int (nI j)] w (.int (F 0 (25 + 5 * i + j))) := by
  refine Sp.of rfl (by decide +kernel) kX3_of (wd_le rfl) ?_
  refine WW.run (pc' := 1) (lv' := [(0, .ref m), (1, .int (nI i)), (2, .int (nI j))]) (st' := [.ref m]) 1 rfl ?_
  refine WW.get rfl fX3_9 hM.1 (show _ = some (.ref (A 0)) from rfl) ?_
  refine WW.run (pc' := 12) (lv' := [(0, .ref m), (1, .int (nI i)), (2, .int (nI j))]) (st' := [.int (((nI 25) + ((nI 5) * (nI i))) + (nI j)), .ref (A 0)]) 7 rfl ?_
  refine WW.mald 0 ((25 + (5 * i)) + j) rfl hM (by decide) rfl (wn_add (wn_add rfl (wn_mul rfl rfl)) rfl) (by show _ < 81; omega) (by decide) rfl ?_
  exact WW.iret rfl rfl rfl ⟨rfl, rfl⟩
theorem sM_ofShip (hM : isM w m A I F) (i j : Nat) (hb : 7 + 3 * i + j < 81) : SpR l G MX3_ofShip 0 [.ref m, .int (nI i), .int (nI j)] w (.int (F 0 (7 + 3 * i + j))) := by
  refine Sp.of rfl (by decide +kernel) kX3_ofShip (wd_le rfl) ?_
  refine WW.run (pc' := 1) (lv' := [(0, .ref m), (1, .int (nI i)), (2, .int (nI j))]) (st' := [.ref m]) 1 rfl ?_
  refine WW.get rfl fX3_9 hM.1 (show _ = some (.ref (A 0)) from rfl) ?_
  refine WW.run (pc' := 12) (lv' := [(0, .ref m), (1, .int (nI i)), (2, .int (nI j))]) (st' := [.int (((nI 7) + ((nI 3) * (nI i))) + (nI j)), .ref (A 0)]) 7 rfl ?_
  refine WW.mald 0 ((7 + (3 * i)) + j) rfl hM (by decide) rfl (wn_add (wn_add rfl (wn_mul rfl rfl)) rfl) (by show _ < 81; omega) (by decide) rfl ?_
  exact WW.iret rfl rfl rfl ⟨rfl, rfl⟩
theorem sM_sets (hM : isM w m A I F) (i j : Nat) (x : Int32) (hb : 25 + 5 * i + j < 81) : SpM l G MX3_sets 0 m A [.int (nI i), .int (nI j), .int x] w (fun v I' F' => v = none ∧ I' = I ∧ F' = va_up F 0 (va_up (F 0) (25 + 5 * i + j) x)) := by
  refine Sp.of rfl (by decide +kernel) kX3_sets (wd_le rfl) ?_
  refine WW.run (pc' := 1) (lv' := [(0, .ref m), (1, .int (nI i)), (2, .int (nI j)), (3, .int x)]) (st' := [.ref m]) 1 rfl ?_
  refine WW.get rfl fX3_9 hM.1 (show _ = some (.ref (A 0)) from rfl) ?_
  refine WW.run (pc' := 13) (lv' := [(0, .ref m), (1, .int (nI i)), (2, .int (nI j)), (3, .int x)]) (st' := [.int x, .int (((nI 25) + ((nI 5) * (nI i))) + (nI j)), .ref (A 0)]) 8 rfl ?_
  refine WW.mast 0 ((25 + (5 * i)) + j) rfl hM (by decide) rfl (wn_add (wn_add rfl (wn_mul rfl rfl)) rfl) (by show _ < 81; omega) (by decide) (fun w1 hM1 fr1 => ?_)
  exact WW.vret rfl rfl ⟨_, _, _, rfl, ⟨rfl, rfl, rfl⟩, hM1, fr1⟩
theorem sM_keep (hM : isM w m A I F) : SpM l G MX3_keep 2 m A [] w (fun v I' F' => v = none ∧ I' = va_up I 2 (nI 0) ∧ F' = va_up F 1 (va_cpy (F 0) (F 1) 0 0 81)) := by
  refine Sp.of rfl (by decide +kernel) kX3_keep (wd_le rfl) ?_
  refine WW.run (pc' := 2) (lv' := [(0, .ref m)]) (st' := [.int (nI 0), .ref m]) 2 rfl ?_
  refine WW.mputI 2 rfl pfX3_42 hM rfl rfl rfl rfl (fun w2 hM2 fr2 => ?_)
  refine WW.run (pc' := 6) (lv' := [(0, .ref m)]) (st' := [.ref m]) 1 rfl ?_
  refine WW.get rfl fX3_9 hM2.1 (show _ = some (.ref (A 0)) from rfl) ?_
  refine WW.run (pc' := 11) (lv' := [(0, .ref m)]) (st' := [.ref m, .int (nI 0), .ref (A 0)]) 2 rfl ?_
  refine WW.get rfl fX3_13 hM2.1 (show _ = some (.ref (A 1)) from rfl) ?_
  refine WW.run (pc' := 17) (lv' := [(0, .ref m)]) (st' := [.int (nI 81), .int (nI 0), .ref (A 1), .int (nI 0), .ref (A 0)]) 2 rfl ?_
  refine WW.mcopy 0 1 0 0 81 rfl mX3_45 hM2 (by decide) (by decide) rfl rfl rfl rfl rfl (by decide) (by decide) (wd_le rfl) (wd_le rfl) (fun w3 hM3 fr3 => ?_)
  exact WW.vret rfl rfl ⟨_, _, _, rfl, ⟨rfl, rfl, rfl⟩, hM3, (fr2.trans fr3)⟩
theorem sM_fails (hM : isM w m A I F) (p : Int32) : SpM l G MX3_fails 0 m A [.int p] w (fun v I' F' => v = some (.int (nI 0)) ∧ I' = va_up I 2 p ∧ F' = F) := by
  refine Sp.of rfl (by decide +kernel) kX3_fails (wd_le rfl) ?_
  refine WW.run (pc' := 2) (lv' := [(0, .ref m), (1, .int p)]) (st' := [.int p, .ref m]) 2 rfl ?_
  refine WW.mputI 2 rfl pfX3_42 hM rfl rfl rfl rfl (fun w4 hM4 fr4 => ?_)
  refine WW.run (pc' := 6) (lv' := [(0, .ref m), (1, .int p)]) (st' := [.int (nI 0)]) 1 rfl ?_
  exact WW.iret rfl rfl rfl ⟨_, _, _, rfl, ⟨rfl, rfl, rfl⟩, hM4, fr4⟩
theorem sM_isThere (hM : isM w m A I F) (b : Bool) : SpM l G MX3_isThere 0 m A [.int (bI b)] w (fun v I' F' => v = some (.int (bI b)) ∧ I' = va_up I 2 (bI (!b)) ∧ F' = F) := by
  refine Sp.of rfl (by decide +kernel) kX3_isThere (wd_le rfl) ?_
  refine WW.run (pc' := 2) (lv' := [(0, .ref m), (1, .int (bI b))]) (st' := [.int (bI b), .ref m]) 2 rfl ?_
  cases b with
  | false =>
    refine WW.if_eq (tgt := 9) rfl rfl (fun _ => ?_) (fun hno => absurd rfl hno)
    refine WW.run (pc' := 10) (lv' := [(0, .ref m), (1, .int (bI false))]) (st' := [.int (nI 1), .ref m]) 1 rfl ?_
    refine WW.mputI 2 rfl pfX3_42 hM rfl rfl rfl rfl (fun w5 hM5 fr5 => ?_)
    refine WW.run (pc' := 14) (lv' := [(0, .ref m), (1, .int (bI false))]) (st' := [.int (bI false)]) 1 rfl ?_
    exact WW.iret rfl rfl rfl ⟨_, _, _, rfl, ⟨rfl, rfl, rfl⟩, hM5, fr5⟩
  | true =>
    refine WW.if_eq (tgt := 9) rfl rfl (fun hno => absurd hno (by decide)) (fun _ => ?_)
    refine WW.run (pc' := 10) (lv' := [(0, .ref m), (1, .int (bI true))]) (st' := [.int (nI 0), .ref m]) 2 rfl ?_
    refine WW.mputI 2 rfl pfX3_42 hM rfl rfl rfl rfl (fun w6 hM6 fr6 => ?_)
    refine WW.run (pc' := 14) (lv' := [(0, .ref m), (1, .int (bI true))]) (st' := [.int (bI true)]) 1 rfl ?_
    exact WW.iret rfl rfl rfl ⟨_, _, _, rfl, ⟨rfl, rfl, rfl⟩, hM6, fr6⟩
end
