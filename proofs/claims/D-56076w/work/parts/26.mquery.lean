set_option maxRecDepth 100000
/-! THE MODEL's QUESTIONS, by the state -/
theorem sM_le1 {x : Nat} (h : x < 2 ^ 31) : (nI x ≤ 0) = (Nat.blt 0 x = false) := by
  cases x with
  | zero => simp [nI_0]; rfl
  | succ n => simp [nI_nle (Nat.succ_pos n) h, Nat.blt]
def aS.lampsOf (S : aS) (j : Nat) (b : Bool) : Int32 := aSum (fun z => bI ((S.la z).le == j + 1 && (!b || (S.la z).was))) S.nl
def oI (o : Option Nat) : Int32 := match o with
  | none => -1
  | some k => nI k
section
variable {l : Launch} {G : wdG} {w : wdW} {m : Nat} {A : Nat → Nat} {I : Nat → Int32} {F : Nat → Nat → Int32} {S : aS}
theorem sM_lv (hM : isM w m A I F) (hS : fS (F 0) S) (hW : aWf S) {i : Nat} (hi : i < S.nl) : SpR l G MX3_of 0 [.ref m, .int (nI i), .int (nI 0)] w (.int (S.la i).lv) := by
  have h := sM_of (l := l) (G := G) hM i 0 (by have := hW.2.1; omega)
  rw [(hS.2.2.1 i hi).1] at h
  exact h
theorem sM_le (hM : isM w m A I F) (hS : fS (F 0) S) (hW : aWf S) {i : Nat} (hi : i < S.nl) : SpR l G MX3_of 0 [.ref m, .int (nI i), .int (nI 1)] w (.int (nI (S.la i).le)) := by
  have h := sM_of (l := l) (G := G) hM i 1 (by have := hW.2.1; omega)
  rw [(hS.2.2.1 i hi).2.1] at h
  exact h
theorem sM_en (hM : isM w m A I F) (hS : fS (F 0) S) (hW : aWf S) {i : Nat} (hi : i < S.nl) : SpR l G MX3_of 0 [.ref m, .int (nI i), .int (nI 2)] w (.int (if (S.la i).le = 0 then nI 0 else (S.la i).en)) := by
  have h := sM_of (l := l) (G := G) hM i 2 (by have := hW.2.1; omega)
  rw [(hS.2.2.1 i hi).2.2.1] at h
  exact h
theorem sM_br (hM : isM w m A I F) (hS : fS (F 0) S) (hW : aWf S) {i : Nat} (hi : i < S.nl) : SpR l G MX3_of 0 [.ref m, .int (nI i), .int (nI 3)] w (.int (S.la i).br) := by
  have h := sM_of (l := l) (G := G) hM i 3 (by have := hW.2.1; omega)
  rw [(hS.2.2.1 i hi).2.2.2.1] at h
  exact h
theorem sM_was (hM : isM w m A I F) (hS : fS (F 0) S) (hW : aWf S) {i : Nat} (hi : i < S.nl) : SpR l G MX3_of 0 [.ref m, .int (nI i), .int (nI 4)] w (.int (bI (S.la i).was)) := by
  have h := sM_of (l := l) (G := G) hM i 4 (by have := hW.2.1; omega)
  rw [(hS.2.2.1 i hi).2.2.2.2] at h
  exact h
theorem sM_co (hM : isM w m A I F) (hS : fS (F 0) S) (hW : aWf S) {i : Nat} (hi : i < S.ns) : SpR l G MX3_ofShip 0 [.ref m, .int (nI i), .int (nI 0)] w (.int (S.sh i).1) := by
  have h := sM_ofShip (l := l) (G := G) hM i 0 (by have := hW.1; omega)
  rw [(hS.2.1 i hi).1] at h
  exact h
theorem sM_fi (hM : isM w m A I F) (hS : fS (F 0) S) (hW : aWf S) {i : Nat} (hi : i < S.ns) : SpR l G MX3_ofShip 0 [.ref m, .int (nI i), .int (nI 1)] w (.int (S.sh i).2.1) := by
  have h := sM_ofShip (l := l) (G := G) hM i 1 (by have := hW.1; omega)
  rw [(hS.2.1 i hi).2.1] at h
  exact h
theorem sM_da (hM : isM w m A I F) (hS : fS (F 0) S) (hW : aWf S) {i : Nat} (hi : i < S.ns) : SpR l G MX3_ofShip 0 [.ref m, .int (nI i), .int (nI 2)] w (.int (S.sh i).2.2) := by
  have h := sM_ofShip (l := l) (G := G) hM i 2 (by have := hW.1; omega)
  rw [(hS.2.1 i hi).2.2] at h
  exact h
theorem aWf.le {S : aS} (hW : aWf S) {i : Nat} (hi : i < S.nl) : (S.la i).le < 2 ^ 31 := by
  have h1 := hW.1
  have h2 := hW.2.2.2.1 i hi
  omega
theorem sM_isOut (hM : isM w m A I F) (hS : fS (F 0) S) (hW : aWf S) {i : Nat} (hi : i < S.nl) : SpR l G MX3_isOut 1 [.ref m, .int (nI i)] w (.int (bI (Nat.blt 0 (S.la i).le))) := by
  have hl := hW.le hi
  refine Sp.of rfl (by decide +kernel) kX3_isOut (wd_le rfl) ?_
  refine WW.run (pc' := 3) (lv' := [(0, .ref m), (1, .int (nI i))]) (st' := [.int (nI 1), .int (nI i), .ref m]) 3 rfl ?_
  refine WW.callV [.int (nI i), .int (nI 1)] m [] rfl mX3_58 (sM_le hM hS hW hi) (wdRecv.obj hM.1 rfl) rfl rfl (wd_le rfl) (wd_le rfl) (wd_le rfl) (wd_le rfl) (fun o w' hq => ?_)
  obtain ⟨rfl, rfl⟩ := hq
  show WW _ _ _ 6 _ [.int (nI ((S.la i).le))] _
  refine WW.join (pc' := 14) (lv' := [(0, .ref m), (1, .int (nI i))]) (st' := [.int (bI (Nat.blt 0 (S.la i).le))]) ?_ ?_
  rotate_left
  · cases hb : (Nat.blt 0 (S.la i).le) with
    | false =>
      intro H
      refine WW.if_le (tgt := 13) rfl rfl (fun _ => ?_) (fun hno => absurd (by rw [sM_le1 hl]; exact hb) hno)
      refine WW.run (pc' := 14) (lv' := [(0, .ref m), (1, .int (nI i))]) (st' := [.int (nI 0)]) 1 rfl ?_
      exact H
    | true =>
      intro H
      refine WW.if_le (tgt := 13) rfl rfl (fun hno => absurd hno (by rw [sM_le1 hl, hb]; exact fun h => nomatch h)) (fun _ => ?_)
      refine WW.run (pc' := 14) (lv' := [(0, .ref m), (1, .int (nI i))]) (st' := [.int (nI 1)]) 2 rfl ?_
      exact H
  exact WW.iret rfl rfl (by cases Nat.blt 0 (S.la i).le <;> rfl) ⟨rfl, rfl⟩
theorem sM_isShip (hM : isM w m A I F) (hS : fS (F 0) S) (x : Int32) : SpR l G MX3_isShip 1 [.ref m, .int x] w (.int (bI (S.ixS x))) := by
  refine Sp.of rfl (by decide +kernel) kX3_isShip (wd_le rfl) ?_
  refine WW.run (pc' := 3) (lv' := [(0, .ref m), (1, .int x)]) (st' := [.ref m, .int (nI 0), .int x]) 3 rfl ?_
  refine WW.get rfl fX3_9 hM.1 (show _ = some (.ref (A 0)) from rfl) ?_
  refine WW.run (pc' := 7) (lv' := [(0, .ref m), (1, .int x)]) (st' := [.int (nI 0), .ref (A 0), .int (nI 0), .int x]) 1 rfl ?_
  refine WW.mald 0 0 rfl hM (by decide) rfl rfl (by decide) (by decide) hS.1.1 ?_
  refine WW.run (pc' := 10) (lv' := [(0, .ref m), (1, .int x)]) (st' := [.int ((nI S.ns) - (nI 1)), .int (nI 0), .int x]) 2 rfl ?_
  refine WW.callS [.int x, .int (nI 0), .int ((nI S.ns) - (nI 1))] [] rfl mX3_54 (sM_in x (nI 0) (nI S.ns - nI 1)) rfl rfl (wd_le rfl) (wd_le rfl) (wd_le rfl) (wd_le rfl) (fun o w' hq => ?_)
  obtain ⟨rfl, rfl⟩ := hq
  show WW _ _ _ 13 _ [.int (bI (S.ixS x))] _
  exact WW.iret rfl rfl (by cases S.ixS x <;> rfl) ⟨rfl, rfl⟩
theorem sM_isLamp (hM : isM w m A I F) (hS : fS (F 0) S) (x : Int32) : SpR l G MX3_isLamp 1 [.ref m, .int x] w (.int (bI (S.ixL x))) := by
  refine Sp.of rfl (by decide +kernel) kX3_isLamp (wd_le rfl) ?_
  refine WW.run (pc' := 3) (lv' := [(0, .ref m), (1, .int x)]) (st' := [.ref m, .int (nI 0), .int x]) 3 rfl ?_
  refine WW.get rfl fX3_9 hM.1 (show _ = some (.ref (A 0)) from rfl) ?_
  refine WW.run (pc' := 7) (lv' := [(0, .ref m), (1, .int x)]) (st' := [.int (nI 1), .ref (A 0), .int (nI 0), .int x]) 1 rfl ?_
  refine WW.mald 0 1 rfl hM (by decide) rfl rfl (by decide) (by decide) hS.1.2.1 ?_
  refine WW.run (pc' := 10) (lv' := [(0, .ref m), (1, .int x)]) (st' := [.int ((nI S.nl) - (nI 1)), .int (nI 0), .int x]) 2 rfl ?_
  refine WW.callS [.int x, .int (nI 0), .int ((nI S.nl) - (nI 1))] [] rfl mX3_54 (sM_in x (nI 0) (nI S.nl - nI 1)) rfl rfl (wd_le rfl) (wd_le rfl) (wd_le rfl) (wd_le rfl) (fun o w' hq => ?_)
  obtain ⟨rfl, rfl⟩ := hq
  show WW _ _ _ 13 _ [.int (bI (S.ixL x))] _
  exact WW.iret rfl rfl (by cases S.ixL x <;> rfl) ⟨rfl, rfl⟩
theorem sM_isRequest (hM : isM w m A I F) (hS : fS (F 0) S) (x : Int32) : SpR l G MX3_isRequest 1 [.ref m, .int x] w (.int (bI (S.ixR x))) := by
  refine Sp.of rfl (by decide +kernel) kX3_isRequest (wd_le rfl) ?_
  refine WW.run (pc' := 3) (lv' := [(0, .ref m), (1, .int x)]) (st' := [.ref m, .int (nI 0), .int x]) 3 rfl ?_
  refine WW.get rfl fX3_9 hM.1 (show _ = some (.ref (A 0)) from rfl) ?_
  refine WW.run (pc' := 8) (lv' := [(0, .ref m), (1, .int x)]) (st' := [.int (nI 6), .ref (A 0), .int (nI 0), .int x]) 1 rfl ?_
  refine WW.mald 0 6 rfl hM (by decide) rfl rfl (by decide) (by decide) hS.1.2.2.2.2.2.2 ?_
  refine WW.run (pc' := 11) (lv' := [(0, .ref m), (1, .int x)]) (st' := [.int ((nI S.nr) - (nI 1)), .int (nI 0), .int x]) 2 rfl ?_
  refine WW.callS [.int x, .int (nI 0), .int ((nI S.nr) - (nI 1))] [] rfl mX3_54 (sM_in x (nI 0) (nI S.nr - nI 1)) rfl rfl (wd_le rfl) (wd_le rfl) (wd_le rfl) (wd_le rfl) (fun o w' hq => ?_)
  obtain ⟨rfl, rfl⟩ := hq
  show WW _ _ _ 14 _ [.int (bI (S.ixR x))] _
  exact WW.iret rfl rfl (by cases S.ixR x <;> rfl) ⟨rfl, rfl⟩
theorem sM_leased (hM : isM w m A I F) (hS : fS (F 0) S) (hW : aWf S) : SpR l G MX3_leased 2 [.ref m] w (.int S.leased) := by
  have hn : S.nl < 2 ^ 31 := by have := hW.2.1; omega
  refine Sp.of rfl (by decide +kernel) kX3_leased (wd_le rfl) ?_
  refine WW.run (pc' := 4) (lv' := [(2, .int (nI 0)), (1, .int (nI 0)), (0, .ref m)]) (st' := []) 4 rfl ?_
  refine WW.up S.nl (fun i => [(2, .int (nI i)), (1, .int (aSum (fun z => bI (Nat.blt 0 (S.la z).le)) i)), (0, .ref m)]) (fun i hi ih => ?_) ?_
  · skip
    refine WW.run (pc' := 6) (lv' := [(2, .int (nI i)), (1, .int (aSum (fun z => bI (Nat.blt 0 (S.la z).le)) i)), (0, .ref m)]) (st' := [.ref m, .int (nI i)]) 2 rfl ?_
    refine WW.get rfl fX3_9 hM.1 (show _ = some (.ref (A 0)) from rfl) ?_
    refine WW.run (pc' := 10) (lv' := [(2, .int (nI i)), (1, .int (aSum (fun z => bI (Nat.blt 0 (S.la z).le)) i)), (0, .ref m)]) (st' := [.int (nI 1), .ref (A 0), .int (nI i)]) 1 rfl ?_
    refine WW.mald 0 1 rfl hM (by decide) rfl rfl (by decide) (by decide) hS.1.2.1 ?_
    refine WW.icmp_ge (tgt := 36) rfl rfl (fun hno => absurd hno (nI_ge hi hn)) (fun _ => ?_)
    refine WW.run (pc' := 17) (lv' := [(2, .int (nI i)), (1, .int (aSum (fun z => bI (Nat.blt 0 (S.la z).le)) i)), (0, .ref m)]) (st' := [.int (nI i), .ref m, .int (aSum (fun z => bI (Nat.blt 0 (S.la z).le)) i)]) 3 rfl ?_
    refine WW.callV [.int (nI i)] m [.int (aSum (fun z => bI (Nat.blt 0 (S.la z).le)) i)] rfl mX3_96 (sM_isOut hM hS hW hi) (wdRecv.obj hM.1 rfl) rfl rfl (wd_le rfl) (wd_le rfl) (wd_le rfl) (wd_le rfl) (fun o w' hq => ?_)
    obtain ⟨rfl, rfl⟩ := hq
    show WW _ _ _ 20 _ [.int (bI (Nat.blt 0 (S.la i).le)), .int (aSum (fun z => bI (Nat.blt 0 (S.la z).le)) i)] _
    refine WW.join (pc' := 28) (lv' := [(2, .int (nI i)), (1, .int (aSum (fun z => bI (Nat.blt 0 (S.la z).le)) i)), (0, .ref m)]) (st' := [.int (bI (Nat.blt 0 (S.la i).le)), .int (aSum (fun z => bI (Nat.blt 0 (S.la z).le)) i)]) ?_ ?_
    rotate_left
    · cases hb : (Nat.blt 0 (S.la i).le) with
      | false =>
        intro H
        refine WW.if_eq (tgt := 27) rfl rfl (fun _ => ?_) (fun hno => absurd rfl hno)
        refine WW.run (pc' := 28) (lv' := [(2, .int (nI i)), (1, .int (aSum (fun z => bI (Nat.blt 0 (S.la z).le)) i)), (0, .ref m)]) (st' := [.int (nI 0), .int (aSum (fun z => bI (Nat.blt 0 (S.la z).le)) i)]) 1 rfl ?_
        exact H
      | true =>
        intro H
        refine WW.if_eq (tgt := 27) rfl rfl (fun hno => absurd hno (by decide)) (fun _ => ?_)
        refine WW.run (pc' := 28) (lv' := [(2, .int (nI i)), (1, .int (aSum (fun z => bI (Nat.blt 0 (S.la z).le)) i)), (0, .ref m)]) (st' := [.int (nI 1), .int (aSum (fun z => bI (Nat.blt 0 (S.la z).le)) i)]) 2 rfl ?_
        exact H
    refine WW.run (pc' := 4) (lv' := [(2, .int ((nI i) + nI 1)), (1, .int ((aSum (fun z => bI (Nat.blt 0 (S.la z).le)) i) + (bI (Nat.blt 0 (S.la i).le)))), (0, .ref m)]) (st' := []) 4 rfl ?_
    rw [nI_add] at *
    exact ih
  · skip
    refine WW.run (pc' := 6) (lv' := [(2, .int (nI S.nl)), (1, .int S.leased), (0, .ref m)]) (st' := [.ref m, .int (nI S.nl)]) 2 rfl ?_
    refine WW.get rfl fX3_9 hM.1 (show _ = some (.ref (A 0)) from rfl) ?_
    refine WW.run (pc' := 10) (lv' := [(2, .int (nI S.nl)), (1, .int S.leased), (0, .ref m)]) (st' := [.int (nI 1), .ref (A 0), .int (nI S.nl)]) 1 rfl ?_
    refine WW.mald 0 1 rfl hM (by decide) rfl rfl (by decide) (by decide) hS.1.2.1 ?_
    refine WW.icmp_ge (tgt := 36) rfl rfl (fun _ => ?_) (fun hno => absurd (nI_le (Nat.le_refl _) hn) hno)
    refine WW.run (pc' := 37) (lv' := [(2, .int (nI S.nl)), (1, .int S.leased), (0, .ref m)]) (st' := [.int S.leased]) 1 rfl ?_
    exact WW.iret rfl rfl rfl ⟨rfl, rfl⟩
theorem sM_needed (hM : isM w m A I F) (hS : fS (F 0) S) (hW : aWf S) : SpR l G MX3_needed 2 [.ref m] w (.int S.needs) := by
  have hn : S.nl < 2 ^ 31 := by have := hW.2.1; omega
  refine Sp.of rfl (by decide +kernel) kX3_needed (wd_le rfl) ?_
  refine WW.run (pc' := 4) (lv' := [(2, .int (nI 0)), (1, .int (nI 0)), (0, .ref m)]) (st' := []) 4 rfl ?_
  refine WW.up S.nl (fun i => [(2, .int (nI i)), (1, .int (aSum (fun z => bif Nat.blt 0 (S.la z).le then (S.la z).lv else nI 0) i)), (0, .ref m)]) (fun i hi ih => ?_) ?_
  · skip
    refine WW.run (pc' := 6) (lv' := [(2, .int (nI i)), (1, .int (aSum (fun z => bif Nat.blt 0 (S.la z).le then (S.la z).lv else nI 0) i)), (0, .ref m)]) (st' := [.ref m, .int (nI i)]) 2 rfl ?_
    refine WW.get rfl fX3_9 hM.1 (show _ = some (.ref (A 0)) from rfl) ?_
    refine WW.run (pc' := 10) (lv' := [(2, .int (nI i)), (1, .int (aSum (fun z => bif Nat.blt 0 (S.la z).le then (S.la z).lv else nI 0) i)), (0, .ref m)]) (st' := [.int (nI 1), .ref (A 0), .int (nI i)]) 1 rfl ?_
    refine WW.mald 0 1 rfl hM (by decide) rfl rfl (by decide) (by decide) hS.1.2.1 ?_
    refine WW.icmp_ge (tgt := 41) rfl rfl (fun hno => absurd hno (nI_ge hi hn)) (fun _ => ?_)
    refine WW.run (pc' := 17) (lv' := [(2, .int (nI i)), (1, .int (aSum (fun z => bif Nat.blt 0 (S.la z).le then (S.la z).lv else nI 0) i)), (0, .ref m)]) (st' := [.int (nI i), .ref m, .int (aSum (fun z => bif Nat.blt 0 (S.la z).le then (S.la z).lv else nI 0) i)]) 3 rfl ?_
    refine WW.callV [.int (nI i)] m [.int (aSum (fun z => bif Nat.blt 0 (S.la z).le then (S.la z).lv else nI 0) i)] rfl mX3_96 (sM_isOut hM hS hW hi) (wdRecv.obj hM.1 rfl) rfl rfl (wd_le rfl) (wd_le rfl) (wd_le rfl) (wd_le rfl) (fun o w' hq => ?_)
    obtain ⟨rfl, rfl⟩ := hq
    show WW _ _ _ 20 _ [.int (bI (Nat.blt 0 (S.la i).le)), .int (aSum (fun z => bif Nat.blt 0 (S.la z).le then (S.la z).lv else nI 0) i)] _
    refine WW.join (pc' := 33) (lv' := [(2, .int (nI i)), (1, .int (aSum (fun z => bif Nat.blt 0 (S.la z).le then (S.la z).lv else nI 0) i)), (0, .ref m)]) (st' := [.int (bif Nat.blt 0 (S.la i).le then (S.la i).lv else nI 0), .int (aSum (fun z => bif Nat.blt 0 (S.la z).le then (S.la z).lv else nI 0) i)]) ?_ ?_
    rotate_left
    · cases hb : (Nat.blt 0 (S.la i).le) with
      | false =>
        intro H
        refine WW.if_eq (tgt := 32) rfl rfl (fun _ => ?_) (fun hno => absurd rfl hno)
        refine WW.run (pc' := 33) (lv' := [(2, .int (nI i)), (1, .int (aSum (fun z => bif Nat.blt 0 (S.la z).le then (S.la z).lv else nI 0) i)), (0, .ref m)]) (st' := [.int (nI 0), .int (aSum (fun z => bif Nat.blt 0 (S.la z).le then (S.la z).lv else nI 0) i)]) 1 rfl ?_
        exact H
      | true =>
        intro H
        refine WW.if_eq (tgt := 32) rfl rfl (fun hno => absurd hno (by decide)) (fun _ => ?_)
        refine WW.run (pc' := 26) (lv' := [(2, .int (nI i)), (1, .int (aSum (fun z => bif Nat.blt 0 (S.la z).le then (S.la z).lv else nI 0) i)), (0, .ref m)]) (st' := [.int (nI 0), .int (nI i), .ref m, .int (aSum (fun z => bif Nat.blt 0 (S.la z).le then (S.la z).lv else nI 0) i)]) 3 rfl ?_
        refine WW.callV [.int (nI i), .int (nI 0)] m [.int (aSum (fun z => bif Nat.blt 0 (S.la z).le then (S.la z).lv else nI 0) i)] rfl mX3_58 (sM_lv hM hS hW hi) (wdRecv.obj hM.1 rfl) rfl rfl (wd_le rfl) (wd_le rfl) (wd_le rfl) (wd_le rfl) (fun o w' hq => ?_)
        obtain ⟨rfl, rfl⟩ := hq
        show WW _ _ _ 29 _ [.int ((S.la i).lv), .int (aSum (fun z => bif Nat.blt 0 (S.la z).le then (S.la z).lv else nI 0) i)] _
        refine WW.run (pc' := 33) (lv' := [(2, .int (nI i)), (1, .int (aSum (fun z => bif Nat.blt 0 (S.la z).le then (S.la z).lv else nI 0) i)), (0, .ref m)]) (st' := [.int ((S.la i).lv), .int (aSum (fun z => bif Nat.blt 0 (S.la z).le then (S.la z).lv else nI 0) i)]) 1 rfl ?_
        exact H
    refine WW.run (pc' := 4) (lv' := [(2, .int ((nI i) + nI 1)), (1, .int ((aSum (fun z => bif Nat.blt 0 (S.la z).le then (S.la z).lv else nI 0) i) + (bif Nat.blt 0 (S.la i).le then (S.la i).lv else nI 0))), (0, .ref m)]) (st' := []) 4 rfl ?_
    rw [nI_add] at *
    exact ih
  · skip
    refine WW.run (pc' := 6) (lv' := [(2, .int (nI S.nl)), (1, .int S.needs), (0, .ref m)]) (st' := [.ref m, .int (nI S.nl)]) 2 rfl ?_
    refine WW.get rfl fX3_9 hM.1 (show _ = some (.ref (A 0)) from rfl) ?_
    refine WW.run (pc' := 10) (lv' := [(2, .int (nI S.nl)), (1, .int S.needs), (0, .ref m)]) (st' := [.int (nI 1), .ref (A 0), .int (nI S.nl)]) 1 rfl ?_
    refine WW.mald 0 1 rfl hM (by decide) rfl rfl (by decide) (by decide) hS.1.2.1 ?_
    refine WW.icmp_ge (tgt := 41) rfl rfl (fun _ => ?_) (fun hno => absurd (nI_le (Nat.le_refl _) hn) hno)
    refine WW.run (pc' := 42) (lv' := [(2, .int (nI S.nl)), (1, .int S.needs), (0, .ref m)]) (st' := [.int S.needs]) 1 rfl ?_
    exact WW.iret rfl rfl rfl ⟨rfl, rfl⟩
theorem sM_eq1 {x j : Nat} (hx : x < 2 ^ 31) (hj : j < 2 ^ 30) : (nI x = nI j + nI 1) = ((x == j + 1) = true) := by
  rw [nI_add]
  have := nI_eq (a := x) (b := j + 1) hx (by omega)
  simp [this]
theorem sM_wants (hM : isM w m A I F) (hS : fS (F 0) S) (hW : aWf S) {j : Nat} (hj : j < 2 ^ 30) : SpR l G MX3_wants 2 [.ref m, .int (nI j)] w (.int (S.demand j)) := by
  have hn : S.nl < 2 ^ 31 := by have := hW.2.1; omega
  refine Sp.of rfl (by decide +kernel) kX3_wants (wd_le rfl) ?_
  refine WW.run (pc' := 4) (lv' := [(3, .int (nI 0)), (2, .int (nI 0)), (0, .ref m), (1, .int (nI j))]) (st' := []) 4 rfl ?_
  refine WW.up S.nl (fun i => [(3, .int (nI i)), (2, .int (aSum (fun z => bif (S.la z).le == j + 1 then (S.la z).lv else nI 0) i)), (0, .ref m), (1, .int (nI j))]) (fun i hi ih => ?_) ?_
  · skip
    have hl := hW.le hi
    refine WW.run (pc' := 6) (lv' := [(3, .int (nI i)), (2, .int (aSum (fun z => bif (S.la z).le == j + 1 then (S.la z).lv else nI 0) i)), (0, .ref m), (1, .int (nI j))]) (st' := [.ref m, .int (nI i)]) 2 rfl ?_
    refine WW.get rfl fX3_9 hM.1 (show _ = some (.ref (A 0)) from rfl) ?_
    refine WW.run (pc' := 10) (lv' := [(3, .int (nI i)), (2, .int (aSum (fun z => bif (S.la z).le == j + 1 then (S.la z).lv else nI 0) i)), (0, .ref m), (1, .int (nI j))]) (st' := [.int (nI 1), .ref (A 0), .int (nI i)]) 1 rfl ?_
    refine WW.mald 0 1 rfl hM (by decide) rfl rfl (by decide) (by decide) hS.1.2.1 ?_
    refine WW.icmp_ge (tgt := 45) rfl rfl (fun hno => absurd hno (nI_ge hi hn)) (fun _ => ?_)
    refine WW.run (pc' := 18) (lv' := [(3, .int (nI i)), (2, .int (aSum (fun z => bif (S.la z).le == j + 1 then (S.la z).lv else nI 0) i)), (0, .ref m), (1, .int (nI j))]) (st' := [.int (nI 1), .int (nI i), .ref m, .int (aSum (fun z => bif (S.la z).le == j + 1 then (S.la z).lv else nI 0) i)]) 4 rfl ?_
    refine WW.callV [.int (nI i), .int (nI 1)] m [.int (aSum (fun z => bif (S.la z).le == j + 1 then (S.la z).lv else nI 0) i)] rfl mX3_58 (sM_le hM hS hW hi) (wdRecv.obj hM.1 rfl) rfl rfl (wd_le rfl) (wd_le rfl) (wd_le rfl) (wd_le rfl) (fun o w' hq => ?_)
    obtain ⟨rfl, rfl⟩ := hq
    show WW _ _ _ 21 _ [.int (nI ((S.la i).le)), .int (aSum (fun z => bif (S.la z).le == j + 1 then (S.la z).lv else nI 0) i)] _
    refine WW.run (pc' := 24) (lv' := [(3, .int (nI i)), (2, .int (aSum (fun z => bif (S.la z).le == j + 1 then (S.la z).lv else nI 0) i)), (0, .ref m), (1, .int (nI j))]) (st' := [.int ((nI j) + (nI 1)), .int (nI ((S.la i).le)), .int (aSum (fun z => bif (S.la z).le == j + 1 then (S.la z).lv else nI 0) i)]) 3 rfl ?_
    refine WW.join (pc' := 37) (lv' := [(3, .int (nI i)), (2, .int (aSum (fun z => bif (S.la z).le == j + 1 then (S.la z).lv else nI 0) i)), (0, .ref m), (1, .int (nI j))]) (st' := [.int (bif (S.la i).le == j + 1 then (S.la i).lv else nI 0), .int (aSum (fun z => bif (S.la z).le == j + 1 then (S.la z).lv else nI 0) i)]) ?_ ?_
    rotate_left
    · cases hb : ((S.la i).le == j + 1) with
      | false =>
        intro H
        refine WW.icmp_ne (tgt := 36) rfl rfl (fun _ => ?_) (fun hno => absurd hno (by rw [sM_eq1 hl hj, hb]; exact fun h => nomatch h))
        refine WW.run (pc' := 37) (lv' := [(3, .int (nI i)), (2, .int (aSum (fun z => bif (S.la z).le == j + 1 then (S.la z).lv else nI 0) i)), (0, .ref m), (1, .int (nI j))]) (st' := [.int (nI 0), .int (aSum (fun z => bif (S.la z).le == j + 1 then (S.la z).lv else nI 0) i)]) 1 rfl ?_
        exact H
      | true =>
        intro H
        refine WW.icmp_ne (tgt := 36) rfl rfl (fun hno => absurd (by rw [sM_eq1 hl hj]; exact hb) hno) (fun _ => ?_)
        refine WW.run (pc' := 30) (lv' := [(3, .int (nI i)), (2, .int (aSum (fun z => bif (S.la z).le == j + 1 then (S.la z).lv else nI 0) i)), (0, .ref m), (1, .int (nI j))]) (st' := [.int (nI 0), .int (nI i), .ref m, .int (aSum (fun z => bif (S.la z).le == j + 1 then (S.la z).lv else nI 0) i)]) 3 rfl ?_
        refine WW.callV [.int (nI i), .int (nI 0)] m [.int (aSum (fun z => bif (S.la z).le == j + 1 then (S.la z).lv else nI 0) i)] rfl mX3_58 (sM_lv hM hS hW hi) (wdRecv.obj hM.1 rfl) rfl rfl (wd_le rfl) (wd_le rfl) (wd_le rfl) (wd_le rfl) (fun o w' hq => ?_)
        obtain ⟨rfl, rfl⟩ := hq
        show WW _ _ _ 33 _ [.int ((S.la i).lv), .int (aSum (fun z => bif (S.la z).le == j + 1 then (S.la z).lv else nI 0) i)] _
        refine WW.run (pc' := 37) (lv' := [(3, .int (nI i)), (2, .int (aSum (fun z => bif (S.la z).le == j + 1 then (S.la z).lv else nI 0) i)), (0, .ref m), (1, .int (nI j))]) (st' := [.int ((S.la i).lv), .int (aSum (fun z => bif (S.la z).le == j + 1 then (S.la z).lv else nI 0) i)]) 1 rfl ?_
        exact H
    refine WW.run (pc' := 4) (lv' := [(3, .int ((nI i) + nI 1)), (2, .int ((aSum (fun z => bif (S.la z).le == j + 1 then (S.la z).lv else nI 0) i) + (bif (S.la i).le == j + 1 then (S.la i).lv else nI 0))), (0, .ref m), (1, .int (nI j))]) (st' := []) 4 rfl ?_
    rw [nI_add] at *
    exact ih
  · skip
    refine WW.run (pc' := 6) (lv' := [(3, .int (nI S.nl)), (2, .int (S.demand j)), (0, .ref m), (1, .int (nI j))]) (st' := [.ref m, .int (nI S.nl)]) 2 rfl ?_
    refine WW.get rfl fX3_9 hM.1 (show _ = some (.ref (A 0)) from rfl) ?_
    refine WW.run (pc' := 10) (lv' := [(3, .int (nI S.nl)), (2, .int (S.demand j)), (0, .ref m), (1, .int (nI j))]) (st' := [.int (nI 1), .ref (A 0), .int (nI S.nl)]) 1 rfl ?_
    refine WW.mald 0 1 rfl hM (by decide) rfl rfl (by decide) (by decide) hS.1.2.1 ?_
    refine WW.icmp_ge (tgt := 45) rfl rfl (fun _ => ?_) (fun hno => absurd (nI_le (Nat.le_refl _) hn) hno)
    refine WW.run (pc' := 46) (lv' := [(3, .int (nI S.nl)), (2, .int (S.demand j)), (0, .ref m), (1, .int (nI j))]) (st' := [.int (S.demand j)]) 1 rfl ?_
    exact WW.iret rfl rfl rfl ⟨rfl, rfl⟩
theorem sM_lampsOf (hM : isM w m A I F) (hS : fS (F 0) S) (hW : aWf S) {j : Nat} (hj : j < 2 ^ 30) (b : Bool) : SpR l G MX3_lampsOf 2 [.ref m, .int (nI j), .int (bI b)] w (.int (S.lampsOf j b)) := by
  have hn : S.nl < 2 ^ 31 := by have := hW.2.1; omega
  refine Sp.of rfl (by decide +kernel) kX3_lampsOf (wd_le rfl) ?_
  refine WW.run (pc' := 5) (lv' := [(4, .int (nI 0)), (3, .int (nI 0)), (0, .ref m), (1, .int (nI j)), (2, .int (bI b))]) (st' := []) 4 rfl ?_
  refine WW.up S.nl (fun i => [(4, .int (nI i)), (3, .int (aSum (fun z => bI ((S.la z).le == j + 1 && (!b || (S.la z).was))) i)), (0, .ref m), (1, .int (nI j)), (2, .int (bI b))]) (fun i hi ih => ?_) ?_
  · skip
    generalize hsum : aSum (fun z => bI ((S.la z).le == j + 1 && (!b || (S.la z).was))) i = acc
    have hl := hW.le hi
    refine WW.run (pc' := 8) (lv' := [(4, .int (nI i)), (3, .int acc), (0, .ref m), (1, .int (nI j)), (2, .int (bI b))]) (st' := [.ref m, .int (nI i)]) 2 rfl ?_
    refine WW.get rfl fX3_9 hM.1 (show _ = some (.ref (A 0)) from rfl) ?_
    refine WW.run (pc' := 12) (lv' := [(4, .int (nI i)), (3, .int acc), (0, .ref m), (1, .int (nI j)), (2, .int (bI b))]) (st' := [.int (nI 1), .ref (A 0), .int (nI i)]) 1 rfl ?_
    refine WW.mald 0 1 rfl hM (by decide) rfl rfl (by decide) (by decide) hS.1.2.1 ?_
    refine WW.icmp_ge (tgt := 58) rfl rfl (fun hno => absurd hno (nI_ge hi hn)) (fun _ => ?_)
    refine WW.run (pc' := 21) (lv' := [(4, .int (nI i)), (3, .int acc), (0, .ref m), (1, .int (nI j)), (2, .int (bI b))]) (st' := [.int (nI 1), .int (nI i), .ref m, .int acc]) 4 rfl ?_
    refine WW.callV [.int (nI i), .int (nI 1)] m [.int acc] rfl mX3_58 (sM_le hM hS hW hi) (wdRecv.obj hM.1 rfl) rfl rfl (wd_le rfl) (wd_le rfl) (wd_le rfl) (wd_le rfl) (fun o w' hq => ?_)
    obtain ⟨rfl, rfl⟩ := hq
    show WW _ _ _ 24 _ [.int (nI ((S.la i).le)), .int acc] _
    refine WW.run (pc' := 27) (lv' := [(4, .int (nI i)), (3, .int acc), (0, .ref m), (1, .int (nI j)), (2, .int (bI b))]) (st' := [.int ((nI j) + (nI 1)), .int (nI ((S.la i).le)), .int acc]) 3 rfl ?_
    refine WW.join (pc' := 50) (lv' := [(4, .int (nI i)), (3, .int acc), (0, .ref m), (1, .int (nI j)), (2, .int (bI b))]) (st' := [.int (bI ((S.la i).le == j + 1 && (!b || (S.la i).was))), .int acc]) ?_ (fun H => ?_)
    rotate_left
    · skip
      by_cases h1 : (S.la i).le = j + 1
      · skip
        have hb1 : ((S.la i).le == j + 1) = true := by simp [h1]
        rw [hb1] at H
        refine WW.icmp_ne (tgt := 49) rfl rfl (fun hno => absurd (by rw [sM_eq1 hl hj]; exact hb1) hno) (fun _ => ?_)
        refine WW.run (pc' := 31) (lv' := [(4, .int (nI i)), (3, .int acc), (0, .ref m), (1, .int (nI j)), (2, .int (bI b))]) (st' := [.int (bI b), .int acc]) 1 rfl ?_
        cases b with
        | false =>
          refine WW.if_eq (tgt := 45) rfl rfl (fun _ => ?_) (fun hno => absurd rfl hno)
          refine WW.run (pc' := 50) (lv' := [(4, .int (nI i)), (3, .int acc), (0, .ref m), (1, .int (nI j)), (2, .int (bI false))]) (st' := [.int (nI 1), .int acc]) 2 rfl ?_
          exact H
        | true =>
          refine WW.if_eq (tgt := 45) rfl rfl (fun hno => absurd hno (by decide)) (fun _ => ?_)
          refine WW.run (pc' := 38) (lv' := [(4, .int (nI i)), (3, .int acc), (0, .ref m), (1, .int (nI j)), (2, .int (bI true))]) (st' := [.int (nI 4), .int (nI i), .ref m, .int acc]) 3 rfl ?_
          refine WW.callV [.int (nI i), .int (nI 4)] m [.int acc] rfl mX3_58 (sM_was hM hS hW hi) (wdRecv.obj hM.1 rfl) rfl rfl (wd_le rfl) (wd_le rfl) (wd_le rfl) (wd_le rfl) (fun o w' hq => ?_)
          obtain ⟨rfl, rfl⟩ := hq
          show WW _ _ _ 41 _ [.int (bI (S.la i).was), .int acc] _
          refine WW.run (pc' := 42) (lv' := [(4, .int (nI i)), (3, .int acc), (0, .ref m), (1, .int (nI j)), (2, .int (bI true))]) (st' := [.int (nI 1), .int (bI (S.la i).was), .int acc]) 1 rfl ?_
          cases hw : (S.la i).was with
          | false =>
            refine WW.icmp_ne (tgt := 49) rfl rfl (fun _ => ?_) (fun hno => absurd hno (by decide))
            refine WW.run (pc' := 50) (lv' := [(4, .int (nI i)), (3, .int acc), (0, .ref m), (1, .int (nI j)), (2, .int (bI true))]) (st' := [.int (nI 0), .int acc]) 1 rfl ?_
            rw [hw] at H
            exact H
          | true =>
            refine WW.icmp_ne (tgt := 49) rfl rfl (fun hno => absurd (by decide) hno) (fun _ => ?_)
            refine WW.run (pc' := 50) (lv' := [(4, .int (nI i)), (3, .int acc), (0, .ref m), (1, .int (nI j)), (2, .int (bI true))]) (st' := [.int (nI 1), .int acc]) 2 rfl ?_
            rw [hw] at H
            exact H
      · skip
        have hb1 : ((S.la i).le == j + 1) = false := by simp [h1]
        rw [hb1] at H
        refine WW.icmp_ne (tgt := 49) rfl rfl (fun _ => ?_) (fun hno => absurd hno (by rw [sM_eq1 hl hj, hb1]; exact fun h => nomatch h))
        refine WW.run (pc' := 50) (lv' := [(4, .int (nI i)), (3, .int acc), (0, .ref m), (1, .int (nI j)), (2, .int (bI b))]) (st' := [.int (nI 0), .int acc]) 1 rfl ?_
        exact H
    refine WW.run (pc' := 5) (lv' := [(4, .int ((nI i) + nI 1)), (3, .int (acc + (bI ((S.la i).le == j + 1 && (!b || (S.la i).was))))), (0, .ref m), (1, .int (nI j)), (2, .int (bI b))]) (st' := []) 4 rfl ?_
    rw [nI_add] at *
    rw [← hsum]
    exact ih
  · skip
    refine WW.run (pc' := 8) (lv' := [(4, .int (nI S.nl)), (3, .int (S.lampsOf j b)), (0, .ref m), (1, .int (nI j)), (2, .int (bI b))]) (st' := [.ref m, .int (nI S.nl)]) 2 rfl ?_
    refine WW.get rfl fX3_9 hM.1 (show _ = some (.ref (A 0)) from rfl) ?_
    refine WW.run (pc' := 12) (lv' := [(4, .int (nI S.nl)), (3, .int (S.lampsOf j b)), (0, .ref m), (1, .int (nI j)), (2, .int (bI b))]) (st' := [.int (nI 1), .ref (A 0), .int (nI S.nl)]) 1 rfl ?_
    refine WW.mald 0 1 rfl hM (by decide) rfl rfl (by decide) (by decide) hS.1.2.1 ?_
    refine WW.icmp_ge (tgt := 58) rfl rfl (fun _ => ?_) (fun hno => absurd (nI_le (Nat.le_refl _) hn) hno)
    refine WW.run (pc' := 59) (lv' := [(4, .int (nI S.nl)), (3, .int (S.lampsOf j b)), (0, .ref m), (1, .int (nI j)), (2, .int (bI b))]) (st' := [.int (S.lampsOf j b)]) 1 rfl ?_
    exact WW.iret rfl rfl rfl ⟨rfl, rfl⟩
theorem sM_requestFor (hM : isM w m A I F) (hS : fS (F 0) S) (hW : aWf S) {x : Nat} (hx : x < 2 ^ 31) : SpR l G MX3_requestFor 0 [.ref m, .int (nI x)] w (.int (oI (S.find x S.nr))) := by
  have hn : S.nr < 2 ^ 31 := by have := hW.2.2.1; omega
  refine Sp.of rfl (by decide +kernel) kX3_requestFor (wd_le rfl) ?_
  refine WW.run (pc' := 4) (lv' := [(3, .int (nI 0)), (2, .int (-1)), (0, .ref m), (1, .int (nI x))]) (st' := []) 4 rfl ?_
  refine WW.up S.nr (fun k => [(3, .int (nI k)), (2, .int (oI (S.find x k))), (0, .ref m), (1, .int (nI x))]) (fun k hk ih => ?_) ?_
  · skip
    have hb8 := hW.2.2.1
    have hq := (hW.2.2.2.2.1 k hk).1
    have hn2 := hW.2.1
    refine WW.run (pc' := 6) (lv' := [(3, .int (nI k)), (2, .int (oI (S.find x k))), (0, .ref m), (1, .int (nI x))]) (st' := [.ref m, .int (nI k)]) 2 rfl ?_
    refine WW.get rfl fX3_9 hM.1 (show _ = some (.ref (A 0)) from rfl) ?_
    refine WW.run (pc' := 11) (lv' := [(3, .int (nI k)), (2, .int (oI (S.find x k))), (0, .ref m), (1, .int (nI x))]) (st' := [.int (nI 6), .ref (A 0), .int (nI k)]) 1 rfl ?_
    refine WW.mald 0 6 rfl hM (by decide) rfl rfl (by decide) (by decide) hS.1.2.2.2.2.2.2 ?_
    refine WW.icmp_ge (tgt := 42) rfl rfl (fun hno => absurd hno (nI_ge hk hn)) (fun _ => ?_)
    refine WW.run (pc' := 16) (lv' := [(3, .int (nI k)), (2, .int (oI (S.find x k))), (0, .ref m), (1, .int (nI x))]) (st' := [.ref m]) 1 rfl ?_
    refine WW.get rfl fX3_9 hM.1 (show _ = some (.ref (A 0)) from rfl) ?_
    refine WW.run (pc' := 25) (lv' := [(3, .int (nI k)), (2, .int (oI (S.find x k))), (0, .ref m), (1, .int (nI x))]) (st' := [.int ((nI 65) + ((nI 2) * (nI k))), .ref (A 0)]) 5 rfl ?_
    refine WW.mald 0 (65 + (2 * k)) rfl hM (by decide) rfl (wn_add rfl (wn_mul rfl rfl)) (by show _ < 81; omega) (by decide) (hS.2.2.2 k hk).1 ?_
    refine WW.run (pc' := 27) (lv' := [(3, .int (nI k)), (2, .int (oI (S.find x k))), (0, .ref m), (1, .int (nI x))]) (st' := [.int (nI x), .int (nI ((S.rq k).1))]) 1 rfl ?_
    refine WW.join (pc' := 35) (lv' := [(3, .int (nI k)), (2, .int (oI (S.find x k))), (0, .ref m), (1, .int (nI x))]) (st' := [.int (oI (S.find x (k + 1)))]) ?_ (fun H => ?_)
    rotate_left
    · skip
      by_cases h1 : (S.rq k).1 = x
      · skip
        refine WW.icmp_ne (tgt := 34) rfl rfl (fun hno => absurd (by rw [h1]) hno) (fun _ => ?_)
        refine WW.run (pc' := 35) (lv' := [(3, .int (nI k)), (2, .int (oI (S.find x k))), (0, .ref m), (1, .int (nI x))]) (st' := [.int (nI k)]) 2 rfl ?_
        have e : S.find x (k + 1) = some k := by simp [aS.find, h1]
        rw [e] at H
        exact H
      · skip
        refine WW.icmp_ne (tgt := 34) rfl rfl (fun _ => ?_) (fun hno => absurd hno (by rw [nI_eq (by omega) hx]; exact h1))
        refine WW.run (pc' := 35) (lv' := [(3, .int (nI k)), (2, .int (oI (S.find x k))), (0, .ref m), (1, .int (nI x))]) (st' := [.int (oI (S.find x k))]) 1 rfl ?_
        have e : S.find x (k + 1) = S.find x k := by
          have : ((S.rq k).1 == x) = false := by simp [h1]
          simp [aS.find, this]
        rw [e] at H
        exact H
    refine WW.run (pc' := 4) (lv' := [(3, .int ((nI k) + nI 1)), (2, .int (oI (S.find x (k + 1)))), (0, .ref m), (1, .int (nI x))]) (st' := []) 3 rfl ?_
    rw [nI_add]
    exact ih
  · skip
    refine WW.run (pc' := 6) (lv' := [(3, .int (nI S.nr)), (2, .int (oI (S.find x S.nr))), (0, .ref m), (1, .int (nI x))]) (st' := [.ref m, .int (nI S.nr)]) 2 rfl ?_
    refine WW.get rfl fX3_9 hM.1 (show _ = some (.ref (A 0)) from rfl) ?_
    refine WW.run (pc' := 11) (lv' := [(3, .int (nI S.nr)), (2, .int (oI (S.find x S.nr))), (0, .ref m), (1, .int (nI x))]) (st' := [.int (nI 6), .ref (A 0), .int (nI S.nr)]) 1 rfl ?_
    refine WW.mald 0 6 rfl hM (by decide) rfl rfl (by decide) (by decide) hS.1.2.2.2.2.2.2 ?_
    refine WW.icmp_ge (tgt := 42) rfl rfl (fun _ => ?_) (fun hno => absurd (nI_le (Nat.le_refl _) hn) hno)
    refine WW.run (pc' := 43) (lv' := [(3, .int (nI S.nr)), (2, .int (oI (S.find x S.nr))), (0, .ref m), (1, .int (nI x))]) (st' := [.int (oI (S.find x S.nr))]) 1 rfl ?_
    exact WW.iret rfl rfl rfl ⟨rfl, rfl⟩
end
