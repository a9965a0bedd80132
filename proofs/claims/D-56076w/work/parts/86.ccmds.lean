set_option maxRecDepth 100000
/-! ALL COMMANDS -/
def kCnt (r : Nat ⊕ List (Nat × kV)) (i : Nat) : Nat ⊕ Nat := match r with
  | .inl e => .inl e
  | .inr cs => .inr (i + cs.length)
def yM0 (G : wdG) (o pa : Nat) (r : Nat ⊕ Nat) (w : wdW) : wdO → wdW → Prop := fun q w' => match r with
  | .inl e => yE G pa e w q w'
  | .inr m => q = .inl (some (.int (nI m))) ∧ ∃ p u, w' = wPut w 7 pa (.inl (yO o p u))
def kWf : List (Nat × kV) → aS → Prop
  | [], _ => True
  | c :: cs, S => aWf S ∧ ∀ z, aDo c.1 c.2 S = .inr z → kWf cs z.2
def yMS (G : wdG) (lo a : Nat) (r : (Nat × Nat) ⊕ aS) (m : Nat) (w : wdW) : wdO → wdW → Prop := fun q w' => ((∀ b, b < lo → ∀ k, w'.1 k b = w.1 k b) ∧ w.2 ≤ w'.2) ∧ match r with
  | .inl z => ∃ x b, q = .inr (RX11, x) ∧ w'.1 9 x = some (.inl (wdEp11 G b (nI z.1))) ∧ w'.1 z.2 b = some (.inl []) ∧ x ≠ b ∧ 13 ≤ z.2 ∧ z.2 ≤ 17
  | .inr T => q = .inl (some (.int (nI m))) ∧ ∃ Z gs gl gr, isS G w' lo a Z gs gl gr T
theorem yI.fr {w u : wdW} {o inp n lo : Nat} {ic : Nat → Int32} (h : yI w o inp n ic) (ho : o < lo) (hi : inp < lo) (f : ∀ b, b < lo → ∀ k, u.1 k b = w.1 k b) : yI u o inp n ic := by
  obtain ⟨h1, ⟨x0, x1, x2, x5, x6, x7, x8, h2⟩, h3⟩ := h
  exact ⟨h1, ⟨x0, x1, x2, x5, x6, x7, x8, (f _ ho _).trans h2⟩, (f _ hi _).trans h3⟩
section
variable {l : Launch} {G : wdG} {w : wdW} {o inp n pa : Nat} {ic : Nat → Int32} {v : kV}
theorem sY_loop0 (h : yI w o inp n ic) (R : Nat ⊕ Nat) : ∀ (f p i : Nat) (v : kV), n + 1 ≤ f + p → p ≤ n → kCnt (kRest ic n f p) i = R → WW (l, G, MX8_commands, 12, 800, 9000, yM0 G o pa R w) (12 * (61 - p)) (144 * (61 - p)) 8 [(2, .int (nI i)), (0, .ref pa), (1, .null)] [] (wPut w 7 pa (.inl (yO o p v))) := by
  intro f
  induction f with
  | zero => intro p i v h1 h2; omega
  | succ f ihf =>
    intro p i v h1 h2 hR
    have hn60 := h.1.1
    have e1 : (wPut w 7 pa (.inl (yO o p v))).1 7 pa = some (.inl (yO o p v)) := wPut_same _ _ _ _
    have hI1 := h.put (pa := pa) (p := .inl (yO o p v))
    have hI2 := hI1
    obtain ⟨-, ⟨x0, x1, x2, x5, x6, x7, x8, hO⟩, hI⟩ := hI2
    refine WW.run (pc' := 9) (lv' := [(2, .int (nI i)), (0, .ref pa), (1, .null)]) (st' := [.ref pa]) 1 rfl ?_
    refine WW.get rfl fX8_13 e1 (show _ = some (.int (nI p)) from rfl) ?_
    refine WW.run (pc' := 13) (lv' := [(2, .int (nI i)), (0, .ref pa), (1, .null)]) (st' := [.ref pa, .int (nI p)]) 1 rfl ?_
    refine WW.get rfl fX8_1 e1 (show _ = some (.ref o) from rfl) ?_
    refine WW.get rfl fX8_17 hO (show _ = some (.int (nI n)) from rfl) ?_
    unfold kRest at hR
    by_cases hpn : p < n
    · have hb : Nat.blt p n = true := Nat.blt_eq.mpr hpn
      rw [hb] at hR
      refine WW.icmp_ge (tgt := 43) rfl rfl (fun hno => absurd hno (nI_ge hpn (by omega))) (fun _ => ?_)
      refine WW.run (pc' := 27) (lv' := [(2, .int (nI i)), (0, .ref pa), (1, .null)]) (st' := [.int (nI 59), .int (nI 59), .ref pa]) 3 rfl ?_
      refine WW.callV [.int (nI 59), .int (nI 59)] pa [] rfl mX8_39 (sY_next hI1 e1 (by omega) (nI 59) (nI 59)) (wdRecv.obj e1 rfl) rfl rfl (wd_le rfl) (wd_le rfl) (by omega) (by omega) (fun o w' hq => ?_)
      cases hc : kAt ic n p (nI 59) (nI 59) with
      | false =>
        rw [hc] at hq hR
        cases hR
        obtain ⟨x, g1, rfl, g3, g4⟩ := yE.put hq
        show WX _ _ _ 27 _ [] _ _ _
        exact WX.out (fun _ h => nomatch h) ⟨x, g1, rfl, g3, g4⟩
      | true =>
        rw [hc] at hq hR
        dsimp only [cond_true] at hR
        obtain ⟨rfl, hw9⟩ := hq
        rw [wPut_put] at hw9
        show WW _ _ _ 30 _ [.int (ic p)] _
        rw [hw9]
        clear hw9 w'
        have e2 : (wPut w 7 pa (.inl (yO o (p + 1) v))).1 7 pa = some (.inl (yO o (p + 1) v)) := wPut_same _ _ _ _
        have hI3 := h.put (pa := pa) (p := .inl (yO o (p + 1) v))
        refine WW.run (pc' := 32) (lv' := [(2, .int (nI i)), (0, .ref pa), (1, .null)]) (st' := [.ref pa]) 2 rfl ?_
        refine WW.aloadN 1 rfl ⟨rfl, rfl⟩ ?_
        refine WW.run (pc' := 34) (lv' := [(2, .int (nI i)), (0, .ref pa), (1, .null)]) (st' := [.int (nI i), .null, .ref pa]) 1 rfl ?_
        refine WW.callVH [.null, .int (nI i)] pa [] rfl mX8_141 (sY_command0 hI3 e2 (Nat.succ_le_of_lt hpn) (nI i)) (wdRecv.obj e2 rfl) rfl rfl (wd_le rfl) (wd_le rfl) (by omega) (by omega) (fun o w' hq => ?_)
        cases hk : kCmd ic n (p + 1) with
        | inl e =>
          rw [hk] at hq hR
          cases hR
          obtain ⟨x, g1, rfl, g3, g4⟩ := yE.put hq
          show WX _ _ _ 34 _ [] _ _ _
          exact WX.out (fun _ h => nomatch h) ⟨x, g1, rfl, g3, g4⟩
        | inr z =>
          obtain ⟨p2, k2, v2⟩ := z
          rw [hk] at hq hR
          dsimp only at hR
          obtain ⟨rfl, u, -, hw9⟩ := hq
          rw [wPut_put] at hw9
          show WW _ _ _ 37 _ [] _
          rw [hw9]
          clear hw9 w'
          obtain ⟨e3, e4⟩ := kCmd_end (Nat.succ_le_of_lt hpn) hk
          refine WW.run (pc' := 8) (lv' := [(2, .int ((nI i) + nI 1)), (0, .ref pa), (1, .null)]) (st' := []) 2 rfl ?_
          rw [nI_add]
          refine WW.less (by omega) (by omega) (ihf p2 (i + 1) u (by omega) e4 ?_)
          rw [← hR]
          cases kRest ic n f p2 with
          | inl e => rfl
          | inr cs => show Sum.inr (i + 1 + cs.length) = Sum.inr (i + (cs.length + 1)); congr 1; omega
    · have hb : Nat.blt p n = false := by cases h9 : Nat.blt p n with | false => rfl | true => exact absurd (Nat.blt_eq.mp h9) hpn
      rw [hb] at hR
      cases hR
      refine WW.icmp_ge (tgt := 43) rfl rfl (fun _ => ?_) (fun hno => absurd (nI_le (Nat.le_of_not_lt hpn) (by omega)) hno)
      refine WW.run (pc' := 44) (lv' := [(2, .int (nI i)), (0, .ref pa), (1, .null)]) (st' := [.int (nI i)]) 1 rfl ?_
      exact WW.iret rfl rfl rfl ⟨rfl, p, v, rfl⟩
theorem sY_commands0 (h : yI w o inp n ic) (hP : w.1 7 pa = some (.inl (yO o 0 v))) : Sp l G MX8_commands 12 800 9000 [.ref pa, .null] w (yM0 G o pa (kCnt (kAll ic n) 0) w) := by
  have hn60 := h.1.1
  refine Sp.of rfl (by decide +kernel) kX8_commands (wd_le rfl) ?_
  refine WW.run (pc' := 1) (lv' := [(0, .ref pa), (1, .null)]) (st' := [.ref pa]) 1 rfl ?_
  refine WW.aloadN 1 rfl ⟨rfl, rfl⟩ ?_
  refine WW.run (pc' := 3) (lv' := [(0, .ref pa), (1, .null)]) (st' := [.int (nI 0), .null, .ref pa]) 1 rfl ?_
  refine WW.callVH [.null, .int (nI 0)] pa [] rfl mX8_141 (sY_command0 h hP (Nat.zero_le _) (nI 0)) (wdRecv.obj hP rfl) rfl rfl (wd_le rfl) (wd_le rfl) (wd_le rfl) (wd_le rfl) (fun o w' hq => ?_)
  cases hk : kCmd ic n 0 with
  | inl e =>
    rw [hk] at hq
    obtain ⟨x, g1, rfl, g3, g4⟩ := hq
    show WX _ _ _ 3 _ [] _ _ _
    rw [show kCnt (kAll ic n) 0 = .inl e by unfold kAll; rw [hk]; rfl]
    exact WX.out (fun _ h => nomatch h) ⟨x, g1, rfl, g3, g4⟩
  | inr z =>
    obtain ⟨p2, k2, v2⟩ := z
    rw [hk] at hq
    obtain ⟨rfl, u, -, hw9⟩ := hq
    show WW _ _ _ 6 _ [] _
    rw [hw9]
    clear hw9 w'
    obtain ⟨e3, e4⟩ := kCmd_end (Nat.zero_le _) hk
    refine WW.run (pc' := 8) (lv' := [(2, .int (nI 1)), (0, .ref pa), (1, .null)]) (st' := []) 2 rfl ?_
    refine WW.less (by omega) (by omega) (sY_loop0 h _ (n + 1) p2 1 u (by omega) e4 ?_)
    unfold kAll
    rw [hk]
    dsimp only
    cases kRest ic n (n + 1) p2 with
    | inl e => rfl
    | inr cs => show Sum.inr (1 + cs.length) = Sum.inr (0 + (cs.length + 1)); congr 1; omega
variable {lo a : Nat}
theorem sY_loopS (h : yI w o inp n ic) (ho : o < lo) (hi : inp < lo) (hlw : lo ≤ w.2) (hpa : lo ≤ pa) (R : (Nat × Nat) ⊕ aS) (m : Nat) : ∀ (f p i : Nat) (v : kV) (cs : List (Nat × kV)) (S : aS) (u : wdW), n + 1 ≤ f + p → p ≤ n → kRest ic n f p = .inr cs → kWf cs S → aRun cs i S = R → i + cs.length = m → (∃ Z gs gl gr, isS G u lo a Z gs gl gr S) → u.1 7 pa = some (.inl (yO o p v)) → ((∀ b, b < lo → ∀ k, u.1 k b = w.1 k b) ∧ w.2 ≤ u.2) →
    WW (l, G, MX8_commands, 12, 18200, 84600, yMS G lo a R m w) (280 * (61 - p)) (1300 * (61 - p)) 8 [(2, .int (nI i)), (0, .ref pa), (1, .ref a)] [] u := by
  intro f
  induction f with
  | zero => intro p i v cs S u h1 h2; omega
  | succ f ihf =>
    intro p i v cs S u h1 h2 hk hWf hR hm hS e1 hF
    have hn60 := h.1.1
    have hI1 := h.fr ho hi hF.1
    have hI2 := hI1
    obtain ⟨-, ⟨x0, x1, x2, x5, x6, x7, x8, hO⟩, hI⟩ := hI2
    refine WW.run (pc' := 9) (lv' := [(2, .int (nI i)), (0, .ref pa), (1, .ref a)]) (st' := [.ref pa]) 1 rfl ?_
    refine WW.get rfl fX8_13 e1 (show _ = some (.int (nI p)) from rfl) ?_
    refine WW.run (pc' := 13) (lv' := [(2, .int (nI i)), (0, .ref pa), (1, .ref a)]) (st' := [.ref pa, .int (nI p)]) 1 rfl ?_
    refine WW.get rfl fX8_1 e1 (show _ = some (.ref o) from rfl) ?_
    refine WW.get rfl fX8_17 hO (show _ = some (.int (nI n)) from rfl) ?_
    unfold kRest at hk
    by_cases hpn : p < n
    · have hb : Nat.blt p n = true := Nat.blt_eq.mpr hpn
      rw [hb] at hk
      refine WW.icmp_ge (tgt := 43) rfl rfl (fun hno => absurd hno (nI_ge hpn (by omega))) (fun _ => ?_)
      refine WW.run (pc' := 27) (lv' := [(2, .int (nI i)), (0, .ref pa), (1, .ref a)]) (st' := [.int (nI 59), .int (nI 59), .ref pa]) 3 rfl ?_
      refine WW.callV [.int (nI 59), .int (nI 59)] pa [] rfl mX8_39 (sY_next hI1 e1 (by omega) (nI 59) (nI 59)) (wdRecv.obj e1 rfl) rfl rfl (wd_le rfl) (wd_le rfl) (by omega) (by omega) (fun o w' hq => ?_)
      cases hc : kAt ic n p (nI 59) (nI 59) with
      | false => rw [hc] at hk; cases hk
      | true =>
        rw [hc] at hq hk
        dsimp only [cond_true] at hk
        obtain ⟨rfl, hw9⟩ := hq
        show WW _ _ _ 30 _ [.int (ic p)] _
        rw [hw9]
        clear hw9 w'
        obtain ⟨u1, hu1⟩ : ∃ z, z = wPut u 7 pa (.inl (yO o (p + 1) v)) := ⟨_, rfl⟩
        have e2 : u1.1 7 pa = some (.inl (yO o (p + 1) v)) := by rw [hu1]; exact wPut_same _ _ _ _
        have hI3 : yI u1 o inp n ic := by rw [hu1]; exact hI1.put
        obtain ⟨Z, gs, gl, gr, hS⟩ := hS
        have hS1 : isS G u1 lo a Z gs gl gr S := by rw [hu1]; exact hS.keepK (fun k b p hp hk => (wPut_k (by rcases hk with e | e | e | e | ⟨e, -⟩ | ⟨e, -⟩ <;> omega)).trans hp)
        have hF1 : (∀ b, b < lo → ∀ k, u1.1 k b = w.1 k b) ∧ w.2 ≤ u1.2 := by rw [hu1]; exact ⟨fun b hb k => (wPut_ne (by omega)).trans (hF.1 b hb k), hF.2⟩
        rw [← hu1]
        refine WW.run (pc' := 34) (lv' := [(2, .int (nI i)), (0, .ref pa), (1, .ref a)]) (st' := [.int (nI i), .ref a, .ref pa]) 4 rfl ?_
        cases hkc : kCmd ic n (p + 1) with
        | inl e => rw [hkc] at hk; cases hk
        | inr z =>
          obtain ⟨p2, k2, v2⟩ := z
          rw [hkc] at hk
          dsimp only at hk
          cases hkr : kRest ic n f p2 with
          | inl e => rw [hkr] at hk; cases hk
          | inr cs2 =>
            rw [hkr] at hk
            cases hk
            obtain ⟨hW, hWf2⟩ := hWf
            obtain ⟨e3, e4⟩ := kCmd_end (Nat.succ_le_of_lt hpn) hkc
            refine WW.callVH [.ref a, .int (nI i)] pa [] rfl mX8_141 (sY_commandS hI3 e2 (Nat.succ_le_of_lt hpn) hkc hS1 hW (Nat.le_trans hlw hF1.2) hpa i) (wdRecv.obj e2 rfl) rfl rfl (wd_le rfl) (wd_le rfl) (by omega) (by omega) (fun o u2 hq => ?_)
            obtain ⟨⟨hf, hz⟩, hq⟩ := hq
            dsimp only at hq
            have hF2 : (∀ b, b < lo → ∀ k, u2.1 k b = w.1 k b) ∧ w.2 ≤ u2.2 := ⟨fun b hb k => (hf b hb k).trans (hF1.1 b hb k), Nat.le_trans hF1.2 hz⟩
            unfold aRun at hR
            dsimp only at hR hWf2
            cases hD : aDo k2 v2 S with
            | inl e =>
              rw [hD] at hq hR
              cases hR
              obtain ⟨ci, x, b, g1, rfl, g3, g4, g5⟩ := hq
              show WX _ _ _ 34 _ [] _ _ _
              refine WX.out (fun _ h => nomatch h) ⟨hF2, x, b, rfl, g3, ?_, g5, ?_⟩
              · rw [g1]; exact g4
              · rw [g1]; exact kEs_in g1
            | inr y =>
              rw [hD] at hq hR
              obtain ⟨rfl, ⟨uu, g1⟩, g2⟩ := hq
              show WW _ _ _ 37 _ [] _
              refine WW.run (pc' := 8) (lv' := [(2, .int ((nI i) + nI 1)), (0, .ref pa), (1, .ref a)]) (st' := []) 2 rfl ?_
              rw [nI_add]
              exact WW.less (by omega) (by omega) (ihf p2 (i + 1) uu cs2 y.2 u2 (by omega) e4 hkr (hWf2 y hD) hR (by rw [← hm, List.length_cons]; omega) g2 g1 hF2)
    · have hb : Nat.blt p n = false := by cases h9 : Nat.blt p n with | false => rfl | true => exact absurd (Nat.blt_eq.mp h9) hpn
      rw [hb] at hk
      cases hk
      cases hR
      refine WW.icmp_ge (tgt := 43) rfl rfl (fun _ => ?_) (fun hno => absurd (nI_le (Nat.le_of_not_lt hpn) (by omega)) hno)
      refine WW.run (pc' := 44) (lv' := [(2, .int (nI i)), (0, .ref pa), (1, .ref a)]) (st' := [.int (nI i)]) 1 rfl ?_
      exact WW.iret rfl rfl rfl ⟨hF, by rw [← hm]; rfl, hS⟩
theorem sY_commandsS (h : yI w o inp n ic) (hP : w.1 7 pa = some (.inl (yO o 0 v))) (ho : o < lo) (hi : inp < lo) (hlw : lo ≤ w.2) (hpa : lo ≤ pa) {cs : List (Nat × kV)} (hk : kAll ic n = .inr cs) {Z gs gl gr : Nat → Nat} {S : aS} (hS : isS G w lo a Z gs gl gr S) (hWf : kWf cs S) : Sp l G MX8_commands 12 18200 84600 [.ref pa, .ref a] w (yMS G lo a (aRun cs 0 S) cs.length w) := by
  have hn60 := h.1.1
  unfold kAll at hk
  cases hkc : kCmd ic n 0 with
  | inl e => rw [hkc] at hk; cases hk
  | inr z =>
    obtain ⟨p2, k2, v2⟩ := z
    rw [hkc] at hk
    dsimp only at hk
    cases hkr : kRest ic n (n + 1) p2 with
    | inl e => rw [hkr] at hk; cases hk
    | inr cs2 =>
      rw [hkr] at hk
      cases hk
      obtain ⟨hW, hWf2⟩ := hWf
      refine Sp.of rfl (by decide +kernel) kX8_commands (wd_le rfl) ?_
      refine WW.run (pc' := 3) (lv' := [(0, .ref pa), (1, .ref a)]) (st' := [.int (nI 0), .ref a, .ref pa]) 3 rfl ?_
      refine WW.callVH [.ref a, .int (nI 0)] pa [] rfl mX8_141 (sY_commandS h hP (Nat.zero_le _) hkc hS hW hlw hpa 0) (wdRecv.obj hP rfl) rfl rfl (wd_le rfl) (wd_le rfl) (wd_le rfl) (wd_le rfl) (fun o u2 hq => ?_)
      obtain ⟨e3, e4⟩ := kCmd_end (Nat.zero_le _) hkc
      obtain ⟨⟨hf, hz⟩, hq⟩ := hq
      dsimp only at hq
      unfold aRun
      dsimp only at hWf2 ⊢
      cases hD : aDo k2 v2 S with
      | inl e =>
        rw [hD] at hq
        obtain ⟨ci, x, b, g1, rfl, g3, g4, g5⟩ := hq
        show WX _ _ _ 3 _ [] _ _ _
        refine WX.out (fun _ h => nomatch h) ⟨⟨hf, hz⟩, x, b, rfl, g3, ?_, g5, ?_⟩
        · rw [g1]; exact g4
        · rw [g1]; exact kEs_in g1
      | inr y =>
        rw [hD] at hq
        obtain ⟨rfl, ⟨uu, g1⟩, g2⟩ := hq
        show WW _ _ _ 6 _ [] _
        refine WW.run (pc' := 8) (lv' := [(2, .int (nI 1)), (0, .ref pa), (1, .ref a)]) (st' := []) 2 rfl ?_
        exact WW.less (by omega) (by omega) (sY_loopS h ho hi hlw hpa _ _ (n + 1) p2 1 uu cs2 y.2 u2 (by omega) e4 hkr (hWf2 y hD) rfl (by rw [List.length_cons]; omega) g2 g1 ⟨hf, hz⟩)
end
