set_option maxRecDepth 100000
/-! ONE COMMAND IS READ -/
/-- what the row of commands tells afterwards -/
def mRel (ic : Nat → Int32) (n c : Nat) (g : Nat → Int32) (p : Nat) (s' : Nat × Bool) (g' : Nat → Int32) : Prop := (∀ j, j < 4 * c → g' j = g j) ∧ match kCmd ic n p with
  | .inl e => s' = (e, true)
  | .inr z => s' = (z.1, false) ∧ g' (4 * c) = kC z.2.1 ∧ kEq z.2.1 (g' (4 * c + 1), g' (4 * c + 2), g' (4 * c + 3)) z.2.2
section
variable {ic : Nat → Int32} {n c p k kk : Nat} {g g' : Nat → Int32} {s : Nat × Bool}
/-- the word is met or not -/
def mH (ic : Nat → Int32) (n k p : Nat) (s : Nat × Bool) : Prop := (kKw ic n p = k ∧ s = mSk ic n (kB k) (p, false)) ∨ ∃ e, s = (e, true) ∧ kCmd ic n p = .inl e
theorem mRel0 (h : mH ic n 0 p s) (h1 : ∀ j, j < 4 * c → g' j = g j) (h2 : g' (4 * c) = kC 0) : mRel ic n c g p s g' := by
  refine ⟨h1, ?_⟩
  rcases h with ⟨hk, hs⟩ | ⟨e, hs, hk⟩
  · cases hK : kSkip ic n (kB 0) p with
    | inl e =>
      have es : s = (e, true) := by rw [hs, mSk_f, hK]
      have ek : kCmd ic n p = .inl e := by unfold kCmd; rw [hk, hK]
      rw [ek, es]
    | inr p1 =>
      have es : s = (p1, false) := by rw [hs, mSk_f, hK]
      have ek : kCmd ic n p = (match kArg ic n 0 p1 with
        | .inl e => .inl e
        | .inr (p2, v) => .inr (p2, 0, v)) := by unfold kCmd; rw [hk, hK]; rfl
      rw [ek, es]
      exact ⟨rfl, h2, fun q => absurd (show 1 ≤ 0 from q) (by decide), fun q => absurd (show 5 ≤ 0 from q) (by decide), fun q => absurd (show 6 ≤ 0 from q) (by decide)⟩
  · rw [hk, hs]
theorem mRel1 (hk1 : 1 ≤ k ∧ k < 4) (ha : ∀ p, kArg ic n k p = kOne ic n kk p) (h : mH ic n k p s) (h1 : ∀ j, j < 4 * c → g' j = g j) (h2 : g' (4 * c) = kC k) (h3 : g' (4 * c + 1) = (mNu ic n kk s).2) : mRel ic n c g p (mNu ic n kk s).1 g' := by
  refine ⟨h1, ?_⟩
  rcases h with ⟨hk, hs⟩ | ⟨e, hs, hk⟩
  · cases hK : kSkip ic n (kB k) p with
    | inl e =>
      have es : s = (e, true) := by rw [hs, mSk_f, hK]
      have ek : kCmd ic n p = .inl e := by unfold kCmd; rw [hk, hK]
      rw [ek, es]
      dsimp only; rw [mNu_t rfl]
    | inr p1 =>
      have es : s = (p1, false) := by rw [hs, mSk_f, hK]
      have ek : kCmd ic n p = (match kArg ic n k p1 with
        | .inl e => .inl e
        | .inr (p2, v) => .inr (p2, k, v)) := by unfold kCmd; rw [hk, hK]; rfl
      rw [es] at h3 ⊢
      rw [ek, ha]
      have key := mOne (ic := ic) (n := n) (k := kk) (p := p1)
      cases hO : kOne ic n kk p1 with
      | inl e => rw [hO] at key; exact key
      | inr z =>
        rw [hO] at key
        exact ⟨key.1, h2, fun _ => h3.trans key.2, fun q => absurd (show 5 ≤ k from q) (by omega), fun q => absurd (show 6 ≤ k from q) (by omega)⟩
  · rw [hk, hs]
    dsimp only; rw [mNu_t rfl]
theorem mRel5 (h : mH ic n 5 p s) (h1 : ∀ j, j < 4 * c → g' j = g j) (h2 : g' (4 * c) = kC 5) (h3 : g' (4 * c + 1) = (mNu ic n 0 s).2) (h4 : g' (4 * c + 2) = (mNu ic n 1 (mNu ic n 0 s).1).2) : mRel ic n c g p (mNu ic n 1 (mNu ic n 0 s).1).1 g' := by
  refine ⟨h1, ?_⟩
  rcases h with ⟨hk, hs⟩ | ⟨e, hs, hk⟩
  · cases hK : kSkip ic n (kB 5) p with
    | inl e =>
      have es : s = (e, true) := by rw [hs, mSk_f, hK]
      have ek : kCmd ic n p = .inl e := by unfold kCmd; rw [hk, hK]
      rw [ek, es]
      dsimp only; rw [mNu_t rfl, mNu_t rfl]
    | inr p1 =>
      have es : s = (p1, false) := by rw [hs, mSk_f, hK]
      have ek : kCmd ic n p = (match kArg ic n 5 p1 with
        | .inl e => .inl e
        | .inr (p2, v) => .inr (p2, 5, v)) := by unfold kCmd; rw [hk, hK]; rfl
      rw [es] at h3 h4 ⊢
      rw [ek]
      have key := mTwo (ic := ic) (n := n) (k := 0) (k2 := 1) (p := p1)
      cases hO : kTwo ic n 0 1 p1 with
      | inl e => rw [hO] at key; rw [show kArg ic n 5 p1 = .inl e from hO]; exact key
      | inr z =>
        rw [hO] at key
        rw [show kArg ic n 5 p1 = .inr z from hO]
        exact ⟨key.1, h2, fun _ => h3.trans key.2.1, fun _ => h4.trans key.2.2, fun q => absurd (show 6 ≤ 5 from q) (by decide)⟩
  · rw [hk, hs]
    dsimp only; rw [mNu_t rfl, mNu_t rfl]
theorem mRel6 (h : mH ic n 6 p s) (h1 : ∀ j, j < 4 * c → g' j = g j) (h2 : g' (4 * c) = kC 6) (h3 : g' (4 * c + 1) = (mNu ic n 0 s).2) (h4 : g' (4 * c + 2) = (mNu ic n 0 (mNu ic n 0 s).1).2) (h5 : g' (4 * c + 3) = (mNu ic n 1 (mNu ic n 0 (mNu ic n 0 s).1).1).2) : mRel ic n c g p (mNu ic n 1 (mNu ic n 0 (mNu ic n 0 s).1).1).1 g' := by
  refine ⟨h1, ?_⟩
  rcases h with ⟨hk, hs⟩ | ⟨e, hs, hk⟩
  · cases hK : kSkip ic n (kB 6) p with
    | inl e =>
      have es : s = (e, true) := by rw [hs, mSk_f, hK]
      have ek : kCmd ic n p = .inl e := by unfold kCmd; rw [hk, hK]
      rw [ek, es]
      dsimp only; rw [mNu_t rfl, mNu_t rfl, mNu_t rfl]
    | inr p1 =>
      have es : s = (p1, false) := by rw [hs, mSk_f, hK]
      have ek : kCmd ic n p = (match kArg ic n 6 p1 with
        | .inl e => .inl e
        | .inr (p2, v) => .inr (p2, 6, v)) := by unfold kCmd; rw [hk, hK]; rfl
      rw [es] at h3 h4 h5 ⊢
      rw [ek]
      have key := mThree (ic := ic) (n := n) (p := p1)
      cases hO : kThree ic n p1 with
      | inl e => rw [hO] at key; rw [show kArg ic n 6 p1 = .inl e from hO]; exact key
      | inr z =>
        rw [hO] at key
        rw [show kArg ic n 6 p1 = .inr z from hO]
        exact ⟨key.1, h2, fun _ => h3.trans key.2.1, fun _ => h4.trans key.2.2.1, fun _ => h5.trans key.2.2.2⟩
  · rw [hk, hs]
    dsimp only; rw [mNu_t rfl, mNu_t rfl, mNu_t rfl]
/-- wait's number, or one hour -/
def mWt (ic : Nat → Int32) (n : Nat) (s : Nat × Bool) : (Nat × Bool) × Int32 := if s.2 = false ∧ kAt ic n s.1 (nI 32) (nI 32) = true then mNu ic n 1 s else (s, nI 1)
theorem mRel4 (h : mH ic n 4 p s) (h1 : ∀ j, j < 4 * c → g' j = g j) (h2 : g' (4 * c) = kC 4) (h3 : g' (4 * c + 1) = (mWt ic n s).2) : mRel ic n c g p (mWt ic n s).1 g' := by
  refine ⟨h1, ?_⟩
  rcases h with ⟨hk, hs⟩ | ⟨e, hs, hk⟩
  · cases hK : kSkip ic n (kB 4) p with
    | inl e =>
      have es : s = (e, true) := by rw [hs, mSk_f, hK]
      have ek : kCmd ic n p = .inl e := by unfold kCmd; rw [hk, hK]
      rw [ek, es]
      show (mWt ic n (e, true)).1 = (e, true); unfold mWt; rw [if_neg (by simp)]
    | inr p1 =>
      have es : s = (p1, false) := by rw [hs, mSk_f, hK]
      have ek : kCmd ic n p = (match kArg ic n 4 p1 with
        | .inl e => .inl e
        | .inr (p2, v) => .inr (p2, 4, v)) := by unfold kCmd; rw [hk, hK]; rfl
      rw [es] at h3 ⊢
      rw [ek]
      cases hc : kAt ic n p1 (nI 32) (nI 32) with
      | false =>
        have e : mWt ic n (p1, false) = ((p1, false), nI 1) := by unfold mWt; rw [if_neg (by simp [hc])]
        rw [e] at h3 ⊢
        rw [show kArg ic n 4 p1 = .inr (p1, nI 1, nI 0, nI 0) by unfold kArg; rw [hc]; rfl]
        exact ⟨rfl, h2, fun _ => h3, fun q => absurd (show 5 ≤ 4 from q) (by decide), fun q => absurd (show 6 ≤ 4 from q) (by decide)⟩
      | true =>
        have e : mWt ic n (p1, false) = mNu ic n 1 (p1, false) := by unfold mWt; rw [if_pos ⟨rfl, hc⟩]
        rw [e] at h3 ⊢
        rw [show kArg ic n 4 p1 = kOne ic n 1 p1 by unfold kArg; rw [hc]; rfl]
        have key := mOne (ic := ic) (n := n) (k := 1) (p := p1)
        cases hO : kOne ic n 1 p1 with
        | inl e => rw [hO] at key; exact key
        | inr z =>
          rw [hO] at key
          exact ⟨key.1, h2, fun _ => h3.trans key.2, fun q => absurd (show 5 ≤ 4 from q) (by decide), fun q => absurd (show 6 ≤ 4 from q) (by decide)⟩
  · rw [hk, hs]
    show (mWt ic n (e, true)).1 = (e, true); unfold mWt; rw [if_neg (by simp)]
end
section
variable {l : Launch} {G : wdG} {w : wdW} {m : Nat} {A : Nat → Nat} {I : Nat → Int32} {F : Nat → Nat → Int32} {n p c : Nat} {g : Nat → Int32} {s : Nat × Bool} {Q : wdO → wdW → Prop} {x y : Int32}
theorem mT_329 (hM : isM w m A (pI I n s (c + 1)) (va_up F 7 g)) (h60 : n ≤ 60) (hs : s.1 ≤ n) (hc : c < 59) (kk : ∀ w', isM w' m A (pI I n s (c + 1)) (va_up F 7 g) → mFr m A w w' → Q (.inl none) w') : WW (l, G, MX3_readCommand, 6, 0, 0, Q) 0 0 329 [(3, .int (nI (4 * c))), (2, .int x), (1, .int y), (0, .ref m)] [] w := by
  have fr0 := mFr.refl m A w
  exact WW.vret rfl rfl (kk _ hM fr0)
theorem mT_137 (hM : isM w m A (pI I n s (c + 1)) (va_up F 7 g)) (h60 : n ≤ 60) (hs : s.1 ≤ n) (hc : c < 59) (kk : ∀ w', isM w' m A (pI I n (mNu (F 6) n 0 s).1 (c + 1)) (va_up F 7 (va_up g (4 * c + 1) (mNu (F 6) n 0 s).2)) → mFr m A w w' → Q (.inl none) w') : WW (l, G, MX3_readCommand, 6, 0, 0, Q) 0 0 137 [(3, .int (nI (4 * c))), (2, .int x), (1, .int y), (0, .ref m)] [] w := by
  have fr0 := mFr.refl m A w
  refine WW.run (pc' := 138) (lv' := [(3, .int (nI (4 * c))), (2, .int x), (1, .int y), (0, .ref m)]) (st' := [.ref m]) 1 rfl ?_
  refine WW.get rfl fX3_39 hM.1 (show _ = some (.ref (A 7)) from rfl) ?_
  refine WW.run (pc' := 146) (lv' := [(3, .int (nI (4 * c))), (2, .int x), (1, .int y), (0, .ref m)]) (st' := [.int (nI 1), .ref m, .int ((nI (4 * c)) + (nI 1)), .ref (A 7)]) 5 rfl ?_
  refine WW.callV [.int (nI 1)] m [.int ((nI (4 * c)) + (nI 1)), .ref (A 7)] rfl mX3_220 (mY_number (p := s.1) (b := s.2) hM h60 hs (k := 0) (by decide)) (wdRecv.obj hM.1 rfl) rfl rfl (wd_le rfl) (wd_le rfl) (wd_le rfl) (wd_le rfl) (fun o u0 hq => ?_)
  obtain ⟨r0, hr0⟩ : ∃ z, z = mNu (F 6) n 0 s := ⟨_, rfl⟩
  rw [← hr0] at kk
  replace hq : o = .inl (some (.int r0.2)) ∧ isM u0 m A (pI I n r0.1 (c + 1)) (va_up F 7 g) ∧ mFr m A w u0 := by rw [hr0]; exact hq
  have hs0 : r0.1.1 ≤ n := by rw [hr0]; exact mNu_le hs
  obtain ⟨rfl, ha0, fa0⟩ := hq
  show WW _ _ _ 149 _ [.int r0.2, .int ((nI (4 * c)) + (nI 1)), .ref (A 7)] _
  have fb0 := fr0.trans fa0
  refine WW.mast 7 ((4 * c) + 1) rfl ha0 (by decide) rfl (wn_add rfl rfl) (by show _ < 240; omega) (by decide) (fun w1 hM1 fr1 => ?_)
  obtain ⟨v0, hv0⟩ : ∃ z, z = w1 := ⟨_, rfl⟩
  have hb0 : isM v0 m A (pI I n r0.1 (c + 1)) (va_up F 7 (va_up g (4 * c + 1) r0.2)) := by
    have h9 := hM1
    rw [va_up_up, ← hv0] at h9
    exact h9
  have fc0 : mFr m A w v0 := by rw [hv0]; exact (fb0.trans fr1)
  rw [← hv0]
  refine WW.run (pc' := 329) (lv' := [(3, .int (nI (4 * c))), (2, .int x), (1, .int y), (0, .ref m)]) (st' := []) 1 rfl ?_
  exact WW.vret rfl rfl (kk _ hb0 fc0)
theorem mT_159 (hM : isM w m A (pI I n s (c + 1)) (va_up F 7 g)) (h60 : n ≤ 60) (hs : s.1 ≤ n) (hc : c < 59) (kk : ∀ w', isM w' m A (pI I n (mNu (F 6) n 2 s).1 (c + 1)) (va_up F 7 (va_up g (4 * c + 1) (mNu (F 6) n 2 s).2)) → mFr m A w w' → Q (.inl none) w') : WW (l, G, MX3_readCommand, 6, 0, 0, Q) 0 0 159 [(3, .int (nI (4 * c))), (2, .int x), (1, .int y), (0, .ref m)] [] w := by
  have fr0 := mFr.refl m A w
  refine WW.run (pc' := 160) (lv' := [(3, .int (nI (4 * c))), (2, .int x), (1, .int y), (0, .ref m)]) (st' := [.ref m]) 1 rfl ?_
  refine WW.get rfl fX3_39 hM.1 (show _ = some (.ref (A 7)) from rfl) ?_
  refine WW.run (pc' := 168) (lv' := [(3, .int (nI (4 * c))), (2, .int x), (1, .int y), (0, .ref m)]) (st' := [.int (nI 3), .ref m, .int ((nI (4 * c)) + (nI 1)), .ref (A 7)]) 5 rfl ?_
  refine WW.callV [.int (nI 3)] m [.int ((nI (4 * c)) + (nI 1)), .ref (A 7)] rfl mX3_220 (mY_number (p := s.1) (b := s.2) hM h60 hs (k := 2) (by decide)) (wdRecv.obj hM.1 rfl) rfl rfl (wd_le rfl) (wd_le rfl) (wd_le rfl) (wd_le rfl) (fun o u0 hq => ?_)
  obtain ⟨r0, hr0⟩ : ∃ z, z = mNu (F 6) n 2 s := ⟨_, rfl⟩
  rw [← hr0] at kk
  replace hq : o = .inl (some (.int r0.2)) ∧ isM u0 m A (pI I n r0.1 (c + 1)) (va_up F 7 g) ∧ mFr m A w u0 := by rw [hr0]; exact hq
  have hs0 : r0.1.1 ≤ n := by rw [hr0]; exact mNu_le hs
  obtain ⟨rfl, ha0, fa0⟩ := hq
  show WW _ _ _ 171 _ [.int r0.2, .int ((nI (4 * c)) + (nI 1)), .ref (A 7)] _
  have fb0 := fr0.trans fa0
  refine WW.mast 7 ((4 * c) + 1) rfl ha0 (by decide) rfl (wn_add rfl rfl) (by show _ < 240; omega) (by decide) (fun w2 hM2 fr2 => ?_)
  obtain ⟨v0, hv0⟩ : ∃ z, z = w2 := ⟨_, rfl⟩
  have hb0 : isM v0 m A (pI I n r0.1 (c + 1)) (va_up F 7 (va_up g (4 * c + 1) r0.2)) := by
    have h9 := hM2
    rw [va_up_up, ← hv0] at h9
    exact h9
  have fc0 : mFr m A w v0 := by rw [hv0]; exact (fb0.trans fr2)
  rw [← hv0]
  refine WW.run (pc' := 329) (lv' := [(3, .int (nI (4 * c))), (2, .int x), (1, .int y), (0, .ref m)]) (st' := []) 1 rfl ?_
  exact WW.vret rfl rfl (kk _ hb0 fc0)
theorem mT_264 (hM : isM w m A (pI I n s (c + 1)) (va_up F 7 g)) (h60 : n ≤ 60) (hs : s.1 ≤ n) (hc : c < 59) (kk : ∀ w', isM w' m A (pI I n (mNu (F 6) n 0 s).1 (c + 1)) (va_up F 7 (va_up g (4 * c + 1) (mNu (F 6) n 0 s).2)) → mFr m A w w' → Q (.inl none) w') : WW (l, G, MX3_readCommand, 6, 0, 0, Q) 0 0 264 [(3, .int (nI (4 * c))), (2, .int x), (1, .int y), (0, .ref m)] [] w := by
  have fr0 := mFr.refl m A w
  refine WW.run (pc' := 265) (lv' := [(3, .int (nI (4 * c))), (2, .int x), (1, .int y), (0, .ref m)]) (st' := [.ref m]) 1 rfl ?_
  refine WW.get rfl fX3_39 hM.1 (show _ = some (.ref (A 7)) from rfl) ?_
  refine WW.run (pc' := 273) (lv' := [(3, .int (nI (4 * c))), (2, .int x), (1, .int y), (0, .ref m)]) (st' := [.int (nI 1), .ref m, .int ((nI (4 * c)) + (nI 1)), .ref (A 7)]) 5 rfl ?_
  refine WW.callV [.int (nI 1)] m [.int ((nI (4 * c)) + (nI 1)), .ref (A 7)] rfl mX3_220 (mY_number (p := s.1) (b := s.2) hM h60 hs (k := 0) (by decide)) (wdRecv.obj hM.1 rfl) rfl rfl (wd_le rfl) (wd_le rfl) (wd_le rfl) (wd_le rfl) (fun o u0 hq => ?_)
  obtain ⟨r0, hr0⟩ : ∃ z, z = mNu (F 6) n 0 s := ⟨_, rfl⟩
  rw [← hr0] at kk
  replace hq : o = .inl (some (.int r0.2)) ∧ isM u0 m A (pI I n r0.1 (c + 1)) (va_up F 7 g) ∧ mFr m A w u0 := by rw [hr0]; exact hq
  have hs0 : r0.1.1 ≤ n := by rw [hr0]; exact mNu_le hs
  obtain ⟨rfl, ha0, fa0⟩ := hq
  show WW _ _ _ 276 _ [.int r0.2, .int ((nI (4 * c)) + (nI 1)), .ref (A 7)] _
  have fb0 := fr0.trans fa0
  refine WW.mast 7 ((4 * c) + 1) rfl ha0 (by decide) rfl (wn_add rfl rfl) (by show _ < 240; omega) (by decide) (fun w3 hM3 fr3 => ?_)
  obtain ⟨v0, hv0⟩ : ∃ z, z = w3 := ⟨_, rfl⟩
  have hb0 : isM v0 m A (pI I n r0.1 (c + 1)) (va_up F 7 (va_up g (4 * c + 1) r0.2)) := by
    have h9 := hM3
    rw [va_up_up, ← hv0] at h9
    exact h9
  have fc0 : mFr m A w v0 := by rw [hv0]; exact (fb0.trans fr3)
  rw [← hv0]
  refine WW.run (pc' := 329) (lv' := [(3, .int (nI (4 * c))), (2, .int x), (1, .int y), (0, .ref m)]) (st' := []) 1 rfl ?_
  exact WW.vret rfl rfl (kk _ hb0 fc0)
theorem mT_229 (hM : isM w m A (pI I n s (c + 1)) (va_up F 7 g)) (h60 : n ≤ 60) (hs : s.1 ≤ n) (hc : c < 59) (kk : ∀ w', isM w' m A (pI I n (mNu (F 6) n 1 (mNu (F 6) n 0 s).1).1 (c + 1)) (va_up F 7 (va_up (va_up g (4 * c + 1) (mNu (F 6) n 0 s).2) (4 * c + 2) (mNu (F 6) n 1 (mNu (F 6) n 0 s).1).2)) → mFr m A w w' → Q (.inl none) w') : WW (l, G, MX3_readCommand, 6, 0, 0, Q) 0 0 229 [(3, .int (nI (4 * c))), (2, .int x), (1, .int y), (0, .ref m)] [] w := by
  have fr0 := mFr.refl m A w
  refine WW.run (pc' := 230) (lv' := [(3, .int (nI (4 * c))), (2, .int x), (1, .int y), (0, .ref m)]) (st' := [.ref m]) 1 rfl ?_
  refine WW.get rfl fX3_39 hM.1 (show _ = some (.ref (A 7)) from rfl) ?_
  refine WW.run (pc' := 238) (lv' := [(3, .int (nI (4 * c))), (2, .int x), (1, .int y), (0, .ref m)]) (st' := [.int (nI 1), .ref m, .int ((nI (4 * c)) + (nI 1)), .ref (A 7)]) 5 rfl ?_
  refine WW.callV [.int (nI 1)] m [.int ((nI (4 * c)) + (nI 1)), .ref (A 7)] rfl mX3_220 (mY_number (p := s.1) (b := s.2) hM h60 hs (k := 0) (by decide)) (wdRecv.obj hM.1 rfl) rfl rfl (wd_le rfl) (wd_le rfl) (wd_le rfl) (wd_le rfl) (fun o u0 hq => ?_)
  obtain ⟨r0, hr0⟩ : ∃ z, z = mNu (F 6) n 0 s := ⟨_, rfl⟩
  rw [← hr0] at kk
  replace hq : o = .inl (some (.int r0.2)) ∧ isM u0 m A (pI I n r0.1 (c + 1)) (va_up F 7 g) ∧ mFr m A w u0 := by rw [hr0]; exact hq
  have hs0 : r0.1.1 ≤ n := by rw [hr0]; exact mNu_le hs
  obtain ⟨rfl, ha0, fa0⟩ := hq
  show WW _ _ _ 241 _ [.int r0.2, .int ((nI (4 * c)) + (nI 1)), .ref (A 7)] _
  have fb0 := fr0.trans fa0
  refine WW.mast 7 ((4 * c) + 1) rfl ha0 (by decide) rfl (wn_add rfl rfl) (by show _ < 240; omega) (by decide) (fun w4 hM4 fr4 => ?_)
  obtain ⟨v0, hv0⟩ : ∃ z, z = w4 := ⟨_, rfl⟩
  have hb0 : isM v0 m A (pI I n r0.1 (c + 1)) (va_up F 7 (va_up g (4 * c + 1) r0.2)) := by
    have h9 := hM4
    rw [va_up_up, ← hv0] at h9
    exact h9
  have fc0 : mFr m A w v0 := by rw [hv0]; exact (fb0.trans fr4)
  rw [← hv0]
  refine WW.run (pc' := 243) (lv' := [(3, .int (nI (4 * c))), (2, .int x), (1, .int y), (0, .ref m)]) (st' := [.ref m]) 1 rfl ?_
  refine WW.get rfl fX3_39 hb0.1 (show _ = some (.ref (A 7)) from rfl) ?_
  refine WW.run (pc' := 251) (lv' := [(3, .int (nI (4 * c))), (2, .int x), (1, .int y), (0, .ref m)]) (st' := [.int (nI 2), .ref m, .int ((nI (4 * c)) + (nI 2)), .ref (A 7)]) 5 rfl ?_
  refine WW.callV [.int (nI 2)] m [.int ((nI (4 * c)) + (nI 2)), .ref (A 7)] rfl mX3_220 (mY_number (p := r0.1.1) (b := r0.1.2) hb0 h60 hs0 (k := 1) (by decide)) (wdRecv.obj hb0.1 rfl) rfl rfl (wd_le rfl) (wd_le rfl) (wd_le rfl) (wd_le rfl) (fun o u1 hq => ?_)
  obtain ⟨r1, hr1⟩ : ∃ z, z = mNu (F 6) n 1 r0.1 := ⟨_, rfl⟩
  rw [← hr1] at kk
  replace hq : o = .inl (some (.int r1.2)) ∧ isM u1 m A (pI I n r1.1 (c + 1)) (va_up F 7 (va_up g (4 * c + 1) r0.2)) ∧ mFr m A v0 u1 := by rw [hr1]; exact hq
  have hs1 : r1.1.1 ≤ n := by rw [hr1]; exact mNu_le hs0
  obtain ⟨rfl, ha1, fa1⟩ := hq
  show WW _ _ _ 254 _ [.int r1.2, .int ((nI (4 * c)) + (nI 2)), .ref (A 7)] _
  have fb1 := fc0.trans fa1
  refine WW.mast 7 ((4 * c) + 2) rfl ha1 (by decide) rfl (wn_add rfl rfl) (by show _ < 240; omega) (by decide) (fun w5 hM5 fr5 => ?_)
  obtain ⟨v1, hv1⟩ : ∃ z, z = w5 := ⟨_, rfl⟩
  have hb1 : isM v1 m A (pI I n r1.1 (c + 1)) (va_up F 7 (va_up (va_up g (4 * c + 1) r0.2) (4 * c + 2) r1.2)) := by
    have h9 := hM5
    rw [va_up_up, ← hv1] at h9
    exact h9
  have fc1 : mFr m A w v1 := by rw [hv1]; exact (fb1.trans fr5)
  rw [← hv1]
  refine WW.run (pc' := 329) (lv' := [(3, .int (nI (4 * c))), (2, .int x), (1, .int y), (0, .ref m)]) (st' := []) 1 rfl ?_
  exact WW.vret rfl rfl (kk _ hb1 fc1)
theorem mT_181 (hM : isM w m A (pI I n s (c + 1)) (va_up F 7 g)) (h60 : n ≤ 60) (hs : s.1 ≤ n) (hc : c < 59) (kk : ∀ w', isM w' m A (pI I n (mNu (F 6) n 1 (mNu (F 6) n 0 (mNu (F 6) n 0 s).1).1).1 (c + 1)) (va_up F 7 (va_up (va_up (va_up g (4 * c + 1) (mNu (F 6) n 0 s).2) (4 * c + 2) (mNu (F 6) n 0 (mNu (F 6) n 0 s).1).2) (4 * c + 3) (mNu (F 6) n 1 (mNu (F 6) n 0 (mNu (F 6) n 0 s).1).1).2)) → mFr m A w w' → Q (.inl none) w') : WW (l, G, MX3_readCommand, 6, 0, 0, Q) 0 0 181 [(3, .int (nI (4 * c))), (2, .int x), (1, .int y), (0, .ref m)] [] w := by
  have fr0 := mFr.refl m A w
  refine WW.run (pc' := 182) (lv' := [(3, .int (nI (4 * c))), (2, .int x), (1, .int y), (0, .ref m)]) (st' := [.ref m]) 1 rfl ?_
  refine WW.get rfl fX3_39 hM.1 (show _ = some (.ref (A 7)) from rfl) ?_
  refine WW.run (pc' := 190) (lv' := [(3, .int (nI (4 * c))), (2, .int x), (1, .int y), (0, .ref m)]) (st' := [.int (nI 1), .ref m, .int ((nI (4 * c)) + (nI 1)), .ref (A 7)]) 5 rfl ?_
  refine WW.callV [.int (nI 1)] m [.int ((nI (4 * c)) + (nI 1)), .ref (A 7)] rfl mX3_220 (mY_number (p := s.1) (b := s.2) hM h60 hs (k := 0) (by decide)) (wdRecv.obj hM.1 rfl) rfl rfl (wd_le rfl) (wd_le rfl) (wd_le rfl) (wd_le rfl) (fun o u0 hq => ?_)
  obtain ⟨r0, hr0⟩ : ∃ z, z = mNu (F 6) n 0 s := ⟨_, rfl⟩
  rw [← hr0] at kk
  replace hq : o = .inl (some (.int r0.2)) ∧ isM u0 m A (pI I n r0.1 (c + 1)) (va_up F 7 g) ∧ mFr m A w u0 := by rw [hr0]; exact hq
  have hs0 : r0.1.1 ≤ n := by rw [hr0]; exact mNu_le hs
  obtain ⟨rfl, ha0, fa0⟩ := hq
  show WW _ _ _ 193 _ [.int r0.2, .int ((nI (4 * c)) + (nI 1)), .ref (A 7)] _
  have fb0 := fr0.trans fa0
  refine WW.mast 7 ((4 * c) + 1) rfl ha0 (by decide) rfl (wn_add rfl rfl) (by show _ < 240; omega) (by decide) (fun w6 hM6 fr6 => ?_)
  obtain ⟨v0, hv0⟩ : ∃ z, z = w6 := ⟨_, rfl⟩
  have hb0 : isM v0 m A (pI I n r0.1 (c + 1)) (va_up F 7 (va_up g (4 * c + 1) r0.2)) := by
    have h9 := hM6
    rw [va_up_up, ← hv0] at h9
    exact h9
  have fc0 : mFr m A w v0 := by rw [hv0]; exact (fb0.trans fr6)
  rw [← hv0]
  refine WW.run (pc' := 195) (lv' := [(3, .int (nI (4 * c))), (2, .int x), (1, .int y), (0, .ref m)]) (st' := [.ref m]) 1 rfl ?_
  refine WW.get rfl fX3_39 hb0.1 (show _ = some (.ref (A 7)) from rfl) ?_
  refine WW.run (pc' := 203) (lv' := [(3, .int (nI (4 * c))), (2, .int x), (1, .int y), (0, .ref m)]) (st' := [.int (nI 1), .ref m, .int ((nI (4 * c)) + (nI 2)), .ref (A 7)]) 5 rfl ?_
  refine WW.callV [.int (nI 1)] m [.int ((nI (4 * c)) + (nI 2)), .ref (A 7)] rfl mX3_220 (mY_number (p := r0.1.1) (b := r0.1.2) hb0 h60 hs0 (k := 0) (by decide)) (wdRecv.obj hb0.1 rfl) rfl rfl (wd_le rfl) (wd_le rfl) (wd_le rfl) (wd_le rfl) (fun o u1 hq => ?_)
  obtain ⟨r1, hr1⟩ : ∃ z, z = mNu (F 6) n 0 r0.1 := ⟨_, rfl⟩
  rw [← hr1] at kk
  replace hq : o = .inl (some (.int r1.2)) ∧ isM u1 m A (pI I n r1.1 (c + 1)) (va_up F 7 (va_up g (4 * c + 1) r0.2)) ∧ mFr m A v0 u1 := by rw [hr1]; exact hq
  have hs1 : r1.1.1 ≤ n := by rw [hr1]; exact mNu_le hs0
  obtain ⟨rfl, ha1, fa1⟩ := hq
  show WW _ _ _ 206 _ [.int r1.2, .int ((nI (4 * c)) + (nI 2)), .ref (A 7)] _
  have fb1 := fc0.trans fa1
  refine WW.mast 7 ((4 * c) + 2) rfl ha1 (by decide) rfl (wn_add rfl rfl) (by show _ < 240; omega) (by decide) (fun w7 hM7 fr7 => ?_)
  obtain ⟨v1, hv1⟩ : ∃ z, z = w7 := ⟨_, rfl⟩
  have hb1 : isM v1 m A (pI I n r1.1 (c + 1)) (va_up F 7 (va_up (va_up g (4 * c + 1) r0.2) (4 * c + 2) r1.2)) := by
    have h9 := hM7
    rw [va_up_up, ← hv1] at h9
    exact h9
  have fc1 : mFr m A w v1 := by rw [hv1]; exact (fb1.trans fr7)
  rw [← hv1]
  refine WW.run (pc' := 208) (lv' := [(3, .int (nI (4 * c))), (2, .int x), (1, .int y), (0, .ref m)]) (st' := [.ref m]) 1 rfl ?_
  refine WW.get rfl fX3_39 hb1.1 (show _ = some (.ref (A 7)) from rfl) ?_
  refine WW.run (pc' := 216) (lv' := [(3, .int (nI (4 * c))), (2, .int x), (1, .int y), (0, .ref m)]) (st' := [.int (nI 2), .ref m, .int ((nI (4 * c)) + (nI 3)), .ref (A 7)]) 5 rfl ?_
  refine WW.callV [.int (nI 2)] m [.int ((nI (4 * c)) + (nI 3)), .ref (A 7)] rfl mX3_220 (mY_number (p := r1.1.1) (b := r1.1.2) hb1 h60 hs1 (k := 1) (by decide)) (wdRecv.obj hb1.1 rfl) rfl rfl (wd_le rfl) (wd_le rfl) (wd_le rfl) (wd_le rfl) (fun o u2 hq => ?_)
  obtain ⟨r2, hr2⟩ : ∃ z, z = mNu (F 6) n 1 r1.1 := ⟨_, rfl⟩
  rw [← hr2] at kk
  replace hq : o = .inl (some (.int r2.2)) ∧ isM u2 m A (pI I n r2.1 (c + 1)) (va_up F 7 (va_up (va_up g (4 * c + 1) r0.2) (4 * c + 2) r1.2)) ∧ mFr m A v1 u2 := by rw [hr2]; exact hq
  have hs2 : r2.1.1 ≤ n := by rw [hr2]; exact mNu_le hs1
  obtain ⟨rfl, ha2, fa2⟩ := hq
  show WW _ _ _ 219 _ [.int r2.2, .int ((nI (4 * c)) + (nI 3)), .ref (A 7)] _
  have fb2 := fc1.trans fa2
  refine WW.mast 7 ((4 * c) + 3) rfl ha2 (by decide) rfl (wn_add rfl rfl) (by show _ < 240; omega) (by decide) (fun w8 hM8 fr8 => ?_)
  obtain ⟨v2, hv2⟩ : ∃ z, z = w8 := ⟨_, rfl⟩
  have hb2 : isM v2 m A (pI I n r2.1 (c + 1)) (va_up F 7 (va_up (va_up (va_up g (4 * c + 1) r0.2) (4 * c + 2) r1.2) (4 * c + 3) r2.2)) := by
    have h9 := hM8
    rw [va_up_up, ← hv2] at h9
    exact h9
  have fc2 : mFr m A w v2 := by rw [hv2]; exact (fb2.trans fr8)
  rw [← hv2]
  refine WW.run (pc' := 329) (lv' := [(3, .int (nI (4 * c))), (2, .int x), (1, .int y), (0, .ref m)]) (st' := []) 1 rfl ?_
  exact WW.vret rfl rfl (kk _ hb2 fc2)
theorem mT_286 (hM : isM w m A (pI I n s (c + 1)) (va_up F 7 g)) (h60 : n ≤ 60) (hs : s.1 ≤ n) (hc : c < 59) (kk : ∀ w', isM w' m A (pI I n (mWt (F 6) n s).1 (c + 1)) (va_up F 7 (va_up g (4 * c + 1) (mWt (F 6) n s).2)) → mFr m A w w' → Q (.inl none) w') : WW (l, G, MX3_readCommand, 6, 0, 0, Q) 0 0 286 [(3, .int (nI (4 * c))), (2, .int x), (1, .int y), (0, .ref m)] [] w := by
  have fin : ∀ (u : wdW) (r : (Nat × Bool) × Int32), r = mWt (F 6) n s → isM u m A (pI I n r.1 (c + 1)) (va_up F 7 g) → mFr m A w u → WW (l, G, MX3_readCommand, 6, 0, 0, Q) 0 0 319 [(3, .int (nI (4 * c))), (2, .int x), (1, .int y), (0, .ref m)] [.int r.2, .int (nI (4 * c) + nI 1), .ref (A 7)] u := by
    intro u r hr hM fr0
    rw [nI_add]
    refine WW.mast 7 (4 * c + 1) rfl hM (by decide) rfl rfl (by show _ < 240; omega) (by decide) (fun w9 hM9 fr9 => ?_)
    refine WW.run (pc' := 329) (lv' := [(3, .int (nI (4 * c))), (2, .int x), (1, .int y), (0, .ref m)]) (st' := []) 1 rfl ?_
    have h9 := hM9
    rw [va_up_up, hr] at h9
    exact WW.vret rfl rfl (kk _ h9 (fr0.trans fr9))
  have fr0 := mFr.refl m A w
  refine WW.run (pc' := 287) (lv' := [(3, .int (nI (4 * c))), (2, .int x), (1, .int y), (0, .ref m)]) (st' := [.ref m]) 1 rfl ?_
  refine WW.get rfl fX3_39 hM.1 (show _ = some (.ref (A 7)) from rfl) ?_
  refine WW.run (pc' := 294) (lv' := [(3, .int (nI (4 * c))), (2, .int x), (1, .int y), (0, .ref m)]) (st' := [.ref m, .int ((nI (4 * c)) + (nI 1)), .ref (A 7)]) 4 rfl ?_
  refine WW.get rfl fX3_192 hM.1 (show _ = some (.int (bI s.2)) from rfl) ?_
  by_cases hb : s.2 = true
  · have e : mWt (F 6) n s = (s, nI 1) := by unfold mWt; rw [if_neg (by simp [hb])]
    refine WW.if_ne (tgt := 318) rfl rfl (fun _ => ?_) (fun hno => absurd hno (by rw [hb]; decide))
    refine WW.run (pc' := 319) (lv' := [(3, .int (nI (4 * c))), (2, .int x), (1, .int y), (0, .ref m)]) (st' := [.int (nI 1), .int ((nI (4 * c)) + (nI 1)), .ref (A 7)]) 1 rfl ?_
    exact fin w (s, nI 1) e.symm hM fr0
  · skip
    have hb : s.2 = false := Bool.eq_false_iff.mpr hb
    refine WW.if_ne (tgt := 318) rfl rfl (fun hno => absurd (by rw [hb]; decide) hno) (fun _ => ?_)
    refine WW.run (pc' := 302) (lv' := [(3, .int (nI (4 * c))), (2, .int x), (1, .int y), (0, .ref m)]) (st' := [.int (nI 0), .ref m, .int ((nI (4 * c)) + (nI 1)), .ref (A 7)]) 2 rfl ?_
    refine WW.callV [.int (nI 0)] m [.int ((nI (4 * c)) + (nI 1)), .ref (A 7)] rfl mX3_196 (mY_behind (p := s.1) (b := s.2) hM h60 (by omega) (i := 0) (by decide)) (wdRecv.obj hM.1 rfl) rfl rfl (wd_le rfl) (wd_le rfl) (wd_le rfl) (wd_le rfl) (fun o w' hq => ?_)
    obtain ⟨rfl, hw9⟩ := hq
    show WW _ _ _ 305 _ [.int (kBh (F 6) n s.1), .int ((nI (4 * c)) + (nI 1)), .ref (A 7)] _
    rw [hw9]
    clear hw9 w'
    refine WW.run (pc' := 307) (lv' := [(3, .int (nI (4 * c))), (2, .int x), (1, .int y), (0, .ref m)]) (st' := [.int (nI 32), .int (kBh (F 6) n s.1), .int ((nI (4 * c)) + (nI 1)), .ref (A 7)]) 1 rfl ?_
    cases hk : kAt (F 6) n s.1 (nI 32) (nI 32) with
    | false =>
      have e : mWt (F 6) n s = (s, nI 1) := by unfold mWt; rw [if_neg (by simp [hk])]
      refine WW.icmp_ne (tgt := 318) rfl rfl (fun _ => ?_) (fun hno => absurd hno (fun q => by rw [(bh_at (by decide)).mp q] at hk; cases hk))
      refine WW.run (pc' := 319) (lv' := [(3, .int (nI (4 * c))), (2, .int x), (1, .int y), (0, .ref m)]) (st' := [.int (nI 1), .int ((nI (4 * c)) + (nI 1)), .ref (A 7)]) 1 rfl ?_
      exact fin w (s, nI 1) e.symm hM fr0
    | true =>
      have e : mWt (F 6) n s = mNu (F 6) n 1 s := by unfold mWt; rw [if_pos ⟨hb, hk⟩]
      refine WW.icmp_ne (tgt := 318) rfl rfl (fun hno => absurd ((bh_at (by decide)).mpr hk) hno) (fun _ => ?_)
      refine WW.run (pc' := 312) (lv' := [(3, .int (nI (4 * c))), (2, .int x), (1, .int y), (0, .ref m)]) (st' := [.int (nI 2), .ref m, .int ((nI (4 * c)) + (nI 1)), .ref (A 7)]) 2 rfl ?_
      refine WW.callV [.int (nI 2)] m [.int ((nI (4 * c)) + (nI 1)), .ref (A 7)] rfl mX3_220 (mY_number (p := s.1) (b := s.2) hM h60 hs (k := 1) (by decide)) (wdRecv.obj hM.1 rfl) rfl rfl (wd_le rfl) (wd_le rfl) (wd_le rfl) (wd_le rfl) (fun o u0 hq => ?_)
      obtain ⟨r, hr⟩ : ∃ z, z = mNu (F 6) n 1 s := ⟨_, rfl⟩
      replace hq : o = .inl (some (.int r.2)) ∧ isM u0 m A (pI I n r.1 (c + 1)) (va_up F 7 g) ∧ mFr m A w u0 := by rw [hr]; exact hq
      obtain ⟨rfl, ha, fa⟩ := hq
      show WW _ _ _ 315 _ [.int r.2, .int ((nI (4 * c)) + (nI 1)), .ref (A 7)] _
      refine WW.run (pc' := 319) (lv' := [(3, .int (nI (4 * c))), (2, .int x), (1, .int y), (0, .ref m)]) (st' := [.int r.2, .int ((nI (4 * c)) + (nI 1)), .ref (A 7)]) 1 rfl ?_
      exact fin u0 r (hr.trans e.symm) ha fa

theorem lk_rc (x : Int32) : Op.lookupswitch.offset [((97 : Int), (58 : Int)), (100, 196), (108, 113), (111, 91), (114, 161), (119, 218)] 261 x.toInt = if x = nI 97 then 58 else if x = nI 100 then 196 else if x = nI 108 then 113 else if x = nI 111 then 91 else if x = nI 114 then 161 else if x = nI 119 then 218 else 261 := by
  rw [Op.lookupswitch.offset_cons, Op.lookupswitch.offset_cons, Op.lookupswitch.offset_cons, Op.lookupswitch.offset_cons, Op.lookupswitch.offset_cons, Op.lookupswitch.offset_cons, Op.lookupswitch.offset_nil]
  rw [← lk_if (k := 97) (by decide), ← lk_if (k := 100) (by decide), ← lk_if (k := 108) (by decide), ← lk_if (k := 111) (by decide), ← lk_if (k := 114) (by decide), ← lk_if (k := 119) (by decide)]
  rfl
end
