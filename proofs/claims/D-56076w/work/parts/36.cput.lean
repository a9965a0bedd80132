set_option maxRecDepth 100000
/-! THE COMPONENT's STATE CHANGES -/
abbrev hP (lo : Nat) : Nat → Prop := fun b => lo ≤ b
section
variable {G : wdG} {w w' : wdW} {lo a : Nat} {Z gs gl gr : Nat → Nat} {S : aS}
/-- numbers of the state's own -/
theorem isS.putO (h : isS G w lo a Z gs gl gr S) (S' : aS) (e1 : S'.1 = S.1) (e2 : S'.2.1 = S.2.1) (e3 : S'.2.2.1 = S.2.2.1) : isS G (wPut w 1 a (.inl (stF Z S'))) lo a Z gs gl gr S' := by
  obtain ⟨⟨a1, a2⟩, ⟨b1, b2, b3⟩, c, ⟨d1, d2⟩, ⟨f1, f2⟩, g⟩ := h
  obtain ⟨⟨n1, s1⟩, ⟨n2, s2⟩, ⟨n3, s3⟩, q⟩ := S'
  obtain ⟨⟨m1, t1⟩, ⟨m2, t2⟩, ⟨m3, t3⟩, q'⟩ := S
  cases e1; cases e2; cases e3
  exact ⟨⟨wPut_same _ _ _ _, a2⟩, ⟨b1.to (fun _ hp => (wPut_k (by decide)).trans hp) (fun _ hp => (wPut_k (by decide)).trans hp), b2.to (fun _ hp => (wPut_k (by decide)).trans hp) (fun _ hp => (wPut_k (by decide)).trans hp), b3.to (fun _ hp => (wPut_k (by decide)).trans hp) (fun _ hp => (wPut_k (by decide)).trans hp)⟩, c, ⟨fun i hi => ⟨(wPut_k (by decide)).trans (d1 i hi).1, (d1 i hi).2⟩, d2⟩, ⟨fun i hi => ⟨(wPut_k (by decide)).trans (f1 i hi).1, (f1 i hi).2⟩, f2⟩, fun k hk => (wPut_k (by decide)).trans (g k hk)⟩
theorem isS.putSh (h : isS G w lo a Z gs gl gr S) {i : Nat} (hi : i < S.ns) (x : aSh) : isS G (wPut w 3 (gs i) (.inl (shF x))) lo a Z gs gl gr (S.wSh i x) := by
  obtain ⟨⟨a1, a2⟩, ⟨b1, b2, b3⟩, c, ⟨d1, d2⟩, ⟨f1, f2⟩, g⟩ := h
  refine ⟨⟨(wPut_k (by decide)).trans a1, a2⟩, ⟨b1.to (fun _ hp => (wPut_k (by decide)).trans hp) (fun _ hp => (wPut_k (by decide)).trans hp), b2.to (fun _ hp => (wPut_k (by decide)).trans hp) (fun _ hp => (wPut_k (by decide)).trans hp), b3.to (fun _ hp => (wPut_k (by decide)).trans hp) (fun _ hp => (wPut_k (by decide)).trans hp)⟩, c, ⟨fun j hj => ⟨?_, (d1 j hj).2⟩, d2⟩, ⟨fun i hi => ⟨(wPut_k (by decide)).trans (f1 i hi).1, (f1 i hi).2⟩, f2⟩, fun k hk => (wPut_k (by decide)).trans (g k hk)⟩
  show (wPut w 3 (gs i) (.inl (shF x))).1 3 (gs j) = some (.inl (shF (va_up S.sh i x j)))
  by_cases e : j = i
  · subst e
    rw [wPut_same, va_up_self]
  · rw [wPut_ne (fun q => e (d2 j i hj hi q)), va_up_ne _ _ e]
    exact (d1 j hj).1
theorem isS.putLa (h : isS G w lo a Z gs gl gr S) {i : Nat} (hi : i < S.nl) (x : aLa) : isS G (wPut w 4 (gl i) (.inl (laF x))) lo a Z gs gl gr (S.wLa i x) := by
  obtain ⟨⟨a1, a2⟩, ⟨b1, b2, b3⟩, c, ⟨d1, d2⟩, ⟨f1, f2⟩, g⟩ := h
  refine ⟨⟨(wPut_k (by decide)).trans a1, a2⟩, ⟨b1.to (fun _ hp => (wPut_k (by decide)).trans hp) (fun _ hp => (wPut_k (by decide)).trans hp), b2.to (fun _ hp => (wPut_k (by decide)).trans hp) (fun _ hp => (wPut_k (by decide)).trans hp), b3.to (fun _ hp => (wPut_k (by decide)).trans hp) (fun _ hp => (wPut_k (by decide)).trans hp)⟩, c, ⟨fun i hi => ⟨(wPut_k (by decide)).trans (d1 i hi).1, (d1 i hi).2⟩, d2⟩, ⟨fun j hj => ⟨?_, (f1 j hj).2⟩, f2⟩, fun k hk => (wPut_k (by decide)).trans (g k hk)⟩
  show (wPut w 4 (gl i) (.inl (laF x))).1 4 (gl j) = some (.inl (laF (va_up S.la i x j)))
  by_cases e : j = i
  · subst e
    rw [wPut_same, va_up_self]
  · rw [wPut_ne (fun q => e (f2 j i hj hi q)), va_up_ne _ _ e]
    exact (f1 j hj).1
/-- an object's cell isn't touched by a list's change -/
theorem wFr.keepO {L arr n : Nat} {g : Nat → Nat} (fr : wFr (lP G L arr) w w') (ok : wdOk G w) (hL : isL G w L arr n g) {k b : Nat} {p : wdPay} (hp : w.1 k b = some p) (h10 : k ≠ 10) (h37 : k ≠ 37) : w'.1 k b = some p := by
  refine fr.at ok hp (fun q => ?_)
  rcases q with rfl | ⟨rfl, q⟩
  · obtain ⟨⟨mc, h1⟩, -⟩ := hL
    exact h10 (ok.2.1 _ _ _ _ _ hp h1)
  · rcases hL.2.2 with ⟨h1, -⟩ | ⟨h, h1, -⟩
    · exact q h1
    · exact h37 (ok.2.1 _ _ _ _ _ hp h1)
/-- nor another list -/
theorem isL.keep {L arr n L2 arr2 n2 : Nat} {g g2 : Nat → Nat} (fr : wFr (lP G L arr) w w') (ok : wdOk G w) (hL : isL G w L arr n g) (h2 : isL G w L2 arr2 n2 g2) (e1 : L2 ≠ L) (e2 : sDis G arr arr2) : isL G w' L2 arr2 n2 g2 := by
  obtain ⟨⟨mc, c1⟩, -, c3⟩ := hL
  obtain ⟨⟨mc2, d1⟩, d2, d3⟩ := h2
  refine ⟨⟨mc2, fr.at ok d1 (fun q => ?_)⟩, d2, ?_⟩
  · rcases q with q | ⟨q, q0⟩
    · exact e1 q
    · rcases c3 with ⟨c3, -⟩ | ⟨h, c3, -⟩
      · exact q0 c3
      · rw [q] at d1
        have := ok.2.1 _ _ _ _ _ d1 c3
        omega
  · rcases d3 with d3 | ⟨h, d3, d4⟩
    · exact Or.inl d3
    · refine Or.inr ⟨h, fr.at ok d3 (fun q => ?_), d4⟩
      rcases q with q | ⟨q, q0⟩
      · rw [q] at d3
        have := ok.2.1 _ _ _ _ _ d3 c1
        omega
      · rcases e2 with e2 | e2
        · exact q0 e2
        · exact e2 q.symm
theorem sDis.symm_ne {x y : Nat} (h : sDis G x y) (hy : y ≠ G.2.2.2.1 0) (hx : x ≠ G.2.2.2.1 0) : x ≠ y := by
  rcases h with h | h
  · exact absurd h hx
  · exact h
theorem sDis.flip {x y : Nat} (h : sDis G x y) : sDis G y x := by
  rcases h with h | h
  · by_cases e : y = G.2.2.2.1 0
    · exact Or.inl e
    · exact Or.inr (fun q => e (q.trans h))
  · exact Or.inr (fun q => h q.symm)
/-- an array in use lies below the world's bound -/
theorem isL.arrLt {L arr n : Nat} {g : Nat → Nat} (ok : wdOk G w) (h : isL G w L arr n g) : arr = G.2.2.2.1 0 ∨ arr < w.2 := by
  rcases h.2.2 with ⟨h1, -⟩ | ⟨z, h1, -⟩
  · exact Or.inl h1
  · exact Or.inr (ok.1 _ _ _ h1).2
theorem sDis.new {x y arr' : Nat} (h : sDis G x y) (hz : arr' = x ∨ w.2 ≤ arr') (h0 : arr' ≠ G.2.2.2.1 0) (hy : y = G.2.2.2.1 0 ∨ y < w.2) : sDis G arr' y := by
  refine Or.inr (fun q => ?_)
  rcases hz with hz | hz
  · rcases h with h | h
    · exact h0 (hz.trans h)
    · exact h (hz.symm.trans q)
  · rcases hy with hy | hy
    · exact h0 (q.trans hy)
    · omega
theorem isS.pushSh (h : isS G w lo a Z gs gl gr S) (ok : wdOk G w) {q arr' : Nat} {x : aSh} (hL : isL G w' (Z 0) arr' (S.ns + 1) (va_up gs S.ns q)) (hz : arr' = Z 3 ∨ w.2 ≤ arr') (h0 : arr' ≠ G.2.2.2.1 0) (fr : wFr (lP G (Z 0) (Z 3)) w w') (hq : w'.1 3 q = some (.inl (shF x))) (hlo : lo ≤ q) (hlw : lo ≤ w.2) (hne : ∀ i, i < S.ns → gs i ≠ q) : isS G w' lo a (va_up Z 3 arr') (va_up gs S.ns q) gl gr ((S.ns + 1, va_up S.sh S.ns x), S.2) := by
  obtain ⟨⟨a1, a2⟩, ⟨b1, b2, b3⟩, ⟨c1, ⟨c2, c3, c4⟩, c5, c6, c7, c8, c9, c10⟩, ⟨d1, d2⟩, ⟨f1, f2⟩, g⟩ := h
  refine ⟨⟨fr.keepO ok b1 a1 (by decide) (by decide), a2⟩, ⟨hL, isL.keep fr ok b1 b2 (Ne.symm c2) c8, isL.keep fr ok b1 b3 (Ne.symm c3) c9⟩, ⟨c1, ⟨c2, c3, c4⟩, Or.inr ?_, c6, c7, c8.new hz h0 (b2.arrLt ok), c9.new hz h0 (b3.arrLt ok), c10⟩, ⟨fun i hi => ?_, fun i j hi hj e => ?_⟩, ⟨fun i hi => ⟨fr.keepO ok b1 (f1 i hi).1 (by decide) (by decide), (f1 i hi).2⟩, f2⟩, fun k hk => fr.keepO ok b1 (g k hk) (by decide) (by decide)⟩
  · show lo ≤ arr'
    rcases hz with hz | hz
    · rw [hz]
      rcases c5 with c5 | c5
      · exact absurd (hz.trans c5) h0
      · exact c5
    · omega
  · have hi' : i < S.ns + 1 := hi
    show w'.1 3 (va_up gs S.ns q i) = some (.inl (shF (va_up S.sh S.ns x i))) ∧ lo ≤ va_up gs S.ns q i
    by_cases e : i = S.ns
    · subst e
      rw [va_up_self, va_up_self]
      exact ⟨hq, hlo⟩
    · rw [va_up_ne _ _ e, va_up_ne _ _ e]
      obtain ⟨g1, g2⟩ := d1 i (by omega)
      exact ⟨fr.keepO ok b1 g1 (by decide) (by decide), g2⟩
  · have hi' : i < S.ns + 1 := hi
    have hj' : j < S.ns + 1 := hj
    by_cases e1 : i = S.ns <;> by_cases e2 : j = S.ns
    · omega
    · rw [e1, va_up_self, va_up_ne _ _ e2] at e
      exact absurd e.symm (hne j (by omega))
    · rw [e2, va_up_self, va_up_ne _ _ e1] at e
      exact absurd e (hne i (by omega))
    · rw [va_up_ne _ _ e1, va_up_ne _ _ e2] at e
      exact d2 i j (by omega) (by omega) e
theorem isS.pushLa (h : isS G w lo a Z gs gl gr S) (ok : wdOk G w) {q arr' : Nat} {x : aLa} (hL : isL G w' (Z 1) arr' (S.nl + 1) (va_up gl S.nl q)) (hz : arr' = Z 4 ∨ w.2 ≤ arr') (h0 : arr' ≠ G.2.2.2.1 0) (fr : wFr (lP G (Z 1) (Z 4)) w w') (hq : w'.1 4 q = some (.inl (laF x))) (hlo : lo ≤ q) (hlw : lo ≤ w.2) (hne : ∀ i, i < S.nl → gl i ≠ q) : isS G w' lo a (va_up Z 4 arr') gs (va_up gl S.nl q) gr (S.1, (S.nl + 1, va_up S.la S.nl x), S.2.2) := by
  obtain ⟨⟨a1, a2⟩, ⟨b1, b2, b3⟩, ⟨c1, ⟨c2, c3, c4⟩, c5, c6, c7, c8, c9, c10⟩, ⟨d1, d2⟩, ⟨f1, f2⟩, g⟩ := h
  refine ⟨⟨fr.keepO ok b2 a1 (by decide) (by decide), a2⟩, ⟨isL.keep fr ok b2 b1 c2 c8.flip, hL, isL.keep fr ok b2 b3 (Ne.symm c4) c10⟩, ⟨c1, ⟨c2, c3, c4⟩, c5, Or.inr ?_, c7, (c8.flip.new hz h0 (b1.arrLt ok)).flip, c9, c10.new hz h0 (b3.arrLt ok)⟩, ⟨fun i hi => ⟨fr.keepO ok b2 (d1 i hi).1 (by decide) (by decide), (d1 i hi).2⟩, d2⟩, ⟨fun i hi => ?_, fun i j hi hj e => ?_⟩, fun k hk => fr.keepO ok b2 (g k hk) (by decide) (by decide)⟩
  · show lo ≤ arr'
    rcases hz with hz | hz
    · rw [hz]
      rcases c6 with c6 | c6
      · exact absurd (hz.trans c6) h0
      · exact c6
    · omega
  · have hi' : i < S.nl + 1 := hi
    show w'.1 4 (va_up gl S.nl q i) = some (.inl (laF (va_up S.la S.nl x i))) ∧ lo ≤ va_up gl S.nl q i
    by_cases e : i = S.nl
    · subst e
      rw [va_up_self, va_up_self]
      exact ⟨hq, hlo⟩
    · rw [va_up_ne _ _ e, va_up_ne _ _ e]
      obtain ⟨g1, g2⟩ := f1 i (by omega)
      exact ⟨fr.keepO ok b2 g1 (by decide) (by decide), g2⟩
  · have hi' : i < S.nl + 1 := hi
    have hj' : j < S.nl + 1 := hj
    by_cases e1 : i = S.nl <;> by_cases e2 : j = S.nl
    · omega
    · rw [e1, va_up_self, va_up_ne _ _ e2] at e
      exact absurd e.symm (hne j (by omega))
    · rw [e2, va_up_self, va_up_ne _ _ e1] at e
      exact absurd e (hne i (by omega))
    · rw [va_up_ne _ _ e1, va_up_ne _ _ e2] at e
      exact f2 i j (by omega) (by omega) e
theorem isS.pushRq (h : isS G w lo a Z gs gl gr S) (ok : wdOk G w) {q arr' : Nat} {x : aRe} (hL : isL G w' (Z 2) arr' (S.nr + 1) (va_up gr S.nr q)) (hz : arr' = Z 5 ∨ w.2 ≤ arr') (h0 : arr' ≠ G.2.2.2.1 0) (fr : wFr (lP G (Z 2) (Z 5)) w w') (hq : w'.1 6 q = some (.inl (rqF x))) (hlw : lo ≤ w.2) : isS G w' lo a (va_up Z 5 arr') gs gl (va_up gr S.nr q) (S.wRq (S.nr + 1) (va_up S.rq S.nr x)) := by
  obtain ⟨⟨a1, a2⟩, ⟨b1, b2, b3⟩, ⟨c1, ⟨c2, c3, c4⟩, c5, c6, c7, c8, c9, c10⟩, ⟨d1, d2⟩, ⟨f1, f2⟩, g⟩ := h
  refine ⟨⟨fr.keepO ok b3 a1 (by decide) (by decide), a2⟩, ⟨isL.keep fr ok b3 b1 c3 c9.flip, isL.keep fr ok b3 b2 c4 c10.flip, hL⟩, ⟨c1, ⟨c2, c3, c4⟩, c5, c6, Or.inr ?_, c8, (c9.flip.new hz h0 (b1.arrLt ok)).flip, (c10.flip.new hz h0 (b2.arrLt ok)).flip⟩, ⟨fun i hi => ⟨fr.keepO ok b3 (d1 i hi).1 (by decide) (by decide), (d1 i hi).2⟩, d2⟩, ⟨fun i hi => ⟨fr.keepO ok b3 (f1 i hi).1 (by decide) (by decide), (f1 i hi).2⟩, f2⟩, fun k hk => ?_⟩
  · show lo ≤ arr'
    rcases hz with hz | hz
    · rw [hz]
      rcases c7 with c7 | c7
      · exact absurd (hz.trans c7) h0
      · exact c7
    · omega
  · have hk' : k < S.nr + 1 := hk
    show w'.1 6 (va_up gr S.nr q k) = some (.inl (rqF (va_up S.rq S.nr x k)))
    by_cases e : k = S.nr
    · subst e
      rw [va_up_self, va_up_self]
      exact hq
    · rw [va_up_ne _ _ e, va_up_ne _ _ e]
      exact fr.keepO ok b3 (g k (by omega)) (by decide) (by decide)
/-- the list of requests alone has changed -/
theorem isS.reRq (h : isS G w lo a Z gs gl gr S) (ok : wdOk G w) {n : Nat} {g' : Nat → Nat} {rq' : Nat → aRe} (hL : isL G w' (Z 2) (Z 5) n g') (fr : wFr (lP G (Z 2) (Z 5)) w w') (hq : ∀ k, k < n → w'.1 6 (g' k) = some (.inl (rqF (rq' k)))) : isS G w' lo a Z gs gl g' (S.wRq n rq') := by
  obtain ⟨⟨a1, a2⟩, ⟨b1, b2, b3⟩, ⟨c1, ⟨c2, c3, c4⟩, c5, c6, c7, c8, c9, c10⟩, ⟨d1, d2⟩, ⟨f1, f2⟩, g⟩ := h
  exact ⟨⟨fr.keepO ok b3 a1 (by decide) (by decide), a2⟩, ⟨isL.keep fr ok b3 b1 c3 c9.flip, isL.keep fr ok b3 b2 c4 c10.flip, hL⟩, ⟨c1, ⟨c2, c3, c4⟩, c5, c6, c7, c8, c9, c10⟩, ⟨fun i hi => ⟨fr.keepO ok b3 (d1 i hi).1 (by decide) (by decide), (d1 i hi).2⟩, d2⟩, ⟨fun i hi => ⟨fr.keepO ok b3 (f1 i hi).1 (by decide) (by decide), (f1 i hi).2⟩, f2⟩, hq⟩
theorem wFr.of {L arr : Nat} (h2 : w'.2 = w.2) (h : ∀ k a, ¬ (k = 10 ∧ a = L) → ¬ (k = 37 ∧ a = arr ∧ arr ≠ G.2.2.2.1 0) → w'.1 k a = w.1 k a) : wFr (lP G L arr) w w' :=
  ⟨⟨fun b hb hn k => h k b (fun e => hn (Or.inl e.2)) (fun e => hn (Or.inr e.2)), funext fun b => h 7 b (fun e => absurd e.1 (by decide)) (fun e => absurd e.1 (by decide))⟩, by rw [h2]; exact Nat.le_refl _⟩
end
