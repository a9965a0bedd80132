set_option maxRecDepth 100000
/-! THE OFFICE: the object o, its history's list hl, its input inp, its output's builder sb -/
/-- a state's object a: none of its lists is hl, none of its arrays harr -/
def isSo (G : wdG) (w : wdW) (hl harr a : Nat) (S : aS) : Prop := ∃ (lo : Nat) (Z gs gl gr : Nat → Nat), isS G w lo a Z gs gl gr S ∧ (Z 0 ≠ hl ∧ Z 1 ≠ hl ∧ Z 2 ≠ hl) ∧ (sDis G harr (Z 3) ∧ sDis G harr (Z 4) ∧ sDis G harr (Z 5))
/-- the builder's text: on signs oc -/
def isB (w : wdW) (sb sbarr on : Nat) (oc : Nat → Int32) : Prop := ∃ (ml : Int32) (cap : Nat) (f : Nat → Int32), w.1 12 sb = some (.inl [.ref sbarr, .int 0, .int ml, .int (nI on)]) ∧ w.1 34 sbarr = some (.inr (cap, .inl f)) ∧ on ≤ cap ∧ cap < 400 ∧ (∀ j, j < cap → fits .byte (.int (f j)) = true) ∧ ∀ i, i < on → f i = oc i
def isOx (G : wdG) (w : wdW) (o hl inp sb st harr : Nat) (hg : Nat → Nat) (sva : Option Nat) (sbarr : Nat) (I : Nat → Int32) (cur : aS) (hn : Nat) (hist : Nat → aS) (sv : Option aS) (ic : Nat → Int32) (on : Nat) (oc : Nat → Int32) : Prop :=
  w.1 0 o = some (.inl [.ref st, .ref hl, va_rf sva, .ref inp, .int (I 0), .int (I 1), .int (I 2), .int (I 3), .ref sb]) ∧
    isL G w hl harr hn hg ∧ isSo G w hl harr st cur ∧ (∀ i, i < hn → isSo G w hl harr (hg i) (hist i)) ∧ (match sva, sv with | none, none => True | some a, some S => isSo G w hl harr a S | _, _ => False) ∧
    w.1 33 inp = some (.inr (60, .inl ic)) ∧ isB w sb sbarr on oc
def isOf (G : wdG) (w : wdW) (o hl inp sb : Nat) (I : Nat → Int32) (cur : aS) (hn : Nat) (hist : Nat → aS) (sv : Option aS) (ic : Nat → Int32) (on : Nat) (oc : Nat → Int32) : Prop :=
  ∃ (st harr : Nat) (hg : Nat → Nat) (sva : Option Nat) (sbarr : Nat), isOx G w o hl inp sb st harr hg sva sbarr I cur hn hist sv ic on oc
/-- what the office's calls may touch: nothing of the kinds 2, 32, 35, 36, and of 33 inp alone -/
abbrev oK (inp k b : Nat) : Prop := k = 2 ∨ k = 32 ∨ k = 35 ∨ k = 36 ∨ (k = 33 ∧ b ≠ inp)
def oFr (inp : Nat) (w w' : wdW) : Prop := w.2 ≤ w'.2 ∧ ∀ k b p, w.1 k b = some p → oK inp k b → w'.1 k b = some p
theorem oK_no {inp k b : Nat} (h : k ≠ 2 ∧ k ≠ 32 ∧ k ≠ 35 ∧ k ≠ 36 ∧ k ≠ 33) : ¬ oK inp k b := by
  obtain ⟨h1, h2, h3, h4, h5⟩ := h
  rintro (e | e | e | e | ⟨e, -⟩)
  · exact h1 e
  · exact h2 e
  · exact h3 e
  · exact h4 e
  · exact h5 e
theorem oFr.refl (inp : Nat) (w : wdW) : oFr inp w w := ⟨Nat.le_refl _, fun _ _ _ h _ => h⟩
theorem oFr.trans {inp : Nat} {w w1 w2 : wdW} (h : oFr inp w w1) (h' : oFr inp w1 w2) : oFr inp w w2 := ⟨Nat.le_trans h.1 h'.1, fun k b p hb hk => h'.2 k b p (h.2 k b p hb hk) hk⟩
theorem oFr.of0 {G : wdG} {inp : Nat} {w w' : wdW} (ok : wdOk G w) (h : wFr nP w w') : oFr inp w w' := ⟨h.2, fun k b p hb _ => h.at ok hb (fun z => z)⟩
theorem oFr.hi {G : wdG} {inp : Nat} {w w' : wdW} (ok : wdOk G w) (h : wFr (hP w.2) w w') : oFr inp w w' := ⟨h.2, fun k b p hb _ => h.at ok hb (fun z => by have := (ok.1 _ _ _ hb).2; omega)⟩
theorem oFr.put {inp : Nat} {w w' : wdW} (h : oFr inp w w') {k a : Nat} {p : wdPay} (hk : ¬ oK inp k a) : oFr inp w (wPut w' k a p) := ⟨h.1, fun k' b q hb hk' => by
  rw [wPut_eq, if_neg (fun e => by obtain ⟨rfl, rfl⟩ := e; exact hk hk')]
  exact h.2 k' b q hb hk'⟩
/-- a list's change -/
theorem oFr.list {G : wdG} {inp : Nat} {w w' : wdW} {L arr n : Nat} {g : Nat → Nat} (ok : wdOk G w) (hL : isL G w L arr n g) (fr : wFr (lP G L arr) w w') : oFr inp w w' :=
  ⟨fr.2, fun k b p hb hk => fr.keepO ok hL hb (fun e => by subst e; rcases hk with e | e | e | e | ⟨e, -⟩ <;> cases e) (fun e => by subst e; rcases hk with e | e | e | e | ⟨e, -⟩ <;> cases e)⟩
section
variable {G : wdG} {w w' : wdW} {hl harr a : Nat} {S : aS}
theorem isSo.fr0 (h : isSo G w hl harr a S) (ok : wdOk G w) (fr : wFr nP w w') : isSo G w' hl harr a S := by
  obtain ⟨lo, Z, gs, gl, gr, h1, h2⟩ := h
  exact ⟨lo, Z, gs, gl, gr, h1.fr ok fr, h2⟩
/-- cells of the kinds of states stay: a state stays -/
theorem isS.keepK {lo : Nat} {Z gs gl gr : Nat → Nat} (h : isS G w lo a Z gs gl gr S) (e : ∀ k b p, w.1 k b = some p → (k = 1 ∨ k = 3 ∨ k = 4 ∨ k = 6 ∨ (k = 10 ∧ (b = Z 0 ∨ b = Z 1 ∨ b = Z 2)) ∨ (k = 37 ∧ (b = Z 3 ∨ b = Z 4 ∨ b = Z 5))) → w'.1 k b = some p) : isS G w' lo a Z gs gl gr S := by
  obtain ⟨⟨a1, a2⟩, ⟨b1, b2, b3⟩, c, ⟨d1, d2⟩, ⟨f1, f2⟩, g⟩ := h
  exact ⟨⟨e _ _ _ a1 (by simp), a2⟩, ⟨b1.to (fun p hp => e _ _ p hp (by simp)) (fun p hp => e _ _ p hp (by simp)), b2.to (fun p hp => e _ _ p hp (by simp)) (fun p hp => e _ _ p hp (by simp)), b3.to (fun p hp => e _ _ p hp (by simp)) (fun p hp => e _ _ p hp (by simp))⟩, c, ⟨fun i hi => ⟨e _ _ _ (d1 i hi).1 (by simp), (d1 i hi).2⟩, d2⟩, ⟨fun i hi => ⟨e _ _ _ (f1 i hi).1 (by simp), (f1 i hi).2⟩, f2⟩, fun k hk => e _ _ _ (g k hk) (by simp)⟩
theorem isSo.put {k b : Nat} {p : wdPay} (h : isSo G w hl harr a S) (hk : k ≠ 1 ∧ k ≠ 3 ∧ k ≠ 4 ∧ k ≠ 6 ∧ k ≠ 10 ∧ k ≠ 37) : isSo G (wPut w k b p) hl harr a S := by
  obtain ⟨lo, Z, gs, gl, gr, h1, h2⟩ := h
  refine ⟨lo, Z, gs, gl, gr, h1.keepK (fun k' b' q hb hk' => ?_), h2⟩
  rw [wPut_k]
  · exact hb
  · intro e
    subst e
    rcases hk' with e | e | e | e | ⟨e, -⟩ | ⟨e, -⟩
    · exact hk.1 e
    · exact hk.2.1 e
    · exact hk.2.2.1 e
    · exact hk.2.2.2.1 e
    · exact hk.2.2.2.2.1 e
    · exact hk.2.2.2.2.2 e
/-- the history's list changes: a state stays -/
theorem isSo.list {n : Nat} {g : Nat → Nat} {harr' : Nat} (h : isSo G w hl harr a S) (ok : wdOk G w) (hL : isL G w hl harr n g) (fr : wFr (lP G hl harr) w w') (hz : harr' = harr ∨ w.2 ≤ harr') (h0 : harr' = harr ∨ harr' ≠ G.2.2.2.1 0) : isSo G w' hl harr' a S := by
  obtain ⟨lo, Z, gs, gl, gr, h1, ⟨e1, e2, e3⟩, d1, d2, d3⟩ := h
  refine ⟨lo, Z, gs, gl, gr, ?_, ⟨e1, e2, e3⟩, ?_⟩
  · obtain ⟨⟨a1, a2⟩, ⟨b1, b2, b3⟩, c, ⟨x1, x2⟩, ⟨f1, f2⟩, y⟩ := h1
    exact ⟨⟨fr.keepO ok hL a1 (by decide) (by decide), a2⟩, ⟨isL.keep fr ok hL b1 e1 d1, isL.keep fr ok hL b2 e2 d2, isL.keep fr ok hL b3 e3 d3⟩, c, ⟨fun i hi => ⟨fr.keepO ok hL (x1 i hi).1 (by decide) (by decide), (x1 i hi).2⟩, x2⟩, ⟨fun i hi => ⟨fr.keepO ok hL (f1 i hi).1 (by decide) (by decide), (f1 i hi).2⟩, f2⟩, fun k hk => fr.keepO ok hL (y k hk) (by decide) (by decide)⟩
  · obtain ⟨-, ⟨b1, b2, b3⟩, -⟩ := h1
    rcases h0 with h0 | h0
    · rw [h0]; exact ⟨d1, d2, d3⟩
    · exact ⟨d1.new hz h0 (b1.arrLt ok), d2.new hz h0 (b2.arrLt ok), d3.new hz h0 (b3.arrLt ok)⟩
/-- a state made since w lies apart from w's lists -/
theorem isSo.made {u : wdW} {Z gs gl gr : Nat → Nat} {n : Nat} {g : Nat → Nat} (h : isS G u w.2 a Z gs gl gr S) (ok : wdOk G w) (hL : isL G w hl harr n g) : isSo G u hl harr a S := by
  obtain ⟨⟨mc, h1⟩, -, -⟩ := id hL
  have hh := (ok.1 _ _ _ h1).2
  have hz := hL.arrLt ok
  obtain ⟨-, -, ⟨⟨c1, c2, c3⟩, -, c5, c6, c7, -⟩, -⟩ := id h
  refine ⟨_, Z, gs, gl, gr, h, ⟨by omega, by omega, by omega⟩, ?_⟩
  have key : ∀ z, (z = G.2.2.2.1 0 ∨ w.2 ≤ z) → sDis G harr z := fun z hz' => by
    rcases hz with hz | hz
    · exact Or.inl hz
    · rcases hz' with e | e
      · by_cases q : harr = G.2.2.2.1 0
        · exact Or.inl q
        · exact Or.inr (fun e2 => q (e2.trans e))
      · exact Or.inr (by omega)
  exact ⟨key _ c5, key _ c6, key _ c7⟩
theorem isB.to {sb sbarr on : Nat} {oc : Nat → Int32} (h : isB w sb sbarr on oc) (h1 : ∀ p, w.1 12 sb = some p → w'.1 12 sb = some p) (h2 : ∀ p, w.1 34 sbarr = some p → w'.1 34 sbarr = some p) : isB w' sb sbarr on oc := by
  obtain ⟨ml, cap, f, a1, a2, a3⟩ := h
  exact ⟨ml, cap, f, h1 _ a1, h2 _ a2, a3⟩
section
variable {o inp sb st sbarr : Nat} {hg : Nat → Nat} {sva : Option Nat} {I : Nat → Int32} {cur : aS} {hn : Nat} {hist : Nat → aS} {sv : Option aS} {ic : Nat → Int32} {on : Nat} {oc : Nat → Int32}
/-- nothing of before has changed -/
theorem isOx.fr0 (h : isOx G w o hl inp sb st harr hg sva sbarr I cur hn hist sv ic on oc) (ok : wdOk G w) (fr : wFr nP w w') : isOx G w' o hl inp sb st harr hg sva sbarr I cur hn hist sv ic on oc := by
  obtain ⟨h1, h2, h3, h4, h5, h6, h7⟩ := h
  refine ⟨fr.at ok h1 (fun z => z), h2.fr ok fr, h3.fr0 ok fr, fun i hi => (h4 i hi).fr0 ok fr, ?_, fr.at ok h6 (fun z => z), h7.to (fun p hp => fr.at ok hp (fun z => z)) (fun p hp => fr.at ok hp (fun z => z))⟩
  cases sva <;> cases sv <;> first | exact h5 | exact isSo.fr0 h5 ok fr
/-- .. above w's bound only -/
theorem wFr.lo {P : Nat → Prop} (fr : wFr (hP w.2) w w') : wFr nP w w' := fr.mono (fun b hb (h : w.2 ≤ b) => by omega)
end
def tRec (hn : Nat) (hist : Nat → aS) (cur : aS) : Nat × (Nat → aS) := if hn = 8 then (8, va_up (fun j => hist (j + 1)) 7 cur) else (hn + 1, va_up hist hn cur)
section
variable {l : Launch} {o inp sb st sbarr : Nat} {hg : Nat → Nat} {sva : Option Nat} {I : Nat → Int32} {cur : aS} {hn : Nat} {hist : Nat → aS} {sv : Option aS} {ic : Nat → Int32} {on : Nat} {oc : Nat → Int32}
theorem isSo.o1 (h : isSo G w hl harr a S) : ∃ fs, w.1 1 a = some (.inl fs) := by
  obtain ⟨lo, Z, gs, gl, gr, h1, -⟩ := h
  exact ⟨_, h1.1.1⟩
theorem isOx.list (h : isOx G w o hl inp sb st harr hg sva sbarr I cur hn hist sv ic on oc) (ok : wdOk G w) (fr : wFr (lP G hl harr) w w') {harr' n' : Nat} {g' : Nat → Nat} {hist' : Nat → aS} (hz : harr' = harr ∨ w.2 ≤ harr') (h0 : harr' = harr ∨ harr' ≠ G.2.2.2.1 0) (hL : isL G w' hl harr' n' g') (hh : ∀ i, i < n' → isSo G w hl harr (g' i) (hist' i)) : isOx G w' o hl inp sb st harr' g' sva sbarr I cur n' hist' sv ic on oc := by
  obtain ⟨h1, h2, h3, h4, h5, h6, h7⟩ := h
  refine ⟨fr.keepO ok h2 h1 (by decide) (by decide), hL, h3.list ok h2 fr hz h0, fun i hi => (hh i hi).list ok h2 fr hz h0, ?_, fr.keepO ok h2 h6 (by decide) (by decide), h7.to (fun p hp => fr.keepO ok h2 hp (by decide) (by decide)) (fun p hp => fr.keepO ok h2 hp (by decide) (by decide))⟩
  cases sva <;> cases sv <;> first | exact h5 | exact isSo.list h5 ok h2 fr hz h0
/-- the office's object changes: its state, its saved state, its numbers -/
theorem isOx.putO (h : isOx G w o hl inp sb st harr hg sva sbarr I cur hn hist sv ic on oc) {st' : Nat} {S' : aS} {sva' : Option Nat} {sv' : Option aS} (I' : Nat → Int32) (h3 : isSo G w hl harr st' S') (h5 : match sva', sv' with | none, none => True | some a, some S => isSo G w hl harr a S | _, _ => False) : isOx G (wPut w 0 o (.inl [.ref st', .ref hl, va_rf sva', .ref inp, .int (I' 0), .int (I' 1), .int (I' 2), .int (I' 3), .ref sb])) o hl inp sb st' harr hg sva' sbarr I' S' hn hist sv' ic on oc := by
  obtain ⟨g1, g2, g3, g4, g5, g6, g7⟩ := h
  have kk : (0 : Nat) ≠ 1 ∧ (0 : Nat) ≠ 3 ∧ (0 : Nat) ≠ 4 ∧ (0 : Nat) ≠ 6 ∧ (0 : Nat) ≠ 10 ∧ (0 : Nat) ≠ 37 := by decide
  refine ⟨wPut_same _ _ _ _, g2.to (fun p hp => (wPut_k (by decide)).trans hp) (fun p hp => (wPut_k (by decide)).trans hp), h3.put kk, fun i hi => (g4 i hi).put kk, ?_, (wPut_k (by decide)).trans g6, g7.to (fun p hp => (wPut_k (by decide)).trans hp) (fun p hp => (wPut_k (by decide)).trans hp)⟩
  cases sva' <;> cases sv' <;> first | exact h5 | exact isSo.put h5 kk
theorem cO_recTail {u : wdW} {v : Int32} {st' : Nat} {S' : aS} (h : isOx G u o hl inp sb st harr hg sva sbarr I cur hn hist sv ic on oc) (h8 : hn < 8) (hS : isSo G u hl harr st' S') (fr : oFr inp w u) : WW (l, G, MX1_record, 5, 1, 10, (fun q w' => q = .inl (some (.int v)) ∧ isOf G w' o hl inp sb I S' (hn + 1) (va_up hist hn cur) sv ic on oc ∧ oFr inp w w')) 1 10 21 [(0, .ref o), (1, .ref st'), (2, .int v)] [] u := by
  have g := h
  obtain ⟨g1, g2, g3, g4, g5, g6, g7⟩ := h
  obtain ⟨mc0, hl0⟩ := g2.1
  obtain ⟨fs, hst⟩ := g3.o1
  refine WW.ok fun ok => ?_
  replace ok : wdOk G u := ok
  refine WW.run (pc' := 22) (lv' := [(0, .ref o), (1, .ref st'), (2, .int v)]) (st' := [.ref o]) 1 rfl ?_
  refine WW.get rfl fX1_19 g1 (show _ = some (.ref hl) from rfl) ?_
  refine WW.run (pc' := 26) (lv' := [(0, .ref o), (1, .ref st'), (2, .int v)]) (st' := [.ref o, .ref hl]) 1 rfl ?_
  refine WW.get rfl fX1_10 g1 (show _ = some (.ref st) from rfl) ?_
  refine WW.callV [.ref st] hl [] rfl mX1_67 (sL_add (x := st) ⟨1, _, _, hst, rfl, by decide, by decide, nq2205⟩ g2 (by omega)) (wdRecv.obj hl0 rfl) rfl rfl (wd_le rfl) (wd_le rfl) (wd_le rfl) (wd_le rfl) (fun o u1 hq => ?_)
  obtain ⟨arr', rfl, hz, hz0, hL, fr2⟩ := hq
  show WW _ _ _ 32 _ [.int 1] _
  have o1 := g.list ok fr2 hz (Or.inr hz0) (hist' := va_up hist hn cur) hL (fun i hi => by
    by_cases e : i = hn
    · subst e; rw [va_up_self, va_up_self]; exact g3
    · rw [va_up_ne _ _ e, va_up_ne _ _ e]; exact g4 i (by omega))
  have hS1 := hS.list ok g2 fr2 hz (Or.inr hz0)
  have frB := fr.trans (oFr.list (inp := inp) ok g2 fr2)
  have o2 := o1.putO I hS1 o1.2.2.2.2.1
  have p1 := o1.1
  refine WW.run (pc' := 35) (lv' := [(0, .ref o), (1, .ref st'), (2, .int v)]) (st' := [.ref st', .ref o]) 3 rfl ?_
  refine WW.put [.ref st', .ref hl, va_rf sva, .ref inp, .int (I 0), .int (I 1), .int (I 2), .int (I 3), .ref sb] rfl pfX1_10 p1 (wd_le rfl) rfl rfl rfl ?_
  have h3 : (wPut u1 0 o (.inl [.ref st', .ref hl, va_rf sva, .ref inp, .int (I 0), .int (I 1), .int (I 2), .int (I 3), .ref sb])).1 0 o = some (.inl [.ref st', .ref hl, va_rf sva, .ref inp, .int (I 0), .int (I 1), .int (I 2), .int (I 3), .ref sb]) := wPut_same _ _ _ _
  refine WW.run (pc' := 39) (lv' := [(0, .ref o), (1, .ref st'), (2, .int v)]) (st' := [.int v]) 1 rfl ?_
  exact WW.iret rfl rfl rfl ⟨rfl, ⟨_, _, _, _, _, o2⟩, frB.put (oK_no (by decide))⟩
theorem cO_record {st' : Nat} {S' : aS} (h : isOx G w o hl inp sb st harr hg sva sbarr I cur hn hist sv ic on oc) (h8 : hn ≤ 8) (hS : isSo G w hl harr st' S') (v : Int32) : Sp l G MX1_record 5 1 10 [.ref o, .ref st', .int v] w (fun q w' => q = .inl (some (.int v)) ∧ isOf G w' o hl inp sb I S' (tRec hn hist cur).1 (tRec hn hist cur).2 sv ic on oc ∧ oFr inp w w') := by
  have g := h
  obtain ⟨g1, g2, g3, g4, g5, g6, g7⟩ := h
  obtain ⟨mc0, hl0⟩ := g2.1
  obtain ⟨tr, htr⟩ : ∃ t, t = tRec hn hist cur := ⟨_, rfl⟩
  rw [← htr]
  unfold tRec at htr
  refine Sp.of rfl (by decide +kernel) kX1_record (wd_le rfl) ?_
  refine WW.ok fun ok => ?_
  replace ok : wdOk G w := ok
  refine WW.run (pc' := 1) (lv' := [(0, .ref o), (1, .ref st'), (2, .int v)]) (st' := [.ref o]) 1 rfl ?_
  refine WW.get rfl fX1_19 g1 (show _ = some (.ref hl) from rfl) ?_
  refine WW.callV [] hl [] rfl mX1_59 (sL_size g2) (wdRecv.obj hl0 rfl) rfl rfl (wd_le rfl) (wd_le rfl) (wd_le rfl) (wd_le rfl) (fun o w' hq => ?_)
  obtain ⟨rfl, hw9⟩ := hq
  show WW _ _ _ 7 _ [.int (nI hn)] _
  rw [hw9]
  clear hw9 w'
  refine WW.run (pc' := 9) (lv' := [(0, .ref o), (1, .ref st'), (2, .int v)]) (st' := [.int (nI 8), .int (nI hn)]) 1 rfl ?_
  by_cases e : hn = 8
  · skip
    rw [if_pos e] at htr
    subst htr
    subst e
    refine WW.icmp_ne (tgt := 21) rfl rfl (fun hno => absurd rfl hno) (fun _ => ?_)
    refine WW.run (pc' := 13) (lv' := [(0, .ref o), (1, .ref st'), (2, .int v)]) (st' := [.ref o]) 1 rfl ?_
    refine WW.get rfl fX1_19 g1 (show _ = some (.ref hl) from rfl) ?_
    refine WW.run (pc' := 17) (lv' := [(0, .ref o), (1, .ref st'), (2, .int v)]) (st' := [.int (nI 0), .ref hl]) 1 rfl ?_
    refine WW.callV [.int (nI 0)] hl [] rfl mX1_63 (sL_remove (ci := 1) (i := 0) rfl nq2205 (by decide) (fun j hj => (g4 j hj).o1) g2 (by decide)) (wdRecv.obj hl0 rfl) rfl rfl (wd_le rfl) (wd_le rfl) (wd_le rfl) (wd_le rfl) (fun o u hq => ?_)
    obtain ⟨rfl, hL, h2, h3⟩ := hq
    show WW _ _ _ 20 _ [.ref (hg 0)] _
    have fr2 := wFr.of h2 h3
    have o1 := g.list ok fr2 (Or.inl rfl) (Or.inl rfl) (hist' := fun j => hist (j + 1)) hL (fun i hi => by
      have hi' : i < 7 := hi
      show isSo G w hl harr (if i < 0 then hg i else hg (i + 1)) (hist (i + 1))
      rw [if_neg (Nat.not_lt_zero i)]
      exact g4 (i + 1) (by omega))
    refine WW.run (pc' := 21) (lv' := [(0, .ref o), (1, .ref st'), (2, .int v)]) (st' := []) 1 rfl ?_
    exact cO_recTail o1 (by decide) (hS.list ok g2 fr2 (Or.inl rfl) (Or.inl rfl)) (oFr.list ok g2 fr2)
  · skip
    rw [if_neg e] at htr
    subst htr
    refine WW.icmp_ne (tgt := 21) rfl rfl (fun _ => ?_) (fun hno => absurd hno (by rw [nI_eq (by omega) (by decide)]; exact e))
    exact cO_recTail g (by omega) hS (oFr.refl _ _)
/-- a command of the office's: it throws, or answers, and its new state is recorded -/
def oQ (G : wdG) (o hl inp sb : Nat) (I : Nat → Int32) (cur : aS) (hn : Nat) (hist : Nat → aS) (sv : Option aS) (ic : Nat → Int32) (on : Nat) (oc : Nat → Int32) (es : List Nat) (r : aR) (w : wdW) : wdO → wdW → Prop := fun q w' => oFr inp w w' ∧ match r with
  | .inl p => ∃ ci x, es[p - 1]? = some ci ∧ q = .inr (eN ci, x) ∧ w'.1 ci x = some (.inl []) ∧ isOf G w' o hl inp sb I cur hn hist sv ic on oc
  | .inr z => q = .inl (some (.int z.1)) ∧ isOf G w' o hl inp sb I z.2 (tRec hn hist cur).1 (tRec hn hist cur).2 sv ic on oc
theorem cO_addShip (h : isOf G w o hl inp sb I cur hn hist sv ic on oc) (hWf : aWf cur) (h8 : hn ≤ 8) : Sp l G MX1_addShip 9 (60 + 3 + 1) (340 + 20 + 10) [.ref o] w (oQ G o hl inp sb I cur hn hist sv ic on oc [15] (cur.doShip) w) := by
  obtain ⟨st, harr, hg, sva, sbarr, h⟩ := h
  have g := h
  obtain ⟨g1, g2, ⟨lo, Z, gs, gl, gr, g3, -⟩, g4, g5, g6, g7⟩ := h
  have hst := g3.1.1
  refine Sp.of rfl (by decide +kernel) kX1_addShip (wd_le rfl) ?_
  refine WW.ok fun ok => ?_
  replace ok : wdOk G w := ok
  refine WW.run (pc' := 1) (lv' := [(0, .ref o)]) (st' := [.ref o]) 1 rfl ?_
  refine WW.get rfl fX1_10 g1 (show _ = some (.ref st) from rfl) ?_
  refine WW.callV [] st [] rfl mX1_71 (cS_copy g3 hWf) (wdRecv.obj hst rfl) rfl rfl (wd_le rfl) (wd_le rfl) (wd_le rfl) (wd_le rfl) (fun o w1 hq => ?_)
  obtain ⟨a, ha, rfl, ⟨Z2, gs2, gl2, gr2, hC⟩, fr1⟩ := hq
  show WW _ _ _ 7 _ [.ref a] _
  have g' := g.fr0 ok fr1
  refine WW.run (pc' := 11) (lv' := [(1, .ref a), (0, .ref o)]) (st' := [.ref a, .ref a, .ref o]) 4 rfl ?_
  have ok0 := ok
  refine WW.ok fun ok => ?_
  replace ok : wdOk G w1 := ok
  have hC2 : isS G w1 w.2 a Z2 gs2 gl2 gr2 cur := hC
  obtain ⟨r, hr⟩ : ∃ r, r = cur.doShip := ⟨_, rfl⟩
  rw [← hr]
  refine WW.callV [] a [.ref a, .ref o] rfl mX1_75 (cS_addShip hC2 hWf fr1.2) (wdRecv.obj hC.1.1 rfl) rfl rfl (wd_le rfl) (wd_le rfl) (wd_le rfl) (wd_le rfl) (fun o w2 hq => ?_)
  rw [← hr] at hq
  cases r with
  | inl p =>
    obtain ⟨ci, hci, x9, e1, rfl, fr2, e3⟩ := hq
    have frT : wFr nP w w2 := fr1.thn fr2 (fun b hb (e : w.2 ≤ b) => by omega)
    show WX _ _ _ 11 _ [.ref a, .ref o] _ _ _
    exact WX.out (fun _ h => nomatch h) ⟨oFr.of0 ok0 frT, ci, x9, hci, rfl, e3, _, _, _, _, _, g.fr0 ok0 frT⟩
  | inr z =>
    obtain ⟨rfl, ⟨Z3, gs3, gl3, gr3, hC3⟩, fr2⟩ := hq
    have frT : wFr nP w w2 := fr1.thn fr2 (fun b hb (e : w.2 ≤ b) => by omega)
    have g'' := g.fr0 ok0 frT
    show WW _ _ _ 14 _ [.int z.1, .ref a, .ref o] _
    refine WW.callV [.ref a, .int z.1] o [] rfl mX1_78 (cO_record g'' h8 (isSo.made hC3 ok0 g2) z.1) (wdRecv.obj g''.1 rfl) rfl rfl (wd_le rfl) (wd_le rfl) (wd_le rfl) (wd_le rfl) (fun o w3 hq => ?_)
    obtain ⟨rfl, e1, e2⟩ := hq
    show WW _ _ _ 17 _ [.int z.1] _
    exact WW.iret rfl rfl rfl ⟨(oFr.of0 ok0 frT).trans e2, rfl, e1⟩
theorem cO_addLamp (h : isOf G w o hl inp sb I cur hn hist sv ic on oc) (hWf : aWf cur) (h8 : hn ≤ 8) (x : Int32) : Sp l G MX1_addLamp 9 (60 + 4 + 1) (340 + 30 + 10) [.ref o, .int x] w (oQ G o hl inp sb I cur hn hist sv ic on oc [14, 15] (cur.doLamp x) w) := by
  obtain ⟨st, harr, hg, sva, sbarr, h⟩ := h
  have g := h
  obtain ⟨g1, g2, ⟨lo, Z, gs, gl, gr, g3, -⟩, g4, g5, g6, g7⟩ := h
  have hst := g3.1.1
  refine Sp.of rfl (by decide +kernel) kX1_addLamp (wd_le rfl) ?_
  refine WW.ok fun ok => ?_
  replace ok : wdOk G w := ok
  refine WW.run (pc' := 1) (lv' := [(0, .ref o), (1, .int x)]) (st' := [.ref o]) 1 rfl ?_
  refine WW.get rfl fX1_10 g1 (show _ = some (.ref st) from rfl) ?_
  refine WW.callV [] st [] rfl mX1_71 (cS_copy g3 hWf) (wdRecv.obj hst rfl) rfl rfl (wd_le rfl) (wd_le rfl) (wd_le rfl) (wd_le rfl) (fun o w1 hq => ?_)
  obtain ⟨a, ha, rfl, ⟨Z2, gs2, gl2, gr2, hC⟩, fr1⟩ := hq
  show WW _ _ _ 7 _ [.ref a] _
  have g' := g.fr0 ok fr1
  refine WW.run (pc' := 12) (lv' := [(2, .ref a), (0, .ref o), (1, .int x)]) (st' := [.int x, .ref a, .ref a, .ref o]) 5 rfl ?_
  have ok0 := ok
  refine WW.ok fun ok => ?_
  replace ok : wdOk G w1 := ok
  have hC2 : isS G w1 w.2 a Z2 gs2 gl2 gr2 cur := hC
  obtain ⟨r, hr⟩ : ∃ r, r = cur.doLamp x := ⟨_, rfl⟩
  rw [← hr]
  refine WW.callV [.int x] a [.ref a, .ref o] rfl mX1_82 (cS_addLamp hC2 hWf fr1.2 x) (wdRecv.obj hC.1.1 rfl) rfl rfl (wd_le rfl) (wd_le rfl) (wd_le rfl) (wd_le rfl) (fun o w2 hq => ?_)
  rw [← hr] at hq
  cases r with
  | inl p =>
    obtain ⟨ci, hci, x9, e1, rfl, fr2, e3⟩ := hq
    have frT : wFr nP w w2 := fr1.thn fr2 (fun b hb (e : w.2 ≤ b) => by omega)
    show WX _ _ _ 12 _ [.ref a, .ref o] _ _ _
    exact WX.out (fun _ h => nomatch h) ⟨oFr.of0 ok0 frT, ci, x9, hci, rfl, e3, _, _, _, _, _, g.fr0 ok0 frT⟩
  | inr z =>
    obtain ⟨rfl, ⟨Z3, gs3, gl3, gr3, hC3⟩, fr2⟩ := hq
    have frT : wFr nP w w2 := fr1.thn fr2 (fun b hb (e : w.2 ≤ b) => by omega)
    have g'' := g.fr0 ok0 frT
    show WW _ _ _ 15 _ [.int z.1, .ref a, .ref o] _
    refine WW.callV [.ref a, .int z.1] o [] rfl mX1_78 (cO_record g'' h8 (isSo.made hC3 ok0 g2) z.1) (wdRecv.obj g''.1 rfl) rfl rfl (wd_le rfl) (wd_le rfl) (wd_le rfl) (wd_le rfl) (fun o w3 hq => ?_)
    obtain ⟨rfl, e1, e2⟩ := hq
    show WW _ _ _ 18 _ [.int z.1] _
    exact WW.iret rfl rfl rfl ⟨(oFr.of0 ok0 frT).trans e2, rfl, e1⟩
theorem cO_addOil (h : isOf G w o hl inp sb I cur hn hist sv ic on oc) (hWf : aWf cur) (h8 : hn ≤ 8) (x : Int32) : Sp l G MX1_addOil 9 (60 + 2 + 1) (340 + 20 + 10) [.ref o, .int x] w (oQ G o hl inp sb I cur hn hist sv ic on oc [14, 15] (cur.doOil x) w) := by
  obtain ⟨st, harr, hg, sva, sbarr, h⟩ := h
  have g := h
  obtain ⟨g1, g2, ⟨lo, Z, gs, gl, gr, g3, -⟩, g4, g5, g6, g7⟩ := h
  have hst := g3.1.1
  refine Sp.of rfl (by decide +kernel) kX1_addOil (wd_le rfl) ?_
  refine WW.ok fun ok => ?_
  replace ok : wdOk G w := ok
  refine WW.run (pc' := 1) (lv' := [(0, .ref o), (1, .int x)]) (st' := [.ref o]) 1 rfl ?_
  refine WW.get rfl fX1_10 g1 (show _ = some (.ref st) from rfl) ?_
  refine WW.callV [] st [] rfl mX1_71 (cS_copy g3 hWf) (wdRecv.obj hst rfl) rfl rfl (wd_le rfl) (wd_le rfl) (wd_le rfl) (wd_le rfl) (fun o w1 hq => ?_)
  obtain ⟨a, ha, rfl, ⟨Z2, gs2, gl2, gr2, hC⟩, fr1⟩ := hq
  show WW _ _ _ 7 _ [.ref a] _
  have g' := g.fr0 ok fr1
  refine WW.run (pc' := 12) (lv' := [(2, .ref a), (0, .ref o), (1, .int x)]) (st' := [.int x, .ref a, .ref a, .ref o]) 5 rfl ?_
  have ok0 := ok
  refine WW.ok fun ok => ?_
  replace ok : wdOk G w1 := ok
  have hC2 : isS G w1 w.2 a Z2 gs2 gl2 gr2 cur := hC
  obtain ⟨r, hr⟩ : ∃ r, r = cur.doOil x := ⟨_, rfl⟩
  rw [← hr]
  refine WW.callV [.int x] a [.ref a, .ref o] rfl mX1_86 (cS_addOil hC2 fr1.2 x) (wdRecv.obj hC.1.1 rfl) rfl rfl (wd_le rfl) (wd_le rfl) (wd_le rfl) (wd_le rfl) (fun o w2 hq => ?_)
  rw [← hr] at hq
  cases r with
  | inl p =>
    obtain ⟨ci, hci, x9, e1, rfl, fr2, e3⟩ := hq
    have frT : wFr nP w w2 := fr1.thn fr2 (fun b hb (e : w.2 ≤ b) => by omega)
    show WX _ _ _ 12 _ [.ref a, .ref o] _ _ _
    exact WX.out (fun _ h => nomatch h) ⟨oFr.of0 ok0 frT, ci, x9, hci, rfl, e3, _, _, _, _, _, g.fr0 ok0 frT⟩
  | inr z =>
    obtain ⟨rfl, ⟨Z3, gs3, gl3, gr3, hC3⟩, fr2⟩ := hq
    have frT : wFr nP w w2 := fr1.thn fr2 (fun b hb (e : w.2 ≤ b) => by omega)
    have g'' := g.fr0 ok0 frT
    show WW _ _ _ 15 _ [.int z.1, .ref a, .ref o] _
    refine WW.callV [.ref a, .int z.1] o [] rfl mX1_78 (cO_record g'' h8 (isSo.made hC3 ok0 g2) z.1) (wdRecv.obj g''.1 rfl) rfl rfl (wd_le rfl) (wd_le rfl) (wd_le rfl) (wd_le rfl) (fun o w3 hq => ?_)
    obtain ⟨rfl, e1, e2⟩ := hq
    show WW _ _ _ 18 _ [.int z.1] _
    exact WW.iret rfl rfl rfl ⟨(oFr.of0 ok0 frT).trans e2, rfl, e1⟩
theorem cO_lease (h : isOf G w o hl inp sb I cur hn hist sv ic on oc) (hWf : aWf cur) (h8 : hn ≤ 8) (x : Int32) (y : Int32) (z : Int32) : Sp l G MX1_lease 10 (60 + 6 + 1) (340 + 40 + 10) [.ref o, .int x, .int y, .int z] w (oQ G o hl inp sb I cur hn hist sv ic on oc [13, 14, 15, 17] (cur.doLease x y z) w) := by
  obtain ⟨st, harr, hg, sva, sbarr, h⟩ := h
  have g := h
  obtain ⟨g1, g2, ⟨lo, Z, gs, gl, gr, g3, -⟩, g4, g5, g6, g7⟩ := h
  have hst := g3.1.1
  refine Sp.of rfl (by decide +kernel) kX1_lease (wd_le rfl) ?_
  refine WW.ok fun ok => ?_
  replace ok : wdOk G w := ok
  refine WW.run (pc' := 1) (lv' := [(0, .ref o), (1, .int x), (2, .int y), (3, .int z)]) (st' := [.ref o]) 1 rfl ?_
  refine WW.get rfl fX1_10 g1 (show _ = some (.ref st) from rfl) ?_
  refine WW.callV [] st [] rfl mX1_71 (cS_copy g3 hWf) (wdRecv.obj hst rfl) rfl rfl (wd_le rfl) (wd_le rfl) (wd_le rfl) (wd_le rfl) (fun o w1 hq => ?_)
  obtain ⟨a, ha, rfl, ⟨Z2, gs2, gl2, gr2, hC⟩, fr1⟩ := hq
  show WW _ _ _ 7 _ [.ref a] _
  have g' := g.fr0 ok fr1
  refine WW.run (pc' := 17) (lv' := [(4, .ref a), (0, .ref o), (1, .int x), (2, .int y), (3, .int z)]) (st' := [.int z, .int y, .int x, .ref a, .ref a, .ref o]) 7 rfl ?_
  have ok0 := ok
  refine WW.ok fun ok => ?_
  replace ok : wdOk G w1 := ok
  have hC2 : isS G w1 w.2 a Z2 gs2 gl2 gr2 cur := hC
  obtain ⟨r, hr⟩ : ∃ r, r = cur.doLease x y z := ⟨_, rfl⟩
  rw [← hr]
  refine WW.callVH [.int x, .int y, .int z] a [.ref a, .ref o] rfl mX1_89 (cS_lease hC2 hWf x y z) (wdRecv.obj hC.1.1 rfl) rfl rfl (wd_le rfl) (wd_le rfl) (wd_le rfl) (wd_le rfl) (fun o w2 hq => ?_)
  rw [← hr] at hq
  cases r with
  | inl p =>
    obtain ⟨ci, hci, x9, e1, rfl, fr2, e3⟩ := hq
    have frT : wFr nP w w2 := fr1.thn fr2 (fun b hb (e : w.2 ≤ b) => by omega)
    show WX _ _ _ 17 _ [.ref a, .ref o] _ _ _
    exact WX.out (fun _ h => nomatch h) ⟨oFr.of0 ok0 frT, ci, x9, hci, rfl, e3, _, _, _, _, _, g.fr0 ok0 frT⟩
  | inr z =>
    obtain ⟨rfl, ⟨Z3, gs3, gl3, gr3, hC3⟩, fr2⟩ := hq
    have frT : wFr nP w w2 := fr1.thn fr2 (fun b hb (e : w.2 ≤ b) => by omega)
    have g'' := g.fr0 ok0 frT
    show WW _ _ _ 20 _ [.int z.1, .ref a, .ref o] _
    refine WW.callV [.ref a, .int z.1] o [] rfl mX1_78 (cO_record g'' h8 (isSo.made hC3 ok0 g2) z.1) (wdRecv.obj g''.1 rfl) rfl rfl (wd_le rfl) (wd_le rfl) (wd_le rfl) (wd_le rfl) (fun o w3 hq => ?_)
    obtain ⟨rfl, e1, e2⟩ := hq
    show WW _ _ _ 23 _ [.int z.1] _
    exact WW.iret rfl rfl rfl ⟨(oFr.of0 ok0 frT).trans e2, rfl, e1⟩
theorem cO_requestRenewal (h : isOf G w o hl inp sb I cur hn hist sv ic on oc) (hWf : aWf cur) (h8 : hn ≤ 8) (x : Int32) (y : Int32) : Sp l G MX1_requestRenewal 11 (60 + 8 + 1) (340 + 60 + 10) [.ref o, .int x, .int y] w (oQ G o hl inp sb I cur hn hist sv ic on oc [13, 14, 16, 15] (cur.doReq x y) w) := by
  obtain ⟨st, harr, hg, sva, sbarr, h⟩ := h
  have g := h
  obtain ⟨g1, g2, ⟨lo, Z, gs, gl, gr, g3, -⟩, g4, g5, g6, g7⟩ := h
  have hst := g3.1.1
  refine Sp.of rfl (by decide +kernel) kX1_requestRenewal (wd_le rfl) ?_
  refine WW.ok fun ok => ?_
  replace ok : wdOk G w := ok
  refine WW.run (pc' := 1) (lv' := [(0, .ref o), (1, .int x), (2, .int y)]) (st' := [.ref o]) 1 rfl ?_
  refine WW.get rfl fX1_10 g1 (show _ = some (.ref st) from rfl) ?_
  refine WW.callV [] st [] rfl mX1_71 (cS_copy g3 hWf) (wdRecv.obj hst rfl) rfl rfl (wd_le rfl) (wd_le rfl) (wd_le rfl) (wd_le rfl) (fun o w1 hq => ?_)
  obtain ⟨a, ha, rfl, ⟨Z2, gs2, gl2, gr2, hC⟩, fr1⟩ := hq
  show WW _ _ _ 7 _ [.ref a] _
  have g' := g.fr0 ok fr1
  refine WW.run (pc' := 13) (lv' := [(3, .ref a), (0, .ref o), (1, .int x), (2, .int y)]) (st' := [.int y, .int x, .ref a, .ref a, .ref o]) 6 rfl ?_
  have ok0 := ok
  refine WW.ok fun ok => ?_
  replace ok : wdOk G w1 := ok
  have hC2 : isS G w1 w.2 a Z2 gs2 gl2 gr2 cur := hC
  obtain ⟨r, hr⟩ : ∃ r, r = cur.doReq x y := ⟨_, rfl⟩
  rw [← hr]
  refine WW.callV [.int x, .int y] a [.ref a, .ref o] rfl mX1_93 (cS_request hC2 hWf fr1.2 x y) (wdRecv.obj hC.1.1 rfl) rfl rfl (wd_le rfl) (wd_le rfl) (wd_le rfl) (wd_le rfl) (fun o w2 hq => ?_)
  rw [← hr] at hq
  cases r with
  | inl p =>
    obtain ⟨ci, hci, x9, e1, rfl, fr2, e3⟩ := hq
    have frT : wFr nP w w2 := fr1.thn fr2 (fun b hb (e : w.2 ≤ b) => by omega)
    show WX _ _ _ 13 _ [.ref a, .ref o] _ _ _
    exact WX.out (fun _ h => nomatch h) ⟨oFr.of0 ok0 frT, ci, x9, hci, rfl, e3, _, _, _, _, _, g.fr0 ok0 frT⟩
  | inr z =>
    obtain ⟨rfl, ⟨Z3, gs3, gl3, gr3, hC3⟩, fr2⟩ := hq
    have frT : wFr nP w w2 := fr1.thn fr2 (fun b hb (e : w.2 ≤ b) => by omega)
    have g'' := g.fr0 ok0 frT
    show WW _ _ _ 16 _ [.int z.1, .ref a, .ref o] _
    refine WW.callV [.ref a, .int z.1] o [] rfl mX1_78 (cO_record g'' h8 (isSo.made hC3 ok0 g2) z.1) (wdRecv.obj g''.1 rfl) rfl rfl (wd_le rfl) (wd_le rfl) (wd_le rfl) (wd_le rfl) (fun o w3 hq => ?_)
    obtain ⟨rfl, e1, e2⟩ := hq
    show WW _ _ _ 19 _ [.int z.1] _
    exact WW.iret rfl rfl rfl ⟨(oFr.of0 ok0 frT).trans e2, rfl, e1⟩
theorem cO_giveUp (h : isOf G w o hl inp sb I cur hn hist sv ic on oc) (hWf : aWf cur) (h8 : hn ≤ 8) (x : Int32) : Sp l G MX1_giveUp 11 (60 + 2 + 1) (340 + 12 + 10) [.ref o, .int x] w (oQ G o hl inp sb I cur hn hist sv ic on oc [13, 16] (cur.doDrop x) w) := by
  obtain ⟨st, harr, hg, sva, sbarr, h⟩ := h
  have g := h
  obtain ⟨g1, g2, ⟨lo, Z, gs, gl, gr, g3, -⟩, g4, g5, g6, g7⟩ := h
  have hst := g3.1.1
  refine Sp.of rfl (by decide +kernel) kX1_giveUp (wd_le rfl) ?_
  refine WW.ok fun ok => ?_
  replace ok : wdOk G w := ok
  refine WW.run (pc' := 1) (lv' := [(0, .ref o), (1, .int x)]) (st' := [.ref o]) 1 rfl ?_
  refine WW.get rfl fX1_10 g1 (show _ = some (.ref st) from rfl) ?_
  refine WW.callV [] st [] rfl mX1_71 (cS_copy g3 hWf) (wdRecv.obj hst rfl) rfl rfl (wd_le rfl) (wd_le rfl) (wd_le rfl) (wd_le rfl) (fun o w1 hq => ?_)
  obtain ⟨a, ha, rfl, ⟨Z2, gs2, gl2, gr2, hC⟩, fr1⟩ := hq
  show WW _ _ _ 7 _ [.ref a] _
  have g' := g.fr0 ok fr1
  refine WW.run (pc' := 12) (lv' := [(2, .ref a), (0, .ref o), (1, .int x)]) (st' := [.int x, .ref a, .ref a, .ref o]) 5 rfl ?_
  have ok0 := ok
  refine WW.ok fun ok => ?_
  replace ok : wdOk G w1 := ok
  have hC2 : isS G w1 w.2 a Z2 gs2 gl2 gr2 cur := hC
  obtain ⟨r, hr⟩ : ∃ r, r = cur.doDrop x := ⟨_, rfl⟩
  rw [← hr]
  refine WW.callV [.int x] a [.ref a, .ref o] rfl mX1_97 (cS_giveUp hC2 hWf x) (wdRecv.obj hC.1.1 rfl) rfl rfl (wd_le rfl) (wd_le rfl) (wd_le rfl) (wd_le rfl) (fun o w2 hq => ?_)
  rw [← hr] at hq
  cases r with
  | inl p =>
    obtain ⟨ci, hci, x9, e1, rfl, fr2, e3⟩ := hq
    have frT : wFr nP w w2 := fr1.thn fr2 (fun b hb (e : w.2 ≤ b) => by omega)
    show WX _ _ _ 12 _ [.ref a, .ref o] _ _ _
    exact WX.out (fun _ h => nomatch h) ⟨oFr.of0 ok0 frT, ci, x9, hci, rfl, e3, _, _, _, _, _, g.fr0 ok0 frT⟩
  | inr z =>
    obtain ⟨rfl, ⟨Z3, gs3, gl3, gr3, hC3⟩, fr2⟩ := hq
    have frT : wFr nP w w2 := fr1.thn fr2 (fun b hb (e : w.2 ≤ b) => by omega)
    have g'' := g.fr0 ok0 frT
    show WW _ _ _ 15 _ [.int z.1, .ref a, .ref o] _
    refine WW.callV [.ref a, .int z.1] o [] rfl mX1_78 (cO_record g'' h8 (isSo.made hC3 ok0 g2) z.1) (wdRecv.obj g''.1 rfl) rfl rfl (wd_le rfl) (wd_le rfl) (wd_le rfl) (wd_le rfl) (fun o w3 hq => ?_)
    obtain ⟨rfl, e1, e2⟩ := hq
    show WW _ _ _ 18 _ [.int z.1] _
    exact WW.iret rfl rfl rfl ⟨(oFr.of0 ok0 frT).trans e2, rfl, e1⟩
theorem cO_passHours (h : isOf G w o hl inp sb I cur hn hist sv ic on oc) (hWf : aWf cur) (h8 : hn ≤ 8) (x : Int32) : Sp l G MX1_passHours 10 (60 + 1057 + 1) (340 + 4998 + 10) [.ref o, .int x] w (oQ G o hl inp sb I cur hn hist sv ic on oc [14] (cur.doWait x) w) := by
  obtain ⟨st, harr, hg, sva, sbarr, h⟩ := h
  have g := h
  obtain ⟨g1, g2, ⟨lo, Z, gs, gl, gr, g3, -⟩, g4, g5, g6, g7⟩ := h
  have hst := g3.1.1
  refine Sp.of rfl (by decide +kernel) kX1_passHours (wd_le rfl) ?_
  refine WW.ok fun ok => ?_
  replace ok : wdOk G w := ok
  refine WW.run (pc' := 1) (lv' := [(0, .ref o), (1, .int x)]) (st' := [.ref o]) 1 rfl ?_
  refine WW.get rfl fX1_10 g1 (show _ = some (.ref st) from rfl) ?_
  refine WW.callV [] st [] rfl mX1_71 (cS_copy g3 hWf) (wdRecv.obj hst rfl) rfl rfl (wd_le rfl) (wd_le rfl) (wd_le rfl) (wd_le rfl) (fun o w1 hq => ?_)
  obtain ⟨a, ha, rfl, ⟨Z2, gs2, gl2, gr2, hC⟩, fr1⟩ := hq
  show WW _ _ _ 7 _ [.ref a] _
  have g' := g.fr0 ok fr1
  refine WW.run (pc' := 12) (lv' := [(2, .ref a), (0, .ref o), (1, .int x)]) (st' := [.int x, .ref a, .ref a, .ref o]) 5 rfl ?_
  have ok0 := ok
  refine WW.ok fun ok => ?_
  replace ok : wdOk G w1 := ok
  have hC2 : isS G w1 w.2 a Z2 gs2 gl2 gr2 cur := hC
  obtain ⟨r, hr⟩ : ∃ r, r = cur.doWait x := ⟨_, rfl⟩
  rw [← hr]
  refine WW.callV [.int x] a [.ref a, .ref o] rfl mX1_100 (cS_passHours hC2 hWf x) (wdRecv.obj hC.1.1 rfl) rfl rfl (wd_le rfl) (wd_le rfl) (wd_le rfl) (wd_le rfl) (fun o w2 hq => ?_)
  rw [← hr] at hq
  cases r with
  | inl p =>
    obtain ⟨ci, hci, x9, e1, rfl, fr2, e3⟩ := hq
    have frT : wFr nP w w2 := fr1.thn fr2 (fun b hb (e : w.2 ≤ b) => by omega)
    show WX _ _ _ 12 _ [.ref a, .ref o] _ _ _
    exact WX.out (fun _ h => nomatch h) ⟨oFr.of0 ok0 frT, ci, x9, hci, rfl, e3, _, _, _, _, _, g.fr0 ok0 frT⟩
  | inr z =>
    obtain ⟨rfl, ⟨Z3, gs3, gl3, gr3, hC3⟩, fr2⟩ := hq
    have frT : wFr nP w w2 := fr1.thn fr2 (fun b hb (e : w.2 ≤ b) => by omega)
    have g'' := g.fr0 ok0 frT
    show WW _ _ _ 15 _ [.int z.1, .ref a, .ref o] _
    refine WW.callV [.ref a, .int z.1] o [] rfl mX1_78 (cO_record g'' h8 (isSo.made hC3 ok0 g2) z.1) (wdRecv.obj g''.1 rfl) rfl rfl (wd_le rfl) (wd_le rfl) (wd_le rfl) (wd_le rfl) (fun o w3 hq => ?_)
    obtain ⟨rfl, e1, e2⟩ := hq
    show WW _ _ _ 18 _ [.int z.1] _
    exact WW.iret rfl rfl rfl ⟨(oFr.of0 ok0 frT).trans e2, rfl, e1⟩
end
end
