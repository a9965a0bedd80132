set_option maxRecDepth 100000
/-! THE LAW'S STATIC METHODS -/
def lV (v : Value) : Int64 := match v with
  | .int x => x.toInt64
  | _ => 0
def rOk (N : Nat) (r : Nat ⊕ Value) : Prop := match r with
  | .inl p => 1 ≤ p ∧ p ≤ N
  | .inr v => ∃ y, v = .int y
def rD (r : Nat ⊕ UInt64) : Nat ⊕ Value := match r with
  | .inl p => .inl p
  | .inr v => .inr (.double v)
def rF (r : Nat ⊕ UInt32) : Nat ⊕ Value := match r with
  | .inl p => .inl p
  | .inr v => .inr (.float v)
def rF2 (r : Nat ⊕ UInt32) : Nat ⊕ UInt64 := match r with
  | .inl p => .inl p
  | .inr v => .inr (FP.f2d v)
def rOb (r : Nat ⊕ Value) : Prop := match r with
  | .inl p => p = 1
  | .inr v => ∃ b, v = .int (bI b)
/-- what they leave alone: the model, the array out of doubles (or longs) -/
def lFr (inp kd : Nat) (w w' : wdW) : Prop := w.2 ≤ w'.2 ∧ ∀ k b p, w.1 k b = some p → (k = 2 ∨ k = 32 ∨ k = kd ∨ (k = 33 ∧ b ≠ inp)) → w'.1 k b = some p
theorem lFr.of {inp kd : Nat} {w w' : wdW} (hk : kd = 35 ∨ kd = 36) (h : oFr inp w w') : lFr inp kd w w' := ⟨h.1, fun k b p hp hk' => h.2 k b p hp (by
  rcases hk' with e | e | e | e
  · exact Or.inl e
  · exact Or.inr (Or.inl e)
  · rcases hk with q | q
    · exact Or.inr (Or.inr (Or.inl (e.trans q)))
    · exact Or.inr (Or.inr (Or.inr (Or.inl (e.trans q))))
  · exact Or.inr (Or.inr (Or.inr (Or.inr e))))⟩
theorem lFr.put {inp kd ka b : Nat} {p : wdPay} {w w' : wdW} (hk : (kd = 36 ∧ ka = 35) ∨ (kd = 35 ∧ ka = 36)) (h : lFr inp kd w w') : lFr inp kd w (wPut w' ka b p) := ⟨h.1, fun k b' q hp hk' => (wPut_k (by
  rcases hk' with e | e | e | ⟨e, -⟩ <;> rcases hk with ⟨e1, e2⟩ | ⟨e1, e2⟩ <;> omega)).trans (h.2 k b' q hp hk')⟩
section
variable {l : Launch} {G : wdG} {w : wdW} {o hl inp sb : Nat} {I : Nat → Int32} {cur : aS} {hn : Nat} {hist : Nat → aS} {sv : Option aS} {ic : Nat → Int32} {on : Nat} {oc : Nat → Int32} {ou : Nat} {fL : Nat → Int64} {fD : Nat → UInt64}
theorem isOf.putL {k b : Nat} {p : wdPay} (hk : k = 35 ∨ k = 36) (h : isOf G w o hl inp sb I cur hn hist sv ic on oc) : isOf G (wPut w k b p) o hl inp sb I cur hn hist sv ic on oc := by
  obtain ⟨st, harr, hg, sva, sbarr, g1, g2, g3, g4, g5, g6, g7⟩ := h
  have kk : k ≠ 1 ∧ k ≠ 3 ∧ k ≠ 4 ∧ k ≠ 6 ∧ k ≠ 10 ∧ k ≠ 37 := by omega
  refine ⟨st, harr, hg, sva, sbarr, (wPut_k (by omega)).trans g1, g2.to (fun p hp => (wPut_k (by omega)).trans hp) (fun p hp => (wPut_k (by omega)).trans hp), g3.put kk, fun i hi => (g4 i hi).put kk, ?_, (wPut_k (by omega)).trans g6, g7.to (fun p hp => (wPut_k (by omega)).trans hp) (fun p hp => (wPut_k (by omega)).trans hp)⟩
  cases sva <;> cases sv <;> first | exact g5 | exact isSo.put g5 kk
theorem isOf.cell (h : isOf G w o hl inp sb I cur hn hist sv ic on oc) : ∃ fs, w.1 0 o = some (.inl fs) := by
  obtain ⟨st, harr, hg, sva, sbarr, g1, -⟩ := h
  exact ⟨_, g1⟩
/-- a question's answer, or what was thrown -/
def lA (G : wdG) (o hl inp sb : Nat) (I : Nat → Int32) (cur : aS) (hn : Nat) (hist : Nat → aS) (sv : Option aS) (ic : Nat → Int32) (on : Nat) (oc : Nat → Int32) (ou : Nat) (r : Nat ⊕ Value) (w : wdW) : wdO → wdW → Prop := fun q w' => lFr inp 36 w w' ∧ isOf G w' o hl inp sb I cur hn hist sv ic on oc ∧ ∃ f, w'.1 35 ou = some (.inr (1, .inr (.inl f))) ∧ match r with
  | .inl p => q = .inl (some (.int (nI p)))
  | .inr v => q = .inl (some (.int (nI 0))) ∧ f 0 = lV v
/-- a command -/
def lC (G : wdG) (o hl inp sb : Nat) (I : Nat → Int32) (cur : aS) (hn : Nat) (hist : Nat → aS) (sv : Option aS) (ic : Nat → Int32) (on : Nat) (oc : Nat → Int32) (ou : Nat) (r : aR) (w : wdW) : wdO → wdW → Prop := fun q w' => lFr inp 36 w w' ∧ ∃ f, w'.1 35 ou = some (.inr (1, .inr (.inl f))) ∧ match r with
  | .inl p => q = .inl (some (.int (nI p))) ∧ isOf G w' o hl inp sb I cur hn hist sv ic on oc
  | .inr z => q = .inl (some (.int (nI 0))) ∧ f 0 = z.1.toInt64 ∧ isOf G w' o hl inp sb I z.2 (tRec hn hist cur).1 (tRec hn hist cur).2 sv ic on oc
/-- a quotient -/
def lD (G : wdG) (o hl inp sb : Nat) (I : Nat → Int32) (cur : aS) (hn : Nat) (hist : Nat → aS) (sv : Option aS) (ic : Nat → Int32) (on : Nat) (oc : Nat → Int32) (od : Nat) (r : Nat ⊕ UInt64) (w : wdW) : wdO → wdW → Prop := fun q w' => lFr inp 35 w w' ∧ isOf G w' o hl inp sb I cur hn hist sv ic on oc ∧ ∃ f, w'.1 36 od = some (.inr (1, .inr (.inr (.inr (.inl f))))) ∧ match r with
  | .inl p => q = .inl (some (.int (nI p)))
  | .inr v => q = .inl (some (.int (nI 0))) ∧ f 0 = v
theorem one_in : vp_in (nI 0) 1 := by unfold vp_in; decide
theorem lW_addShip (hO : isOf G w o hl inp sb I cur hn hist sv ic on oc) (h35 : w.1 35 ou = some (.inr (1, .inr (.inl fL)))) {r : aR} (hx : Sp l G MX1_addShip 9 64 370 [.ref o] w (oQ G o hl inp sb I cur hn hist sv ic on oc [15] r w)) (hr : rLe 1 r) : Sp l G MX0_addShip 10 64 370 [.ref o, .ref ou] w (lC G o hl inp sb I cur hn hist sv ic on oc ou r w) := by
  obtain ⟨fs, hc⟩ := hO.cell
  refine Sp.ofH rfl (by decide +kernel) kX0_addShip (wd_le rfl) ?_
  refine WW.run (pc' := 3) (lv' := [(0, .ref o), (1, .ref ou)]) (st' := [.ref o, .int (nI 0), .ref ou]) 3 rfl ?_
  refine WW.callV [] o [.int (nI 0), .ref ou] rfl mX0_7 hx (wdRecv.obj hc rfl) rfl rfl (wd_le rfl) (wd_le rfl) (wd_le rfl) (wd_le rfl) (fun o w1 hq => ?_)
  obtain ⟨f1, hq⟩ := hq
  have k35 : w1.1 35 ou = some (.inr (1, .inr (.inl fL))) := f1.2 _ _ _ h35 (Or.inr (Or.inr (Or.inl rfl)))
  have l1 : lFr inp 36 w w1 := lFr.of (Or.inr rfl) f1
  cases r with
  | inl p =>
    obtain ⟨ci, e, h1, rfl, -, g1⟩ := hq
    obtain ⟨p1, p2⟩ := hr
    show WX _ _ _ 3 _ _ _ _ _
    obtain rfl : p = 1 := by omega
    cases h1
    refine WX.catch_ [] ⟨0, 8, 11, 13⟩ [] "java/lang/IllegalStateException" rfl (fun z hz => by exact absurd hz List.not_mem_nil) rfl (by decide) q960 nq974 ?_
    refine WW.run (pc' := 13) (lv' := [(2, .ref e), (0, .ref o), (1, .ref ou)]) (st' := [.int (nI 1)]) 2 rfl ?_
    exact WW.iret rfl rfl rfl ⟨l1, _, k35, rfl, g1⟩
  | inr v =>
    obtain ⟨rfl, g1⟩ := hq
    show WW _ _ _ 6 _ [.int v.1, .int (nI 0), .ref ou] _
    refine WW.run (pc' := 7) (lv' := [(0, .ref o), (1, .ref ou)]) (st' := [.long v.1.toInt64, .int (nI 0), .ref ou]) 1 rfl ?_
    refine WW.last (f' := fun j => if j = 0 then v.1.toInt64 else fL j) rfl k35 one_in rfl ?_
    refine WW.run (pc' := 15) (lv' := [(0, .ref o), (1, .ref ou)]) (st' := [.int (nI 0)]) 2 rfl ?_
    exact WW.iret rfl rfl rfl ⟨l1.put (Or.inl ⟨rfl, rfl⟩), _, wPut_same _ _ _ _, rfl, rfl, g1.putL (Or.inl rfl)⟩
theorem lW_addLamp (x : Int32) (hO : isOf G w o hl inp sb I cur hn hist sv ic on oc) (h35 : w.1 35 ou = some (.inr (1, .inr (.inl fL)))) {r : aR} (hx : Sp l G MX1_addLamp 9 65 380 [.ref o, .int x] w (oQ G o hl inp sb I cur hn hist sv ic on oc [14, 15] r w)) (hr : rLe 2 r) : Sp l G MX0_addLamp 10 65 380 [.ref o, .int x, .ref ou] w (lC G o hl inp sb I cur hn hist sv ic on oc ou r w) := by
  obtain ⟨fs, hc⟩ := hO.cell
  refine Sp.ofH rfl (by decide +kernel) kX0_addLamp (wd_le rfl) ?_
  refine WW.run (pc' := 4) (lv' := [(0, .ref o), (1, .int x), (2, .ref ou)]) (st' := [.int x, .ref o, .int (nI 0), .ref ou]) 4 rfl ?_
  refine WW.callV [.int x] o [.int (nI 0), .ref ou] rfl mX0_15 hx (wdRecv.obj hc rfl) rfl rfl (wd_le rfl) (wd_le rfl) (wd_le rfl) (wd_le rfl) (fun o w1 hq => ?_)
  obtain ⟨f1, hq⟩ := hq
  have k35 : w1.1 35 ou = some (.inr (1, .inr (.inl fL))) := f1.2 _ _ _ h35 (Or.inr (Or.inr (Or.inl rfl)))
  have l1 : lFr inp 36 w w1 := lFr.of (Or.inr rfl) f1
  cases r with
  | inl p =>
    obtain ⟨ci, e, h1, rfl, -, g1⟩ := hq
    obtain ⟨p1, p2⟩ := hr
    show WX _ _ _ 4 _ _ _ _ _
    rcases Nat.lt_or_ge p 2 with p3 | p3
    · skip
      obtain rfl : p = 1 := by omega
      cases h1
      refine WX.catch_ [] ⟨0, 9, 12, 19⟩ [⟨0, 9, 15, 13⟩] "java/lang/IllegalArgumentException" rfl (fun z hz => by exact absurd hz List.not_mem_nil) rfl (by decide) q1005 nq816 ?_
      refine WW.run (pc' := 14) (lv' := [(3, .ref e), (0, .ref o), (1, .int x), (2, .ref ou)]) (st' := [.int (nI 1)]) 2 rfl ?_
      exact WW.iret rfl rfl rfl ⟨l1, _, k35, rfl, g1⟩
    obtain rfl : p = 2 := by omega
    cases h1
    refine WX.catch_ [⟨0, 9, 12, 19⟩] ⟨0, 9, 15, 13⟩ [] "java/lang/IllegalStateException" rfl (fun z hz => by rcases List.mem_cons.mp hz with rfl | hz; exact Or.inr ⟨by decide, _, q1005, List.mem_of_getElem? (i := 9) rfl⟩; exact absurd hz List.not_mem_nil) rfl (by decide) q960 nq974 ?_
    refine WW.run (pc' := 17) (lv' := [(3, .ref e), (0, .ref o), (1, .int x), (2, .ref ou)]) (st' := [.int (nI 2)]) 2 rfl ?_
    exact WW.iret rfl rfl rfl ⟨l1, _, k35, rfl, g1⟩
  | inr v =>
    obtain ⟨rfl, g1⟩ := hq
    show WW _ _ _ 7 _ [.int v.1, .int (nI 0), .ref ou] _
    refine WW.run (pc' := 8) (lv' := [(0, .ref o), (1, .int x), (2, .ref ou)]) (st' := [.long v.1.toInt64, .int (nI 0), .ref ou]) 1 rfl ?_
    refine WW.last (f' := fun j => if j = 0 then v.1.toInt64 else fL j) rfl k35 one_in rfl ?_
    refine WW.run (pc' := 19) (lv' := [(0, .ref o), (1, .int x), (2, .ref ou)]) (st' := [.int (nI 0)]) 2 rfl ?_
    exact WW.iret rfl rfl rfl ⟨l1.put (Or.inl ⟨rfl, rfl⟩), _, wPut_same _ _ _ _, rfl, rfl, g1.putL (Or.inl rfl)⟩
theorem lW_addOil (x : Int32) (hO : isOf G w o hl inp sb I cur hn hist sv ic on oc) (h35 : w.1 35 ou = some (.inr (1, .inr (.inl fL)))) {r : aR} (hx : Sp l G MX1_addOil 9 63 370 [.ref o, .int x] w (oQ G o hl inp sb I cur hn hist sv ic on oc [14, 15] r w)) (hr : rLe 2 r) : Sp l G MX0_addOil 10 63 370 [.ref o, .int x, .ref ou] w (lC G o hl inp sb I cur hn hist sv ic on oc ou r w) := by
  obtain ⟨fs, hc⟩ := hO.cell
  refine Sp.ofH rfl (by decide +kernel) kX0_addOil (wd_le rfl) ?_
  refine WW.run (pc' := 4) (lv' := [(0, .ref o), (1, .int x), (2, .ref ou)]) (st' := [.int x, .ref o, .int (nI 0), .ref ou]) 4 rfl ?_
  refine WW.callV [.int x] o [.int (nI 0), .ref ou] rfl mX0_21 hx (wdRecv.obj hc rfl) rfl rfl (wd_le rfl) (wd_le rfl) (wd_le rfl) (wd_le rfl) (fun o w1 hq => ?_)
  obtain ⟨f1, hq⟩ := hq
  have k35 : w1.1 35 ou = some (.inr (1, .inr (.inl fL))) := f1.2 _ _ _ h35 (Or.inr (Or.inr (Or.inl rfl)))
  have l1 : lFr inp 36 w w1 := lFr.of (Or.inr rfl) f1
  cases r with
  | inl p =>
    obtain ⟨ci, e, h1, rfl, -, g1⟩ := hq
    obtain ⟨p1, p2⟩ := hr
    show WX _ _ _ 4 _ _ _ _ _
    rcases Nat.lt_or_ge p 2 with p3 | p3
    · skip
      obtain rfl : p = 1 := by omega
      cases h1
      refine WX.catch_ [] ⟨0, 9, 12, 19⟩ [⟨0, 9, 15, 13⟩] "java/lang/IllegalArgumentException" rfl (fun z hz => by exact absurd hz List.not_mem_nil) rfl (by decide) q1005 nq816 ?_
      refine WW.run (pc' := 14) (lv' := [(3, .ref e), (0, .ref o), (1, .int x), (2, .ref ou)]) (st' := [.int (nI 1)]) 2 rfl ?_
      exact WW.iret rfl rfl rfl ⟨l1, _, k35, rfl, g1⟩
    obtain rfl : p = 2 := by omega
    cases h1
    refine WX.catch_ [⟨0, 9, 12, 19⟩] ⟨0, 9, 15, 13⟩ [] "java/lang/IllegalStateException" rfl (fun z hz => by rcases List.mem_cons.mp hz with rfl | hz; exact Or.inr ⟨by decide, _, q1005, List.mem_of_getElem? (i := 9) rfl⟩; exact absurd hz List.not_mem_nil) rfl (by decide) q960 nq974 ?_
    refine WW.run (pc' := 17) (lv' := [(3, .ref e), (0, .ref o), (1, .int x), (2, .ref ou)]) (st' := [.int (nI 2)]) 2 rfl ?_
    exact WW.iret rfl rfl rfl ⟨l1, _, k35, rfl, g1⟩
  | inr v =>
    obtain ⟨rfl, g1⟩ := hq
    show WW _ _ _ 7 _ [.int v.1, .int (nI 0), .ref ou] _
    refine WW.run (pc' := 8) (lv' := [(0, .ref o), (1, .int x), (2, .ref ou)]) (st' := [.long v.1.toInt64, .int (nI 0), .ref ou]) 1 rfl ?_
    refine WW.last (f' := fun j => if j = 0 then v.1.toInt64 else fL j) rfl k35 one_in rfl ?_
    refine WW.run (pc' := 19) (lv' := [(0, .ref o), (1, .int x), (2, .ref ou)]) (st' := [.int (nI 0)]) 2 rfl ?_
    exact WW.iret rfl rfl rfl ⟨l1.put (Or.inl ⟨rfl, rfl⟩), _, wPut_same _ _ _ _, rfl, rfl, g1.putL (Or.inl rfl)⟩
theorem lW_lease (x : Int32) (y : Int32) (z : Int32) (hO : isOf G w o hl inp sb I cur hn hist sv ic on oc) (h35 : w.1 35 ou = some (.inr (1, .inr (.inl fL)))) {r : aR} (hx : Sp l G MX1_lease 10 67 390 [.ref o, .int x, .int y, .int z] w (oQ G o hl inp sb I cur hn hist sv ic on oc [13, 14, 15, 17] r w)) (hr : rLe 4 r) : Sp l G MX0_lease 11 67 390 [.ref o, .int x, .int y, .int z, .ref ou] w (lC G o hl inp sb I cur hn hist sv ic on oc ou r w) := by
  obtain ⟨fs, hc⟩ := hO.cell
  refine Sp.ofH rfl (by decide +kernel) kX0_lease (wd_le rfl) ?_
  refine WW.run (pc' := 7) (lv' := [(0, .ref o), (1, .int x), (2, .int y), (3, .int z), (4, .ref ou)]) (st' := [.int z, .int y, .int x, .ref o, .int (nI 0), .ref ou]) 6 rfl ?_
  refine WW.callV [.int x, .int y, .int z] o [.int (nI 0), .ref ou] rfl mX0_24 hx (wdRecv.obj hc rfl) rfl rfl (wd_le rfl) (wd_le rfl) (wd_le rfl) (wd_le rfl) (fun o w1 hq => ?_)
  obtain ⟨f1, hq⟩ := hq
  have k35 : w1.1 35 ou = some (.inr (1, .inr (.inl fL))) := f1.2 _ _ _ h35 (Or.inr (Or.inr (Or.inl rfl)))
  have l1 : lFr inp 36 w w1 := lFr.of (Or.inr rfl) f1
  cases r with
  | inl p =>
    obtain ⟨ci, e, h1, rfl, -, g1⟩ := hq
    obtain ⟨p1, p2⟩ := hr
    show WX _ _ _ 7 _ _ _ _ _
    rcases Nat.lt_or_ge p 2 with p3 | p3
    · skip
      obtain rfl : p = 1 := by omega
      cases h1
      refine WX.catch_ [] ⟨0, 12, 15, 28⟩ [⟨0, 12, 19, 19⟩, ⟨0, 12, 23, 13⟩, ⟨0, 12, 27, 30⟩] "java/lang/IndexOutOfBoundsException" rfl (fun z hz => by exact absurd hz List.not_mem_nil) rfl (by decide) q1040 nq1062 ?_
      refine WW.run (pc' := 18) (lv' := [(5, .ref e), (0, .ref o), (1, .int x), (2, .int y), (3, .int z), (4, .ref ou)]) (st' := [.int (nI 1)]) 2 rfl ?_
      exact WW.iret rfl rfl rfl ⟨l1, _, k35, rfl, g1⟩
    rcases Nat.lt_or_ge p 3 with p3 | p3
    · skip
      obtain rfl : p = 2 := by omega
      cases h1
      refine WX.catch_ [⟨0, 12, 15, 28⟩] ⟨0, 12, 19, 19⟩ [⟨0, 12, 23, 13⟩, ⟨0, 12, 27, 30⟩] "java/lang/IllegalArgumentException" rfl (fun z hz => by rcases List.mem_cons.mp hz with rfl | hz; exact Or.inr ⟨by decide, _, q1040, List.mem_of_getElem? (i := 18) rfl⟩; exact absurd hz List.not_mem_nil) rfl (by decide) q1005 nq816 ?_
      refine WW.run (pc' := 22) (lv' := [(5, .ref e), (0, .ref o), (1, .int x), (2, .int y), (3, .int z), (4, .ref ou)]) (st' := [.int (nI 2)]) 2 rfl ?_
      exact WW.iret rfl rfl rfl ⟨l1, _, k35, rfl, g1⟩
    rcases Nat.lt_or_ge p 4 with p3 | p3
    · skip
      obtain rfl : p = 3 := by omega
      cases h1
      refine WX.catch_ [⟨0, 12, 15, 28⟩, ⟨0, 12, 19, 19⟩] ⟨0, 12, 23, 13⟩ [⟨0, 12, 27, 30⟩] "java/lang/IllegalStateException" rfl (fun z hz => by rcases List.mem_cons.mp hz with rfl | hz; exact Or.inr ⟨by decide, _, q1040, List.mem_of_getElem? (i := 17) rfl⟩; rcases List.mem_cons.mp hz with rfl | hz; exact Or.inr ⟨by decide, _, q1005, List.mem_of_getElem? (i := 9) rfl⟩; exact absurd hz List.not_mem_nil) rfl (by decide) q960 nq974 ?_
      refine WW.run (pc' := 26) (lv' := [(5, .ref e), (0, .ref o), (1, .int x), (2, .int y), (3, .int z), (4, .ref ou)]) (st' := [.int (nI 3)]) 2 rfl ?_
      exact WW.iret rfl rfl rfl ⟨l1, _, k35, rfl, g1⟩
    obtain rfl : p = 4 := by omega
    cases h1
    refine WX.catch_ [⟨0, 12, 15, 28⟩, ⟨0, 12, 19, 19⟩, ⟨0, 12, 23, 13⟩] ⟨0, 12, 27, 30⟩ [] "java/lang/UnsupportedOperationException" rfl (fun z hz => by rcases List.mem_cons.mp hz with rfl | hz; exact Or.inr ⟨by decide, _, q1040, List.mem_of_getElem? (i := 20) rfl⟩; rcases List.mem_cons.mp hz with rfl | hz; exact Or.inr ⟨by decide, _, q1005, List.mem_of_getElem? (i := 12) rfl⟩; rcases List.mem_cons.mp hz with rfl | hz; exact Or.inr ⟨by decide, _, q960, List.mem_of_getElem? (i := 4) rfl⟩; exact absurd hz List.not_mem_nil) rfl (by decide) q1043 nq1110 ?_
    refine WW.run (pc' := 30) (lv' := [(5, .ref e), (0, .ref o), (1, .int x), (2, .int y), (3, .int z), (4, .ref ou)]) (st' := [.int (nI 4)]) 2 rfl ?_
    exact WW.iret rfl rfl rfl ⟨l1, _, k35, rfl, g1⟩
  | inr v =>
    obtain ⟨rfl, g1⟩ := hq
    show WW _ _ _ 10 _ [.int v.1, .int (nI 0), .ref ou] _
    refine WW.run (pc' := 11) (lv' := [(0, .ref o), (1, .int x), (2, .int y), (3, .int z), (4, .ref ou)]) (st' := [.long v.1.toInt64, .int (nI 0), .ref ou]) 1 rfl ?_
    refine WW.last (f' := fun j => if j = 0 then v.1.toInt64 else fL j) rfl k35 one_in rfl ?_
    refine WW.run (pc' := 32) (lv' := [(0, .ref o), (1, .int x), (2, .int y), (3, .int z), (4, .ref ou)]) (st' := [.int (nI 0)]) 2 rfl ?_
    exact WW.iret rfl rfl rfl ⟨l1.put (Or.inl ⟨rfl, rfl⟩), _, wPut_same _ _ _ _, rfl, rfl, g1.putL (Or.inl rfl)⟩
theorem lW_requestRenewal (x : Int32) (y : Int32) (hO : isOf G w o hl inp sb I cur hn hist sv ic on oc) (h35 : w.1 35 ou = some (.inr (1, .inr (.inl fL)))) {r : aR} (hx : Sp l G MX1_requestRenewal 11 69 410 [.ref o, .int x, .int y] w (oQ G o hl inp sb I cur hn hist sv ic on oc [13, 14, 16, 15] r w)) (hr : rLe 4 r) : Sp l G MX0_requestRenewal 12 69 410 [.ref o, .int x, .int y, .ref ou] w (lC G o hl inp sb I cur hn hist sv ic on oc ou r w) := by
  obtain ⟨fs, hc⟩ := hO.cell
  refine Sp.ofH rfl (by decide +kernel) kX0_requestRenewal (wd_le rfl) ?_
  refine WW.run (pc' := 5) (lv' := [(0, .ref o), (1, .int x), (2, .int y), (3, .ref ou)]) (st' := [.int y, .int x, .ref o, .int (nI 0), .ref ou]) 5 rfl ?_
  refine WW.callV [.int x, .int y] o [.int (nI 0), .ref ou] rfl mX0_32 hx (wdRecv.obj hc rfl) rfl rfl (wd_le rfl) (wd_le rfl) (wd_le rfl) (wd_le rfl) (fun o w1 hq => ?_)
  obtain ⟨f1, hq⟩ := hq
  have k35 : w1.1 35 ou = some (.inr (1, .inr (.inl fL))) := f1.2 _ _ _ h35 (Or.inr (Or.inr (Or.inl rfl)))
  have l1 : lFr inp 36 w w1 := lFr.of (Or.inr rfl) f1
  cases r with
  | inl p =>
    obtain ⟨ci, e, h1, rfl, -, g1⟩ := hq
    obtain ⟨p1, p2⟩ := hr
    show WX _ _ _ 5 _ _ _ _ _
    rcases Nat.lt_or_ge p 2 with p3 | p3
    · skip
      obtain rfl : p = 1 := by omega
      cases h1
      refine WX.catch_ [] ⟨0, 10, 13, 28⟩ [⟨0, 10, 17, 19⟩, ⟨0, 10, 21, 36⟩, ⟨0, 10, 25, 13⟩] "java/lang/IndexOutOfBoundsException" rfl (fun z hz => by exact absurd hz List.not_mem_nil) rfl (by decide) q1040 nq1062 ?_
      refine WW.run (pc' := 16) (lv' := [(4, .ref e), (0, .ref o), (1, .int x), (2, .int y), (3, .ref ou)]) (st' := [.int (nI 1)]) 2 rfl ?_
      exact WW.iret rfl rfl rfl ⟨l1, _, k35, rfl, g1⟩
    rcases Nat.lt_or_ge p 3 with p3 | p3
    · skip
      obtain rfl : p = 2 := by omega
      cases h1
      refine WX.catch_ [⟨0, 10, 13, 28⟩] ⟨0, 10, 17, 19⟩ [⟨0, 10, 21, 36⟩, ⟨0, 10, 25, 13⟩] "java/lang/IllegalArgumentException" rfl (fun z hz => by rcases List.mem_cons.mp hz with rfl | hz; exact Or.inr ⟨by decide, _, q1040, List.mem_of_getElem? (i := 18) rfl⟩; exact absurd hz List.not_mem_nil) rfl (by decide) q1005 nq816 ?_
      refine WW.run (pc' := 20) (lv' := [(4, .ref e), (0, .ref o), (1, .int x), (2, .int y), (3, .ref ou)]) (st' := [.int (nI 2)]) 2 rfl ?_
      exact WW.iret rfl rfl rfl ⟨l1, _, k35, rfl, g1⟩
    rcases Nat.lt_or_ge p 4 with p3 | p3
    · skip
      obtain rfl : p = 3 := by omega
      cases h1
      refine WX.catch_ [⟨0, 10, 13, 28⟩, ⟨0, 10, 17, 19⟩] ⟨0, 10, 21, 36⟩ [⟨0, 10, 25, 13⟩] "java/util/NoSuchElementException" rfl (fun z hz => by rcases List.mem_cons.mp hz with rfl | hz; exact Or.inr ⟨by decide, _, q1040, List.mem_of_getElem? (i := 16) rfl⟩; rcases List.mem_cons.mp hz with rfl | hz; exact Or.inr ⟨by decide, _, q1005, List.mem_of_getElem? (i := 8) rfl⟩; exact absurd hz List.not_mem_nil) rfl (by decide) q1126 nq314 ?_
      refine WW.run (pc' := 24) (lv' := [(4, .ref e), (0, .ref o), (1, .int x), (2, .int y), (3, .ref ou)]) (st' := [.int (nI 3)]) 2 rfl ?_
      exact WW.iret rfl rfl rfl ⟨l1, _, k35, rfl, g1⟩
    obtain rfl : p = 4 := by omega
    cases h1
    refine WX.catch_ [⟨0, 10, 13, 28⟩, ⟨0, 10, 17, 19⟩, ⟨0, 10, 21, 36⟩] ⟨0, 10, 25, 13⟩ [] "java/lang/IllegalStateException" rfl (fun z hz => by rcases List.mem_cons.mp hz with rfl | hz; exact Or.inr ⟨by decide, _, q1040, List.mem_of_getElem? (i := 17) rfl⟩; rcases List.mem_cons.mp hz with rfl | hz; exact Or.inr ⟨by decide, _, q1005, List.mem_of_getElem? (i := 9) rfl⟩; rcases List.mem_cons.mp hz with rfl | hz; exact Or.inr ⟨by decide, _, q1126, List.mem_of_getElem? (i := 40) rfl⟩; exact absurd hz List.not_mem_nil) rfl (by decide) q960 nq974 ?_
    refine WW.run (pc' := 28) (lv' := [(4, .ref e), (0, .ref o), (1, .int x), (2, .int y), (3, .ref ou)]) (st' := [.int (nI 4)]) 2 rfl ?_
    exact WW.iret rfl rfl rfl ⟨l1, _, k35, rfl, g1⟩
  | inr v =>
    obtain ⟨rfl, g1⟩ := hq
    show WW _ _ _ 8 _ [.int v.1, .int (nI 0), .ref ou] _
    refine WW.run (pc' := 9) (lv' := [(0, .ref o), (1, .int x), (2, .int y), (3, .ref ou)]) (st' := [.long v.1.toInt64, .int (nI 0), .ref ou]) 1 rfl ?_
    refine WW.last (f' := fun j => if j = 0 then v.1.toInt64 else fL j) rfl k35 one_in rfl ?_
    refine WW.run (pc' := 30) (lv' := [(0, .ref o), (1, .int x), (2, .int y), (3, .ref ou)]) (st' := [.int (nI 0)]) 2 rfl ?_
    exact WW.iret rfl rfl rfl ⟨l1.put (Or.inl ⟨rfl, rfl⟩), _, wPut_same _ _ _ _, rfl, rfl, g1.putL (Or.inl rfl)⟩
theorem lW_giveUp (x : Int32) (hO : isOf G w o hl inp sb I cur hn hist sv ic on oc) (h35 : w.1 35 ou = some (.inr (1, .inr (.inl fL)))) {r : aR} (hx : Sp l G MX1_giveUp 11 63 362 [.ref o, .int x] w (oQ G o hl inp sb I cur hn hist sv ic on oc [13, 16] r w)) (hr : rLe 2 r) : Sp l G MX0_giveUp 12 63 362 [.ref o, .int x, .ref ou] w (lC G o hl inp sb I cur hn hist sv ic on oc ou r w) := by
  obtain ⟨fs, hc⟩ := hO.cell
  refine Sp.ofH rfl (by decide +kernel) kX0_giveUp (wd_le rfl) ?_
  refine WW.run (pc' := 4) (lv' := [(0, .ref o), (1, .int x), (2, .ref ou)]) (st' := [.int x, .ref o, .int (nI 0), .ref ou]) 4 rfl ?_
  refine WW.callV [.int x] o [.int (nI 0), .ref ou] rfl mX0_38 hx (wdRecv.obj hc rfl) rfl rfl (wd_le rfl) (wd_le rfl) (wd_le rfl) (wd_le rfl) (fun o w1 hq => ?_)
  obtain ⟨f1, hq⟩ := hq
  have k35 : w1.1 35 ou = some (.inr (1, .inr (.inl fL))) := f1.2 _ _ _ h35 (Or.inr (Or.inr (Or.inl rfl)))
  have l1 : lFr inp 36 w w1 := lFr.of (Or.inr rfl) f1
  cases r with
  | inl p =>
    obtain ⟨ci, e, h1, rfl, -, g1⟩ := hq
    obtain ⟨p1, p2⟩ := hr
    show WX _ _ _ 4 _ _ _ _ _
    rcases Nat.lt_or_ge p 2 with p3 | p3
    · skip
      obtain rfl : p = 1 := by omega
      cases h1
      refine WX.catch_ [] ⟨0, 9, 12, 28⟩ [⟨0, 9, 15, 36⟩] "java/lang/IndexOutOfBoundsException" rfl (fun z hz => by exact absurd hz List.not_mem_nil) rfl (by decide) q1040 nq1062 ?_
      refine WW.run (pc' := 14) (lv' := [(3, .ref e), (0, .ref o), (1, .int x), (2, .ref ou)]) (st' := [.int (nI 1)]) 2 rfl ?_
      exact WW.iret rfl rfl rfl ⟨l1, _, k35, rfl, g1⟩
    obtain rfl : p = 2 := by omega
    cases h1
    refine WX.catch_ [⟨0, 9, 12, 28⟩] ⟨0, 9, 15, 36⟩ [] "java/util/NoSuchElementException" rfl (fun z hz => by rcases List.mem_cons.mp hz with rfl | hz; exact Or.inr ⟨by decide, _, q1040, List.mem_of_getElem? (i := 16) rfl⟩; exact absurd hz List.not_mem_nil) rfl (by decide) q1126 nq314 ?_
    refine WW.run (pc' := 17) (lv' := [(3, .ref e), (0, .ref o), (1, .int x), (2, .ref ou)]) (st' := [.int (nI 2)]) 2 rfl ?_
    exact WW.iret rfl rfl rfl ⟨l1, _, k35, rfl, g1⟩
  | inr v =>
    obtain ⟨rfl, g1⟩ := hq
    show WW _ _ _ 7 _ [.int v.1, .int (nI 0), .ref ou] _
    refine WW.run (pc' := 8) (lv' := [(0, .ref o), (1, .int x), (2, .ref ou)]) (st' := [.long v.1.toInt64, .int (nI 0), .ref ou]) 1 rfl ?_
    refine WW.last (f' := fun j => if j = 0 then v.1.toInt64 else fL j) rfl k35 one_in rfl ?_
    refine WW.run (pc' := 19) (lv' := [(0, .ref o), (1, .int x), (2, .ref ou)]) (st' := [.int (nI 0)]) 2 rfl ?_
    exact WW.iret rfl rfl rfl ⟨l1.put (Or.inl ⟨rfl, rfl⟩), _, wPut_same _ _ _ _, rfl, rfl, g1.putL (Or.inl rfl)⟩
theorem lW_passHours (x : Int32) (hO : isOf G w o hl inp sb I cur hn hist sv ic on oc) (h35 : w.1 35 ou = some (.inr (1, .inr (.inl fL)))) {r : aR} (hx : Sp l G MX1_passHours 10 1118 5348 [.ref o, .int x] w (oQ G o hl inp sb I cur hn hist sv ic on oc [14] r w)) (hr : rLe 1 r) : Sp l G MX0_passHours 11 1118 5348 [.ref o, .int x, .ref ou] w (lC G o hl inp sb I cur hn hist sv ic on oc ou r w) := by
  obtain ⟨fs, hc⟩ := hO.cell
  refine Sp.ofH rfl (by decide +kernel) kX0_passHours (wd_le rfl) ?_
  refine WW.run (pc' := 4) (lv' := [(0, .ref o), (1, .int x), (2, .ref ou)]) (st' := [.int x, .ref o, .int (nI 0), .ref ou]) 4 rfl ?_
  refine WW.callV [.int x] o [.int (nI 0), .ref ou] rfl mX0_41 hx (wdRecv.obj hc rfl) rfl rfl (wd_le rfl) (wd_le rfl) (wd_le rfl) (wd_le rfl) (fun o w1 hq => ?_)
  obtain ⟨f1, hq⟩ := hq
  have k35 : w1.1 35 ou = some (.inr (1, .inr (.inl fL))) := f1.2 _ _ _ h35 (Or.inr (Or.inr (Or.inl rfl)))
  have l1 : lFr inp 36 w w1 := lFr.of (Or.inr rfl) f1
  cases r with
  | inl p =>
    obtain ⟨ci, e, h1, rfl, -, g1⟩ := hq
    obtain ⟨p1, p2⟩ := hr
    show WX _ _ _ 4 _ _ _ _ _
    obtain rfl : p = 1 := by omega
    cases h1
    refine WX.catch_ [] ⟨0, 9, 12, 19⟩ [] "java/lang/IllegalArgumentException" rfl (fun z hz => by exact absurd hz List.not_mem_nil) rfl (by decide) q1005 nq816 ?_
    refine WW.run (pc' := 14) (lv' := [(3, .ref e), (0, .ref o), (1, .int x), (2, .ref ou)]) (st' := [.int (nI 1)]) 2 rfl ?_
    exact WW.iret rfl rfl rfl ⟨l1, _, k35, rfl, g1⟩
  | inr v =>
    obtain ⟨rfl, g1⟩ := hq
    show WW _ _ _ 7 _ [.int v.1, .int (nI 0), .ref ou] _
    refine WW.run (pc' := 8) (lv' := [(0, .ref o), (1, .int x), (2, .ref ou)]) (st' := [.long v.1.toInt64, .int (nI 0), .ref ou]) 1 rfl ?_
    refine WW.last (f' := fun j => if j = 0 then v.1.toInt64 else fL j) rfl k35 one_in rfl ?_
    refine WW.run (pc' := 16) (lv' := [(0, .ref o), (1, .int x), (2, .ref ou)]) (st' := [.int (nI 0)]) 2 rfl ?_
    exact WW.iret rfl rfl rfl ⟨l1.put (Or.inl ⟨rfl, rfl⟩), _, wPut_same _ _ _ _, rfl, rfl, g1.putL (Or.inl rfl)⟩
theorem lW_coins (x : Int32) (hO : isOf G w o hl inp sb I cur hn hist sv ic on oc) (h35 : w.1 35 ou = some (.inr (1, .inr (.inl fL)))) {r : Nat ⊕ Value} (hx : Sp l G MX1_coins 8 1 6 [.ref o, .int x] w (oA G o hl inp sb I cur hn hist sv ic on oc [13] r w)) (hr : rOk 1 r) : Sp l G MX0_coins 9 1 6 [.ref o, .int x, .ref ou] w (lA G o hl inp sb I cur hn hist sv ic on oc ou r w) := by
  obtain ⟨fs, hc⟩ := hO.cell
  refine Sp.ofH rfl (by decide +kernel) kX0_coins (wd_le rfl) ?_
  refine WW.run (pc' := 4) (lv' := [(0, .ref o), (1, .int x), (2, .ref ou)]) (st' := [.int x, .ref o, .int (nI 0), .ref ou]) 4 rfl ?_
  refine WW.callV [.int x] o [.int (nI 0), .ref ou] rfl mX0_44 hx (wdRecv.obj hc rfl) rfl rfl (wd_le rfl) (wd_le rfl) (wd_le rfl) (wd_le rfl) (fun o w1 hq => ?_)
  obtain ⟨f1, g1, hq⟩ := hq
  have k35 : w1.1 35 ou = some (.inr (1, .inr (.inl fL))) := f1.2 _ _ _ h35 (Or.inr (Or.inr (Or.inl rfl)))
  have l1 : lFr inp 36 w w1 := lFr.of (Or.inr rfl) f1
  cases r with
  | inl p =>
    obtain ⟨ci, e, h1, rfl⟩ := hq
    obtain ⟨p1, p2⟩ := hr
    show WX _ _ _ 4 _ _ _ _ _
    obtain rfl : p = 1 := by omega
    cases h1
    refine WX.catch_ [] ⟨0, 9, 12, 28⟩ [] "java/lang/IndexOutOfBoundsException" rfl (fun z hz => by exact absurd hz List.not_mem_nil) rfl (by decide) q1040 nq1062 ?_
    refine WW.run (pc' := 14) (lv' := [(3, .ref e), (0, .ref o), (1, .int x), (2, .ref ou)]) (st' := [.int (nI 1)]) 2 rfl ?_
    exact WW.iret rfl rfl rfl ⟨l1, g1, _, k35, rfl⟩
  | inr v =>
    obtain rfl := hq
    obtain ⟨y9, rfl⟩ := hr
    show WW _ _ _ 7 _ [.int y9, .int (nI 0), .ref ou] _
    refine WW.run (pc' := 8) (lv' := [(0, .ref o), (1, .int x), (2, .ref ou)]) (st' := [.long y9.toInt64, .int (nI 0), .ref ou]) 1 rfl ?_
    refine WW.last (f' := fun j => if j = 0 then y9.toInt64 else fL j) rfl k35 one_in rfl ?_
    refine WW.run (pc' := 16) (lv' := [(0, .ref o), (1, .int x), (2, .ref ou)]) (st' := [.int (nI 0)]) 2 rfl ?_
    exact WW.iret rfl rfl rfl ⟨l1.put (Or.inl ⟨rfl, rfl⟩), g1.putL (Or.inl rfl), _, wPut_same _ _ _ _, rfl, rfl⟩
theorem lW_finesPaid (x : Int32) (hO : isOf G w o hl inp sb I cur hn hist sv ic on oc) (h35 : w.1 35 ou = some (.inr (1, .inr (.inl fL)))) {r : Nat ⊕ Value} (hx : Sp l G MX1_finesPaid 8 1 6 [.ref o, .int x] w (oA G o hl inp sb I cur hn hist sv ic on oc [13] r w)) (hr : rOk 1 r) : Sp l G MX0_finesPaid 9 1 6 [.ref o, .int x, .ref ou] w (lA G o hl inp sb I cur hn hist sv ic on oc ou r w) := by
  obtain ⟨fs, hc⟩ := hO.cell
  refine Sp.ofH rfl (by decide +kernel) kX0_finesPaid (wd_le rfl) ?_
  refine WW.run (pc' := 4) (lv' := [(0, .ref o), (1, .int x), (2, .ref ou)]) (st' := [.int x, .ref o, .int (nI 0), .ref ou]) 4 rfl ?_
  refine WW.callV [.int x] o [.int (nI 0), .ref ou] rfl mX0_47 hx (wdRecv.obj hc rfl) rfl rfl (wd_le rfl) (wd_le rfl) (wd_le rfl) (wd_le rfl) (fun o w1 hq => ?_)
  obtain ⟨f1, g1, hq⟩ := hq
  have k35 : w1.1 35 ou = some (.inr (1, .inr (.inl fL))) := f1.2 _ _ _ h35 (Or.inr (Or.inr (Or.inl rfl)))
  have l1 : lFr inp 36 w w1 := lFr.of (Or.inr rfl) f1
  cases r with
  | inl p =>
    obtain ⟨ci, e, h1, rfl⟩ := hq
    obtain ⟨p1, p2⟩ := hr
    show WX _ _ _ 4 _ _ _ _ _
    obtain rfl : p = 1 := by omega
    cases h1
    refine WX.catch_ [] ⟨0, 9, 12, 28⟩ [] "java/lang/IndexOutOfBoundsException" rfl (fun z hz => by exact absurd hz List.not_mem_nil) rfl (by decide) q1040 nq1062 ?_
    refine WW.run (pc' := 14) (lv' := [(3, .ref e), (0, .ref o), (1, .int x), (2, .ref ou)]) (st' := [.int (nI 1)]) 2 rfl ?_
    exact WW.iret rfl rfl rfl ⟨l1, g1, _, k35, rfl⟩
  | inr v =>
    obtain rfl := hq
    obtain ⟨y9, rfl⟩ := hr
    show WW _ _ _ 7 _ [.int y9, .int (nI 0), .ref ou] _
    refine WW.run (pc' := 8) (lv' := [(0, .ref o), (1, .int x), (2, .ref ou)]) (st' := [.long y9.toInt64, .int (nI 0), .ref ou]) 1 rfl ?_
    refine WW.last (f' := fun j => if j = 0 then y9.toInt64 else fL j) rfl k35 one_in rfl ?_
    refine WW.run (pc' := 16) (lv' := [(0, .ref o), (1, .int x), (2, .ref ou)]) (st' := [.int (nI 0)]) 2 rfl ?_
    exact WW.iret rfl rfl rfl ⟨l1.put (Or.inl ⟨rfl, rfl⟩), g1.putL (Or.inl rfl), _, wPut_same _ _ _ _, rfl, rfl⟩
theorem lW_darkHours (x : Int32) (hO : isOf G w o hl inp sb I cur hn hist sv ic on oc) (h35 : w.1 35 ou = some (.inr (1, .inr (.inl fL)))) {r : Nat ⊕ Value} (hx : Sp l G MX1_darkHours 8 1 6 [.ref o, .int x] w (oA G o hl inp sb I cur hn hist sv ic on oc [13] r w)) (hr : rOk 1 r) : Sp l G MX0_darkHours 9 1 6 [.ref o, .int x, .ref ou] w (lA G o hl inp sb I cur hn hist sv ic on oc ou r w) := by
  obtain ⟨fs, hc⟩ := hO.cell
  refine Sp.ofH rfl (by decide +kernel) kX0_darkHours (wd_le rfl) ?_
  refine WW.run (pc' := 4) (lv' := [(0, .ref o), (1, .int x), (2, .ref ou)]) (st' := [.int x, .ref o, .int (nI 0), .ref ou]) 4 rfl ?_
  refine WW.callV [.int x] o [.int (nI 0), .ref ou] rfl mX0_50 hx (wdRecv.obj hc rfl) rfl rfl (wd_le rfl) (wd_le rfl) (wd_le rfl) (wd_le rfl) (fun o w1 hq => ?_)
  obtain ⟨f1, g1, hq⟩ := hq
  have k35 : w1.1 35 ou = some (.inr (1, .inr (.inl fL))) := f1.2 _ _ _ h35 (Or.inr (Or.inr (Or.inl rfl)))
  have l1 : lFr inp 36 w w1 := lFr.of (Or.inr rfl) f1
  cases r with
  | inl p =>
    obtain ⟨ci, e, h1, rfl⟩ := hq
    obtain ⟨p1, p2⟩ := hr
    show WX _ _ _ 4 _ _ _ _ _
    obtain rfl : p = 1 := by omega
    cases h1
    refine WX.catch_ [] ⟨0, 9, 12, 28⟩ [] "java/lang/IndexOutOfBoundsException" rfl (fun z hz => by exact absurd hz List.not_mem_nil) rfl (by decide) q1040 nq1062 ?_
    refine WW.run (pc' := 14) (lv' := [(3, .ref e), (0, .ref o), (1, .int x), (2, .ref ou)]) (st' := [.int (nI 1)]) 2 rfl ?_
    exact WW.iret rfl rfl rfl ⟨l1, g1, _, k35, rfl⟩
  | inr v =>
    obtain rfl := hq
    obtain ⟨y9, rfl⟩ := hr
    show WW _ _ _ 7 _ [.int y9, .int (nI 0), .ref ou] _
    refine WW.run (pc' := 8) (lv' := [(0, .ref o), (1, .int x), (2, .ref ou)]) (st' := [.long y9.toInt64, .int (nI 0), .ref ou]) 1 rfl ?_
    refine WW.last (f' := fun j => if j = 0 then y9.toInt64 else fL j) rfl k35 one_in rfl ?_
    refine WW.run (pc' := 16) (lv' := [(0, .ref o), (1, .int x), (2, .ref ou)]) (st' := [.int (nI 0)]) 2 rfl ?_
    exact WW.iret rfl rfl rfl ⟨l1.put (Or.inl ⟨rfl, rfl⟩), g1.putL (Or.inl rfl), _, wPut_same _ _ _ _, rfl, rfl⟩
theorem lW_demand (x : Int32) (hO : isOf G w o hl inp sb I cur hn hist sv ic on oc) (h35 : w.1 35 ou = some (.inr (1, .inr (.inl fL)))) {r : Nat ⊕ Value} (hx : Sp l G MX1_demand 8 2 10 [.ref o, .int x] w (oA G o hl inp sb I cur hn hist sv ic on oc [13] r w)) (hr : rOk 1 r) : Sp l G MX0_demand 9 2 10 [.ref o, .int x, .ref ou] w (lA G o hl inp sb I cur hn hist sv ic on oc ou r w) := by
  obtain ⟨fs, hc⟩ := hO.cell
  refine Sp.ofH rfl (by decide +kernel) kX0_demand (wd_le rfl) ?_
  refine WW.run (pc' := 4) (lv' := [(0, .ref o), (1, .int x), (2, .ref ou)]) (st' := [.int x, .ref o, .int (nI 0), .ref ou]) 4 rfl ?_
  refine WW.callV [.int x] o [.int (nI 0), .ref ou] rfl mX0_53 hx (wdRecv.obj hc rfl) rfl rfl (wd_le rfl) (wd_le rfl) (wd_le rfl) (wd_le rfl) (fun o w1 hq => ?_)
  obtain ⟨f1, g1, hq⟩ := hq
  have k35 : w1.1 35 ou = some (.inr (1, .inr (.inl fL))) := f1.2 _ _ _ h35 (Or.inr (Or.inr (Or.inl rfl)))
  have l1 : lFr inp 36 w w1 := lFr.of (Or.inr rfl) f1
  cases r with
  | inl p =>
    obtain ⟨ci, e, h1, rfl⟩ := hq
    obtain ⟨p1, p2⟩ := hr
    show WX _ _ _ 4 _ _ _ _ _
    obtain rfl : p = 1 := by omega
    cases h1
    refine WX.catch_ [] ⟨0, 9, 12, 28⟩ [] "java/lang/IndexOutOfBoundsException" rfl (fun z hz => by exact absurd hz List.not_mem_nil) rfl (by decide) q1040 nq1062 ?_
    refine WW.run (pc' := 14) (lv' := [(3, .ref e), (0, .ref o), (1, .int x), (2, .ref ou)]) (st' := [.int (nI 1)]) 2 rfl ?_
    exact WW.iret rfl rfl rfl ⟨l1, g1, _, k35, rfl⟩
  | inr v =>
    obtain rfl := hq
    obtain ⟨y9, rfl⟩ := hr
    show WW _ _ _ 7 _ [.int y9, .int (nI 0), .ref ou] _
    refine WW.run (pc' := 8) (lv' := [(0, .ref o), (1, .int x), (2, .ref ou)]) (st' := [.long y9.toInt64, .int (nI 0), .ref ou]) 1 rfl ?_
    refine WW.last (f' := fun j => if j = 0 then y9.toInt64 else fL j) rfl k35 one_in rfl ?_
    refine WW.run (pc' := 16) (lv' := [(0, .ref o), (1, .int x), (2, .ref ou)]) (st' := [.int (nI 0)]) 2 rfl ?_
    exact WW.iret rfl rfl rfl ⟨l1.put (Or.inl ⟨rfl, rfl⟩), g1.putL (Or.inl rfl), _, wPut_same _ _ _ _, rfl, rfl⟩
theorem lW_leasesOf (x : Int32) (hO : isOf G w o hl inp sb I cur hn hist sv ic on oc) (h35 : w.1 35 ou = some (.inr (1, .inr (.inl fL)))) {r : Nat ⊕ Value} (hx : Sp l G MX1_leasesOf 8 2 10 [.ref o, .int x] w (oA G o hl inp sb I cur hn hist sv ic on oc [13] r w)) (hr : rOk 1 r) : Sp l G MX0_leasesOf 9 2 10 [.ref o, .int x, .ref ou] w (lA G o hl inp sb I cur hn hist sv ic on oc ou r w) := by
  obtain ⟨fs, hc⟩ := hO.cell
  refine Sp.ofH rfl (by decide +kernel) kX0_leasesOf (wd_le rfl) ?_
  refine WW.run (pc' := 4) (lv' := [(0, .ref o), (1, .int x), (2, .ref ou)]) (st' := [.int x, .ref o, .int (nI 0), .ref ou]) 4 rfl ?_
  refine WW.callV [.int x] o [.int (nI 0), .ref ou] rfl mX0_56 hx (wdRecv.obj hc rfl) rfl rfl (wd_le rfl) (wd_le rfl) (wd_le rfl) (wd_le rfl) (fun o w1 hq => ?_)
  obtain ⟨f1, g1, hq⟩ := hq
  have k35 : w1.1 35 ou = some (.inr (1, .inr (.inl fL))) := f1.2 _ _ _ h35 (Or.inr (Or.inr (Or.inl rfl)))
  have l1 : lFr inp 36 w w1 := lFr.of (Or.inr rfl) f1
  cases r with
  | inl p =>
    obtain ⟨ci, e, h1, rfl⟩ := hq
    obtain ⟨p1, p2⟩ := hr
    show WX _ _ _ 4 _ _ _ _ _
    obtain rfl : p = 1 := by omega
    cases h1
    refine WX.catch_ [] ⟨0, 9, 12, 28⟩ [] "java/lang/IndexOutOfBoundsException" rfl (fun z hz => by exact absurd hz List.not_mem_nil) rfl (by decide) q1040 nq1062 ?_
    refine WW.run (pc' := 14) (lv' := [(3, .ref e), (0, .ref o), (1, .int x), (2, .ref ou)]) (st' := [.int (nI 1)]) 2 rfl ?_
    exact WW.iret rfl rfl rfl ⟨l1, g1, _, k35, rfl⟩
  | inr v =>
    obtain rfl := hq
    obtain ⟨y9, rfl⟩ := hr
    show WW _ _ _ 7 _ [.int y9, .int (nI 0), .ref ou] _
    refine WW.run (pc' := 8) (lv' := [(0, .ref o), (1, .int x), (2, .ref ou)]) (st' := [.long y9.toInt64, .int (nI 0), .ref ou]) 1 rfl ?_
    refine WW.last (f' := fun j => if j = 0 then y9.toInt64 else fL j) rfl k35 one_in rfl ?_
    refine WW.run (pc' := 16) (lv' := [(0, .ref o), (1, .int x), (2, .ref ou)]) (st' := [.int (nI 0)]) 2 rfl ?_
    exact WW.iret rfl rfl rfl ⟨l1.put (Or.inl ⟨rfl, rfl⟩), g1.putL (Or.inl rfl), _, wPut_same _ _ _ _, rfl, rfl⟩
theorem lW_level (x : Int32) (hO : isOf G w o hl inp sb I cur hn hist sv ic on oc) (h35 : w.1 35 ou = some (.inr (1, .inr (.inl fL)))) {r : Nat ⊕ Value} (hx : Sp l G MX1_level 8 1 6 [.ref o, .int x] w (oA G o hl inp sb I cur hn hist sv ic on oc [13] r w)) (hr : rOk 1 r) : Sp l G MX0_level 9 1 6 [.ref o, .int x, .ref ou] w (lA G o hl inp sb I cur hn hist sv ic on oc ou r w) := by
  obtain ⟨fs, hc⟩ := hO.cell
  refine Sp.ofH rfl (by decide +kernel) kX0_level (wd_le rfl) ?_
  refine WW.run (pc' := 4) (lv' := [(0, .ref o), (1, .int x), (2, .ref ou)]) (st' := [.int x, .ref o, .int (nI 0), .ref ou]) 4 rfl ?_
  refine WW.callV [.int x] o [.int (nI 0), .ref ou] rfl mX0_59 hx (wdRecv.obj hc rfl) rfl rfl (wd_le rfl) (wd_le rfl) (wd_le rfl) (wd_le rfl) (fun o w1 hq => ?_)
  obtain ⟨f1, g1, hq⟩ := hq
  have k35 : w1.1 35 ou = some (.inr (1, .inr (.inl fL))) := f1.2 _ _ _ h35 (Or.inr (Or.inr (Or.inl rfl)))
  have l1 : lFr inp 36 w w1 := lFr.of (Or.inr rfl) f1
  cases r with
  | inl p =>
    obtain ⟨ci, e, h1, rfl⟩ := hq
    obtain ⟨p1, p2⟩ := hr
    show WX _ _ _ 4 _ _ _ _ _
    obtain rfl : p = 1 := by omega
    cases h1
    refine WX.catch_ [] ⟨0, 9, 12, 28⟩ [] "java/lang/IndexOutOfBoundsException" rfl (fun z hz => by exact absurd hz List.not_mem_nil) rfl (by decide) q1040 nq1062 ?_
    refine WW.run (pc' := 14) (lv' := [(3, .ref e), (0, .ref o), (1, .int x), (2, .ref ou)]) (st' := [.int (nI 1)]) 2 rfl ?_
    exact WW.iret rfl rfl rfl ⟨l1, g1, _, k35, rfl⟩
  | inr v =>
    obtain rfl := hq
    obtain ⟨y9, rfl⟩ := hr
    show WW _ _ _ 7 _ [.int y9, .int (nI 0), .ref ou] _
    refine WW.run (pc' := 8) (lv' := [(0, .ref o), (1, .int x), (2, .ref ou)]) (st' := [.long y9.toInt64, .int (nI 0), .ref ou]) 1 rfl ?_
    refine WW.last (f' := fun j => if j = 0 then y9.toInt64 else fL j) rfl k35 one_in rfl ?_
    refine WW.run (pc' := 16) (lv' := [(0, .ref o), (1, .int x), (2, .ref ou)]) (st' := [.int (nI 0)]) 2 rfl ?_
    exact WW.iret rfl rfl rfl ⟨l1.put (Or.inl ⟨rfl, rfl⟩), g1.putL (Or.inl rfl), _, wPut_same _ _ _ _, rfl, rfl⟩
theorem lW_isLeased (x : Int32) (hO : isOf G w o hl inp sb I cur hn hist sv ic on oc) (h35 : w.1 35 ou = some (.inr (1, .inr (.inl fL)))) {r : Nat ⊕ Value} (hx : Sp l G MX1_isLeased 8 1 6 [.ref o, .int x] w (oA G o hl inp sb I cur hn hist sv ic on oc [13] r w)) (hr : rOb r) : Sp l G MX0_isLeased 9 1 6 [.ref o, .int x, .ref ou] w (lA G o hl inp sb I cur hn hist sv ic on oc ou r w) := by
  obtain ⟨fs, hc⟩ := hO.cell
  refine Sp.ofH rfl (by decide +kernel) kX0_isLeased (wd_le rfl) ?_
  refine WW.run (pc' := 4) (lv' := [(0, .ref o), (1, .int x), (2, .ref ou)]) (st' := [.int x, .ref o, .int (nI 0), .ref ou]) 4 rfl ?_
  refine WW.callV [.int x] o [.int (nI 0), .ref ou] rfl mX0_62 hx (wdRecv.obj hc rfl) rfl rfl (wd_le rfl) (wd_le rfl) (wd_le rfl) (wd_le rfl) (fun o w1 hq => ?_)
  obtain ⟨f1, g1, hq⟩ := hq
  have k35 : w1.1 35 ou = some (.inr (1, .inr (.inl fL))) := f1.2 _ _ _ h35 (Or.inr (Or.inr (Or.inl rfl)))
  have l1 : lFr inp 36 w w1 := lFr.of (Or.inr rfl) f1
  cases r with
  | inl p =>
    obtain ⟨ci, e, h1, rfl⟩ := hq
    have hr : p = 1 := hr
    have hr : 1 ≤ p ∧ p ≤ 1 := ⟨by omega, by omega⟩
    obtain ⟨p1, p2⟩ := hr
    show WX _ _ _ 4 _ _ _ _ _
    obtain rfl : p = 1 := by omega
    cases h1
    refine WX.catch_ [] ⟨0, 16, 19, 28⟩ [] "java/lang/IndexOutOfBoundsException" rfl (fun z hz => by exact absurd hz List.not_mem_nil) rfl (by decide) q1040 nq1062 ?_
    refine WW.run (pc' := 21) (lv' := [(3, .ref e), (0, .ref o), (1, .int x), (2, .ref ou)]) (st' := [.int (nI 1)]) 2 rfl ?_
    exact WW.iret rfl rfl rfl ⟨l1, g1, _, k35, rfl⟩
  | inr v =>
    obtain rfl := hq
    obtain ⟨b, rfl⟩ := hr
    show WW _ _ _ 7 _ [.int (bI b), .int (nI 0), .ref ou] _
    cases b with
    | true =>
      refine WW.if_eq (tgt := 14) rfl rfl (fun hno => absurd hno (by decide)) (fun _ => ?_)
      refine WW.run (pc' := 15) (lv' := [(0, .ref o), (1, .int x), (2, .ref ou)]) (st' := [.long (Int64.ofNat 1), .int (nI 0), .ref ou]) 2 rfl ?_
      refine WW.last (f' := fun j => if j = 0 then Int64.ofNat 1 else fL j) rfl k35 one_in rfl ?_
      refine WW.run (pc' := 23) (lv' := [(0, .ref o), (1, .int x), (2, .ref ou)]) (st' := [.int (nI 0)]) 2 rfl ?_
      exact WW.iret rfl rfl rfl ⟨l1.put (Or.inl ⟨rfl, rfl⟩), g1.putL (Or.inl rfl), _, wPut_same _ _ _ _, rfl, rfl⟩
    | false =>
      refine WW.if_eq (tgt := 14) rfl rfl (fun _ => ?_) (fun hno => absurd rfl hno)
      refine WW.run (pc' := 15) (lv' := [(0, .ref o), (1, .int x), (2, .ref ou)]) (st' := [.long (Int64.ofNat 0), .int (nI 0), .ref ou]) 1 rfl ?_
      refine WW.last (f' := fun j => if j = 0 then Int64.ofNat 0 else fL j) rfl k35 one_in rfl ?_
      refine WW.run (pc' := 23) (lv' := [(0, .ref o), (1, .int x), (2, .ref ou)]) (st' := [.int (nI 0)]) 2 rfl ?_
      exact WW.iret rfl rfl rfl ⟨l1.put (Or.inl ⟨rfl, rfl⟩), g1.putL (Or.inl rfl), _, wPut_same _ _ _ _, rfl, rfl⟩
theorem lW_lessee (x : Int32) (hO : isOf G w o hl inp sb I cur hn hist sv ic on oc) (h35 : w.1 35 ou = some (.inr (1, .inr (.inl fL)))) {r : Nat ⊕ Value} (hx : Sp l G MX1_lessee 9 2 12 [.ref o, .int x] w (oA G o hl inp sb I cur hn hist sv ic on oc [13, 16] r w)) (hr : rOk 2 r) : Sp l G MX0_lessee 10 2 12 [.ref o, .int x, .ref ou] w (lA G o hl inp sb I cur hn hist sv ic on oc ou r w) := by
  obtain ⟨fs, hc⟩ := hO.cell
  refine Sp.ofH rfl (by decide +kernel) kX0_lessee (wd_le rfl) ?_
  refine WW.run (pc' := 4) (lv' := [(0, .ref o), (1, .int x), (2, .ref ou)]) (st' := [.int x, .ref o, .int (nI 0), .ref ou]) 4 rfl ?_
  refine WW.callV [.int x] o [.int (nI 0), .ref ou] rfl mX0_66 hx (wdRecv.obj hc rfl) rfl rfl (wd_le rfl) (wd_le rfl) (wd_le rfl) (wd_le rfl) (fun o w1 hq => ?_)
  obtain ⟨f1, g1, hq⟩ := hq
  have k35 : w1.1 35 ou = some (.inr (1, .inr (.inl fL))) := f1.2 _ _ _ h35 (Or.inr (Or.inr (Or.inl rfl)))
  have l1 : lFr inp 36 w w1 := lFr.of (Or.inr rfl) f1
  cases r with
  | inl p =>
    obtain ⟨ci, e, h1, rfl⟩ := hq
    obtain ⟨p1, p2⟩ := hr
    show WX _ _ _ 4 _ _ _ _ _
    rcases Nat.lt_or_ge p 2 with p3 | p3
    · skip
      obtain rfl : p = 1 := by omega
      cases h1
      refine WX.catch_ [] ⟨0, 9, 12, 28⟩ [⟨0, 9, 15, 36⟩] "java/lang/IndexOutOfBoundsException" rfl (fun z hz => by exact absurd hz List.not_mem_nil) rfl (by decide) q1040 nq1062 ?_
      refine WW.run (pc' := 14) (lv' := [(3, .ref e), (0, .ref o), (1, .int x), (2, .ref ou)]) (st' := [.int (nI 1)]) 2 rfl ?_
      exact WW.iret rfl rfl rfl ⟨l1, g1, _, k35, rfl⟩
    obtain rfl : p = 2 := by omega
    cases h1
    refine WX.catch_ [⟨0, 9, 12, 28⟩] ⟨0, 9, 15, 36⟩ [] "java/util/NoSuchElementException" rfl (fun z hz => by rcases List.mem_cons.mp hz with rfl | hz; exact Or.inr ⟨by decide, _, q1040, List.mem_of_getElem? (i := 16) rfl⟩; exact absurd hz List.not_mem_nil) rfl (by decide) q1126 nq314 ?_
    refine WW.run (pc' := 17) (lv' := [(3, .ref e), (0, .ref o), (1, .int x), (2, .ref ou)]) (st' := [.int (nI 2)]) 2 rfl ?_
    exact WW.iret rfl rfl rfl ⟨l1, g1, _, k35, rfl⟩
  | inr v =>
    obtain rfl := hq
    obtain ⟨y9, rfl⟩ := hr
    show WW _ _ _ 7 _ [.int y9, .int (nI 0), .ref ou] _
    refine WW.run (pc' := 8) (lv' := [(0, .ref o), (1, .int x), (2, .ref ou)]) (st' := [.long y9.toInt64, .int (nI 0), .ref ou]) 1 rfl ?_
    refine WW.last (f' := fun j => if j = 0 then y9.toInt64 else fL j) rfl k35 one_in rfl ?_
    refine WW.run (pc' := 19) (lv' := [(0, .ref o), (1, .int x), (2, .ref ou)]) (st' := [.int (nI 0)]) 2 rfl ?_
    exact WW.iret rfl rfl rfl ⟨l1.put (Or.inl ⟨rfl, rfl⟩), g1.putL (Or.inl rfl), _, wPut_same _ _ _ _, rfl, rfl⟩
theorem lW_endHour (x : Int32) (hO : isOf G w o hl inp sb I cur hn hist sv ic on oc) (h35 : w.1 35 ou = some (.inr (1, .inr (.inl fL)))) {r : Nat ⊕ Value} (hx : Sp l G MX1_endHour 9 2 12 [.ref o, .int x] w (oA G o hl inp sb I cur hn hist sv ic on oc [13, 16] r w)) (hr : rOk 2 r) : Sp l G MX0_endHour 10 2 12 [.ref o, .int x, .ref ou] w (lA G o hl inp sb I cur hn hist sv ic on oc ou r w) := by
  obtain ⟨fs, hc⟩ := hO.cell
  refine Sp.ofH rfl (by decide +kernel) kX0_endHour (wd_le rfl) ?_
  refine WW.run (pc' := 4) (lv' := [(0, .ref o), (1, .int x), (2, .ref ou)]) (st' := [.int x, .ref o, .int (nI 0), .ref ou]) 4 rfl ?_
  refine WW.callV [.int x] o [.int (nI 0), .ref ou] rfl mX0_69 hx (wdRecv.obj hc rfl) rfl rfl (wd_le rfl) (wd_le rfl) (wd_le rfl) (wd_le rfl) (fun o w1 hq => ?_)
  obtain ⟨f1, g1, hq⟩ := hq
  have k35 : w1.1 35 ou = some (.inr (1, .inr (.inl fL))) := f1.2 _ _ _ h35 (Or.inr (Or.inr (Or.inl rfl)))
  have l1 : lFr inp 36 w w1 := lFr.of (Or.inr rfl) f1
  cases r with
  | inl p =>
    obtain ⟨ci, e, h1, rfl⟩ := hq
    obtain ⟨p1, p2⟩ := hr
    show WX _ _ _ 4 _ _ _ _ _
    rcases Nat.lt_or_ge p 2 with p3 | p3
    · skip
      obtain rfl : p = 1 := by omega
      cases h1
      refine WX.catch_ [] ⟨0, 9, 12, 28⟩ [⟨0, 9, 15, 36⟩] "java/lang/IndexOutOfBoundsException" rfl (fun z hz => by exact absurd hz List.not_mem_nil) rfl (by decide) q1040 nq1062 ?_
      refine WW.run (pc' := 14) (lv' := [(3, .ref e), (0, .ref o), (1, .int x), (2, .ref ou)]) (st' := [.int (nI 1)]) 2 rfl ?_
      exact WW.iret rfl rfl rfl ⟨l1, g1, _, k35, rfl⟩
    obtain rfl : p = 2 := by omega
    cases h1
    refine WX.catch_ [⟨0, 9, 12, 28⟩] ⟨0, 9, 15, 36⟩ [] "java/util/NoSuchElementException" rfl (fun z hz => by rcases List.mem_cons.mp hz with rfl | hz; exact Or.inr ⟨by decide, _, q1040, List.mem_of_getElem? (i := 16) rfl⟩; exact absurd hz List.not_mem_nil) rfl (by decide) q1126 nq314 ?_
    refine WW.run (pc' := 17) (lv' := [(3, .ref e), (0, .ref o), (1, .int x), (2, .ref ou)]) (st' := [.int (nI 2)]) 2 rfl ?_
    exact WW.iret rfl rfl rfl ⟨l1, g1, _, k35, rfl⟩
  | inr v =>
    obtain rfl := hq
    obtain ⟨y9, rfl⟩ := hr
    show WW _ _ _ 7 _ [.int y9, .int (nI 0), .ref ou] _
    refine WW.run (pc' := 8) (lv' := [(0, .ref o), (1, .int x), (2, .ref ou)]) (st' := [.long y9.toInt64, .int (nI 0), .ref ou]) 1 rfl ?_
    refine WW.last (f' := fun j => if j = 0 then y9.toInt64 else fL j) rfl k35 one_in rfl ?_
    refine WW.run (pc' := 19) (lv' := [(0, .ref o), (1, .int x), (2, .ref ou)]) (st' := [.int (nI 0)]) 2 rfl ?_
    exact WW.iret rfl rfl rfl ⟨l1.put (Or.inl ⟨rfl, rfl⟩), g1.putL (Or.inl rfl), _, wPut_same _ _ _ _, rfl, rfl⟩
theorem lW_brightHours (x : Int32) (hO : isOf G w o hl inp sb I cur hn hist sv ic on oc) (h35 : w.1 35 ou = some (.inr (1, .inr (.inl fL)))) {r : Nat ⊕ Value} (hx : Sp l G MX1_brightHours 8 1 6 [.ref o, .int x] w (oA G o hl inp sb I cur hn hist sv ic on oc [13] r w)) (hr : rOk 1 r) : Sp l G MX0_brightHours 9 1 6 [.ref o, .int x, .ref ou] w (lA G o hl inp sb I cur hn hist sv ic on oc ou r w) := by
  obtain ⟨fs, hc⟩ := hO.cell
  refine Sp.ofH rfl (by decide +kernel) kX0_brightHours (wd_le rfl) ?_
  refine WW.run (pc' := 4) (lv' := [(0, .ref o), (1, .int x), (2, .ref ou)]) (st' := [.int x, .ref o, .int (nI 0), .ref ou]) 4 rfl ?_
  refine WW.callV [.int x] o [.int (nI 0), .ref ou] rfl mX0_72 hx (wdRecv.obj hc rfl) rfl rfl (wd_le rfl) (wd_le rfl) (wd_le rfl) (wd_le rfl) (fun o w1 hq => ?_)
  obtain ⟨f1, g1, hq⟩ := hq
  have k35 : w1.1 35 ou = some (.inr (1, .inr (.inl fL))) := f1.2 _ _ _ h35 (Or.inr (Or.inr (Or.inl rfl)))
  have l1 : lFr inp 36 w w1 := lFr.of (Or.inr rfl) f1
  cases r with
  | inl p =>
    obtain ⟨ci, e, h1, rfl⟩ := hq
    obtain ⟨p1, p2⟩ := hr
    show WX _ _ _ 4 _ _ _ _ _
    obtain rfl : p = 1 := by omega
    cases h1
    refine WX.catch_ [] ⟨0, 9, 12, 28⟩ [] "java/lang/IndexOutOfBoundsException" rfl (fun z hz => by exact absurd hz List.not_mem_nil) rfl (by decide) q1040 nq1062 ?_
    refine WW.run (pc' := 14) (lv' := [(3, .ref e), (0, .ref o), (1, .int x), (2, .ref ou)]) (st' := [.int (nI 1)]) 2 rfl ?_
    exact WW.iret rfl rfl rfl ⟨l1, g1, _, k35, rfl⟩
  | inr v =>
    obtain rfl := hq
    obtain ⟨y9, rfl⟩ := hr
    show WW _ _ _ 7 _ [.int y9, .int (nI 0), .ref ou] _
    refine WW.run (pc' := 8) (lv' := [(0, .ref o), (1, .int x), (2, .ref ou)]) (st' := [.long y9.toInt64, .int (nI 0), .ref ou]) 1 rfl ?_
    refine WW.last (f' := fun j => if j = 0 then y9.toInt64 else fL j) rfl k35 one_in rfl ?_
    refine WW.run (pc' := 16) (lv' := [(0, .ref o), (1, .int x), (2, .ref ou)]) (st' := [.int (nI 0)]) 2 rfl ?_
    exact WW.iret rfl rfl rfl ⟨l1.put (Or.inl ⟨rfl, rfl⟩), g1.putL (Or.inl rfl), _, wPut_same _ _ _ _, rfl, rfl⟩
theorem lW_wasBright (x : Int32) (hO : isOf G w o hl inp sb I cur hn hist sv ic on oc) (h35 : w.1 35 ou = some (.inr (1, .inr (.inl fL)))) {r : Nat ⊕ Value} (hx : Sp l G MX1_wasBright 8 1 6 [.ref o, .int x] w (oA G o hl inp sb I cur hn hist sv ic on oc [13] r w)) (hr : rOb r) : Sp l G MX0_wasBright 9 1 6 [.ref o, .int x, .ref ou] w (lA G o hl inp sb I cur hn hist sv ic on oc ou r w) := by
  obtain ⟨fs, hc⟩ := hO.cell
  refine Sp.ofH rfl (by decide +kernel) kX0_wasBright (wd_le rfl) ?_
  refine WW.run (pc' := 4) (lv' := [(0, .ref o), (1, .int x), (2, .ref ou)]) (st' := [.int x, .ref o, .int (nI 0), .ref ou]) 4 rfl ?_
  refine WW.callV [.int x] o [.int (nI 0), .ref ou] rfl mX0_75 hx (wdRecv.obj hc rfl) rfl rfl (wd_le rfl) (wd_le rfl) (wd_le rfl) (wd_le rfl) (fun o w1 hq => ?_)
  obtain ⟨f1, g1, hq⟩ := hq
  have k35 : w1.1 35 ou = some (.inr (1, .inr (.inl fL))) := f1.2 _ _ _ h35 (Or.inr (Or.inr (Or.inl rfl)))
  have l1 : lFr inp 36 w w1 := lFr.of (Or.inr rfl) f1
  cases r with
  | inl p =>
    obtain ⟨ci, e, h1, rfl⟩ := hq
    have hr : p = 1 := hr
    have hr : 1 ≤ p ∧ p ≤ 1 := ⟨by omega, by omega⟩
    obtain ⟨p1, p2⟩ := hr
    show WX _ _ _ 4 _ _ _ _ _
    obtain rfl : p = 1 := by omega
    cases h1
    refine WX.catch_ [] ⟨0, 16, 19, 28⟩ [] "java/lang/IndexOutOfBoundsException" rfl (fun z hz => by exact absurd hz List.not_mem_nil) rfl (by decide) q1040 nq1062 ?_
    refine WW.run (pc' := 21) (lv' := [(3, .ref e), (0, .ref o), (1, .int x), (2, .ref ou)]) (st' := [.int (nI 1)]) 2 rfl ?_
    exact WW.iret rfl rfl rfl ⟨l1, g1, _, k35, rfl⟩
  | inr v =>
    obtain rfl := hq
    obtain ⟨b, rfl⟩ := hr
    show WW _ _ _ 7 _ [.int (bI b), .int (nI 0), .ref ou] _
    cases b with
    | true =>
      refine WW.if_eq (tgt := 14) rfl rfl (fun hno => absurd hno (by decide)) (fun _ => ?_)
      refine WW.run (pc' := 15) (lv' := [(0, .ref o), (1, .int x), (2, .ref ou)]) (st' := [.long (Int64.ofNat 1), .int (nI 0), .ref ou]) 2 rfl ?_
      refine WW.last (f' := fun j => if j = 0 then Int64.ofNat 1 else fL j) rfl k35 one_in rfl ?_
      refine WW.run (pc' := 23) (lv' := [(0, .ref o), (1, .int x), (2, .ref ou)]) (st' := [.int (nI 0)]) 2 rfl ?_
      exact WW.iret rfl rfl rfl ⟨l1.put (Or.inl ⟨rfl, rfl⟩), g1.putL (Or.inl rfl), _, wPut_same _ _ _ _, rfl, rfl⟩
    | false =>
      refine WW.if_eq (tgt := 14) rfl rfl (fun _ => ?_) (fun hno => absurd rfl hno)
      refine WW.run (pc' := 15) (lv' := [(0, .ref o), (1, .int x), (2, .ref ou)]) (st' := [.long (Int64.ofNat 0), .int (nI 0), .ref ou]) 1 rfl ?_
      refine WW.last (f' := fun j => if j = 0 then Int64.ofNat 0 else fL j) rfl k35 one_in rfl ?_
      refine WW.run (pc' := 23) (lv' := [(0, .ref o), (1, .int x), (2, .ref ou)]) (st' := [.int (nI 0)]) 2 rfl ?_
      exact WW.iret rfl rfl rfl ⟨l1.put (Or.inl ⟨rfl, rfl⟩), g1.putL (Or.inl rfl), _, wPut_same _ _ _ _, rfl, rfl⟩
theorem lW_hoursOfOil (hO : isOf G w o hl inp sb I cur hn hist sv ic on oc) (h35 : w.1 35 ou = some (.inr (1, .inr (.inl fL)))) {r : Nat ⊕ Value} (hx : Sp l G MX1_hoursOfOil 8 2061 8346 [.ref o] w (oA G o hl inp sb I cur hn hist sv ic on oc [16] r w)) (hr : rOk 1 r) : Sp l G MX0_hoursOfOil 9 2061 8346 [.ref o, .ref ou] w (lA G o hl inp sb I cur hn hist sv ic on oc ou r w) := by
  obtain ⟨fs, hc⟩ := hO.cell
  refine Sp.ofH rfl (by decide +kernel) kX0_hoursOfOil (wd_le rfl) ?_
  refine WW.run (pc' := 3) (lv' := [(0, .ref o), (1, .ref ou)]) (st' := [.ref o, .int (nI 0), .ref ou]) 3 rfl ?_
  refine WW.callV [] o [.int (nI 0), .ref ou] rfl mX0_78 hx (wdRecv.obj hc rfl) rfl rfl (wd_le rfl) (wd_le rfl) (wd_le rfl) (wd_le rfl) (fun o w1 hq => ?_)
  obtain ⟨f1, g1, hq⟩ := hq
  have k35 : w1.1 35 ou = some (.inr (1, .inr (.inl fL))) := f1.2 _ _ _ h35 (Or.inr (Or.inr (Or.inl rfl)))
  have l1 : lFr inp 36 w w1 := lFr.of (Or.inr rfl) f1
  cases r with
  | inl p =>
    obtain ⟨ci, e, h1, rfl⟩ := hq
    obtain ⟨p1, p2⟩ := hr
    show WX _ _ _ 3 _ _ _ _ _
    obtain rfl : p = 1 := by omega
    cases h1
    refine WX.catch_ [] ⟨0, 8, 11, 36⟩ [] "java/util/NoSuchElementException" rfl (fun z hz => by exact absurd hz List.not_mem_nil) rfl (by decide) q1126 nq314 ?_
    refine WW.run (pc' := 13) (lv' := [(2, .ref e), (0, .ref o), (1, .ref ou)]) (st' := [.int (nI 1)]) 2 rfl ?_
    exact WW.iret rfl rfl rfl ⟨l1, g1, _, k35, rfl⟩
  | inr v =>
    obtain rfl := hq
    obtain ⟨y9, rfl⟩ := hr
    show WW _ _ _ 6 _ [.int y9, .int (nI 0), .ref ou] _
    refine WW.run (pc' := 7) (lv' := [(0, .ref o), (1, .ref ou)]) (st' := [.long y9.toInt64, .int (nI 0), .ref ou]) 1 rfl ?_
    refine WW.last (f' := fun j => if j = 0 then y9.toInt64 else fL j) rfl k35 one_in rfl ?_
    refine WW.run (pc' := 15) (lv' := [(0, .ref o), (1, .ref ou)]) (st' := [.int (nI 0)]) 2 rfl ?_
    exact WW.iret rfl rfl rfl ⟨l1.put (Or.inl ⟨rfl, rfl⟩), g1.putL (Or.inl rfl), _, wPut_same _ _ _ _, rfl, rfl⟩
theorem lW_hoursOfOilByEnds (hO : isOf G w o hl inp sb I cur hn hist sv ic on oc) (h35 : w.1 35 ou = some (.inr (1, .inr (.inl fL)))) {r : Nat ⊕ Value} (hx : Sp l G MX1_hoursOfOilByEnds 8 2061 8346 [.ref o] w (oA G o hl inp sb I cur hn hist sv ic on oc [16] r w)) (hr : rOk 1 r) : Sp l G MX0_hoursOfOilByEnds 9 2061 8346 [.ref o, .ref ou] w (lA G o hl inp sb I cur hn hist sv ic on oc ou r w) := by
  obtain ⟨fs, hc⟩ := hO.cell
  refine Sp.ofH rfl (by decide +kernel) kX0_hoursOfOilByEnds (wd_le rfl) ?_
  refine WW.run (pc' := 3) (lv' := [(0, .ref o), (1, .ref ou)]) (st' := [.ref o, .int (nI 0), .ref ou]) 3 rfl ?_
  refine WW.callV [] o [.int (nI 0), .ref ou] rfl mX0_81 hx (wdRecv.obj hc rfl) rfl rfl (wd_le rfl) (wd_le rfl) (wd_le rfl) (wd_le rfl) (fun o w1 hq => ?_)
  obtain ⟨f1, g1, hq⟩ := hq
  have k35 : w1.1 35 ou = some (.inr (1, .inr (.inl fL))) := f1.2 _ _ _ h35 (Or.inr (Or.inr (Or.inl rfl)))
  have l1 : lFr inp 36 w w1 := lFr.of (Or.inr rfl) f1
  cases r with
  | inl p =>
    obtain ⟨ci, e, h1, rfl⟩ := hq
    obtain ⟨p1, p2⟩ := hr
    show WX _ _ _ 3 _ _ _ _ _
    obtain rfl : p = 1 := by omega
    cases h1
    refine WX.catch_ [] ⟨0, 8, 11, 36⟩ [] "java/util/NoSuchElementException" rfl (fun z hz => by exact absurd hz List.not_mem_nil) rfl (by decide) q1126 nq314 ?_
    refine WW.run (pc' := 13) (lv' := [(2, .ref e), (0, .ref o), (1, .ref ou)]) (st' := [.int (nI 1)]) 2 rfl ?_
    exact WW.iret rfl rfl rfl ⟨l1, g1, _, k35, rfl⟩
  | inr v =>
    obtain rfl := hq
    obtain ⟨y9, rfl⟩ := hr
    show WW _ _ _ 6 _ [.int y9, .int (nI 0), .ref ou] _
    refine WW.run (pc' := 7) (lv' := [(0, .ref o), (1, .ref ou)]) (st' := [.long y9.toInt64, .int (nI 0), .ref ou]) 1 rfl ?_
    refine WW.last (f' := fun j => if j = 0 then y9.toInt64 else fL j) rfl k35 one_in rfl ?_
    refine WW.run (pc' := 15) (lv' := [(0, .ref o), (1, .ref ou)]) (st' := [.int (nI 0)]) 2 rfl ?_
    exact WW.iret rfl rfl rfl ⟨l1.put (Or.inl ⟨rfl, rfl⟩), g1.putL (Or.inl rfl), _, wPut_same _ _ _ _, rfl, rfl⟩
theorem lW_share (x : Int32) (hO : isOf G w o hl inp sb I cur hn hist sv ic on oc) (h35 : w.1 35 ou = some (.inr (1, .inr (.inl fL)))) {r : Nat ⊕ Value} (hx : Sp l G MX1_share 8 2061 8346 [.ref o, .int x] w (oA G o hl inp sb I cur hn hist sv ic on oc [13] r w)) (hr : rOk 1 r) : Sp l G MX0_share 9 2061 8346 [.ref o, .int x, .ref ou] w (lA G o hl inp sb I cur hn hist sv ic on oc ou r w) := by
  obtain ⟨fs, hc⟩ := hO.cell
  refine Sp.ofH rfl (by decide +kernel) kX0_share (wd_le rfl) ?_
  refine WW.run (pc' := 4) (lv' := [(0, .ref o), (1, .int x), (2, .ref ou)]) (st' := [.int x, .ref o, .int (nI 0), .ref ou]) 4 rfl ?_
  refine WW.callV [.int x] o [.int (nI 0), .ref ou] rfl mX0_84 hx (wdRecv.obj hc rfl) rfl rfl (wd_le rfl) (wd_le rfl) (wd_le rfl) (wd_le rfl) (fun o w1 hq => ?_)
  obtain ⟨f1, g1, hq⟩ := hq
  have k35 : w1.1 35 ou = some (.inr (1, .inr (.inl fL))) := f1.2 _ _ _ h35 (Or.inr (Or.inr (Or.inl rfl)))
  have l1 : lFr inp 36 w w1 := lFr.of (Or.inr rfl) f1
  cases r with
  | inl p =>
    obtain ⟨ci, e, h1, rfl⟩ := hq
    obtain ⟨p1, p2⟩ := hr
    show WX _ _ _ 4 _ _ _ _ _
    obtain rfl : p = 1 := by omega
    cases h1
    refine WX.catch_ [] ⟨0, 9, 12, 28⟩ [] "java/lang/IndexOutOfBoundsException" rfl (fun z hz => by exact absurd hz List.not_mem_nil) rfl (by decide) q1040 nq1062 ?_
    refine WW.run (pc' := 14) (lv' := [(3, .ref e), (0, .ref o), (1, .int x), (2, .ref ou)]) (st' := [.int (nI 1)]) 2 rfl ?_
    exact WW.iret rfl rfl rfl ⟨l1, g1, _, k35, rfl⟩
  | inr v =>
    obtain rfl := hq
    obtain ⟨y9, rfl⟩ := hr
    show WW _ _ _ 7 _ [.int y9, .int (nI 0), .ref ou] _
    refine WW.run (pc' := 8) (lv' := [(0, .ref o), (1, .int x), (2, .ref ou)]) (st' := [.long y9.toInt64, .int (nI 0), .ref ou]) 1 rfl ?_
    refine WW.last (f' := fun j => if j = 0 then y9.toInt64 else fL j) rfl k35 one_in rfl ?_
    refine WW.run (pc' := 16) (lv' := [(0, .ref o), (1, .int x), (2, .ref ou)]) (st' := [.int (nI 0)]) 2 rfl ?_
    exact WW.iret rfl rfl rfl ⟨l1.put (Or.inl ⟨rfl, rfl⟩), g1.putL (Or.inl rfl), _, wPut_same _ _ _ _, rfl, rfl⟩
theorem lW_shareByRank (x : Int32) (hO : isOf G w o hl inp sb I cur hn hist sv ic on oc) (h35 : w.1 35 ou = some (.inr (1, .inr (.inl fL)))) {r : Nat ⊕ Value} (hx : Sp l G MX1_shareByRank 8 2061 8346 [.ref o, .int x] w (oA G o hl inp sb I cur hn hist sv ic on oc [13] r w)) (hr : rOk 1 r) : Sp l G MX0_shareByRank 9 2061 8346 [.ref o, .int x, .ref ou] w (lA G o hl inp sb I cur hn hist sv ic on oc ou r w) := by
  obtain ⟨fs, hc⟩ := hO.cell
  refine Sp.ofH rfl (by decide +kernel) kX0_shareByRank (wd_le rfl) ?_
  refine WW.run (pc' := 4) (lv' := [(0, .ref o), (1, .int x), (2, .ref ou)]) (st' := [.int x, .ref o, .int (nI 0), .ref ou]) 4 rfl ?_
  refine WW.callV [.int x] o [.int (nI 0), .ref ou] rfl mX0_87 hx (wdRecv.obj hc rfl) rfl rfl (wd_le rfl) (wd_le rfl) (wd_le rfl) (wd_le rfl) (fun o w1 hq => ?_)
  obtain ⟨f1, g1, hq⟩ := hq
  have k35 : w1.1 35 ou = some (.inr (1, .inr (.inl fL))) := f1.2 _ _ _ h35 (Or.inr (Or.inr (Or.inl rfl)))
  have l1 : lFr inp 36 w w1 := lFr.of (Or.inr rfl) f1
  cases r with
  | inl p =>
    obtain ⟨ci, e, h1, rfl⟩ := hq
    obtain ⟨p1, p2⟩ := hr
    show WX _ _ _ 4 _ _ _ _ _
    obtain rfl : p = 1 := by omega
    cases h1
    refine WX.catch_ [] ⟨0, 9, 12, 28⟩ [] "java/lang/IndexOutOfBoundsException" rfl (fun z hz => by exact absurd hz List.not_mem_nil) rfl (by decide) q1040 nq1062 ?_
    refine WW.run (pc' := 14) (lv' := [(3, .ref e), (0, .ref o), (1, .int x), (2, .ref ou)]) (st' := [.int (nI 1)]) 2 rfl ?_
    exact WW.iret rfl rfl rfl ⟨l1, g1, _, k35, rfl⟩
  | inr v =>
    obtain rfl := hq
    obtain ⟨y9, rfl⟩ := hr
    show WW _ _ _ 7 _ [.int y9, .int (nI 0), .ref ou] _
    refine WW.run (pc' := 8) (lv' := [(0, .ref o), (1, .int x), (2, .ref ou)]) (st' := [.long y9.toInt64, .int (nI 0), .ref ou]) 1 rfl ?_
    refine WW.last (f' := fun j => if j = 0 then y9.toInt64 else fL j) rfl k35 one_in rfl ?_
    refine WW.run (pc' := 16) (lv' := [(0, .ref o), (1, .int x), (2, .ref ou)]) (st' := [.int (nI 0)]) 2 rfl ?_
    exact WW.iret rfl rfl rfl ⟨l1.put (Or.inl ⟨rfl, rfl⟩), g1.putL (Or.inl rfl), _, wPut_same _ _ _ _, rfl, rfl⟩
theorem lW_requestedLamp (x : Int32) (hO : isOf G w o hl inp sb I cur hn hist sv ic on oc) (h35 : w.1 35 ou = some (.inr (1, .inr (.inl fL)))) {r : Nat ⊕ Value} (hx : Sp l G MX1_requestedLamp 8 1 6 [.ref o, .int x] w (oA G o hl inp sb I cur hn hist sv ic on oc [16] r w)) (hr : rOk 1 r) : Sp l G MX0_requestedLamp 9 1 6 [.ref o, .int x, .ref ou] w (lA G o hl inp sb I cur hn hist sv ic on oc ou r w) := by
  obtain ⟨fs, hc⟩ := hO.cell
  refine Sp.ofH rfl (by decide +kernel) kX0_requestedLamp (wd_le rfl) ?_
  refine WW.run (pc' := 4) (lv' := [(0, .ref o), (1, .int x), (2, .ref ou)]) (st' := [.int x, .ref o, .int (nI 0), .ref ou]) 4 rfl ?_
  refine WW.callV [.int x] o [.int (nI 0), .ref ou] rfl mX0_90 hx (wdRecv.obj hc rfl) rfl rfl (wd_le rfl) (wd_le rfl) (wd_le rfl) (wd_le rfl) (fun o w1 hq => ?_)
  obtain ⟨f1, g1, hq⟩ := hq
  have k35 : w1.1 35 ou = some (.inr (1, .inr (.inl fL))) := f1.2 _ _ _ h35 (Or.inr (Or.inr (Or.inl rfl)))
  have l1 : lFr inp 36 w w1 := lFr.of (Or.inr rfl) f1
  cases r with
  | inl p =>
    obtain ⟨ci, e, h1, rfl⟩ := hq
    obtain ⟨p1, p2⟩ := hr
    show WX _ _ _ 4 _ _ _ _ _
    obtain rfl : p = 1 := by omega
    cases h1
    refine WX.catch_ [] ⟨0, 9, 12, 36⟩ [] "java/util/NoSuchElementException" rfl (fun z hz => by exact absurd hz List.not_mem_nil) rfl (by decide) q1126 nq314 ?_
    refine WW.run (pc' := 14) (lv' := [(3, .ref e), (0, .ref o), (1, .int x), (2, .ref ou)]) (st' := [.int (nI 1)]) 2 rfl ?_
    exact WW.iret rfl rfl rfl ⟨l1, g1, _, k35, rfl⟩
  | inr v =>
    obtain rfl := hq
    obtain ⟨y9, rfl⟩ := hr
    show WW _ _ _ 7 _ [.int y9, .int (nI 0), .ref ou] _
    refine WW.run (pc' := 8) (lv' := [(0, .ref o), (1, .int x), (2, .ref ou)]) (st' := [.long y9.toInt64, .int (nI 0), .ref ou]) 1 rfl ?_
    refine WW.last (f' := fun j => if j = 0 then y9.toInt64 else fL j) rfl k35 one_in rfl ?_
    refine WW.run (pc' := 16) (lv' := [(0, .ref o), (1, .int x), (2, .ref ou)]) (st' := [.int (nI 0)]) 2 rfl ?_
    exact WW.iret rfl rfl rfl ⟨l1.put (Or.inl ⟨rfl, rfl⟩), g1.putL (Or.inl rfl), _, wPut_same _ _ _ _, rfl, rfl⟩
theorem lW_requestedHours (x : Int32) (hO : isOf G w o hl inp sb I cur hn hist sv ic on oc) (h35 : w.1 35 ou = some (.inr (1, .inr (.inl fL)))) {r : Nat ⊕ Value} (hx : Sp l G MX1_requestedHours 8 1 6 [.ref o, .int x] w (oA G o hl inp sb I cur hn hist sv ic on oc [16] r w)) (hr : rOk 1 r) : Sp l G MX0_requestedHours 9 1 6 [.ref o, .int x, .ref ou] w (lA G o hl inp sb I cur hn hist sv ic on oc ou r w) := by
  obtain ⟨fs, hc⟩ := hO.cell
  refine Sp.ofH rfl (by decide +kernel) kX0_requestedHours (wd_le rfl) ?_
  refine WW.run (pc' := 4) (lv' := [(0, .ref o), (1, .int x), (2, .ref ou)]) (st' := [.int x, .ref o, .int (nI 0), .ref ou]) 4 rfl ?_
  refine WW.callV [.int x] o [.int (nI 0), .ref ou] rfl mX0_93 hx (wdRecv.obj hc rfl) rfl rfl (wd_le rfl) (wd_le rfl) (wd_le rfl) (wd_le rfl) (fun o w1 hq => ?_)
  obtain ⟨f1, g1, hq⟩ := hq
  have k35 : w1.1 35 ou = some (.inr (1, .inr (.inl fL))) := f1.2 _ _ _ h35 (Or.inr (Or.inr (Or.inl rfl)))
  have l1 : lFr inp 36 w w1 := lFr.of (Or.inr rfl) f1
  cases r with
  | inl p =>
    obtain ⟨ci, e, h1, rfl⟩ := hq
    obtain ⟨p1, p2⟩ := hr
    show WX _ _ _ 4 _ _ _ _ _
    obtain rfl : p = 1 := by omega
    cases h1
    refine WX.catch_ [] ⟨0, 9, 12, 36⟩ [] "java/util/NoSuchElementException" rfl (fun z hz => by exact absurd hz List.not_mem_nil) rfl (by decide) q1126 nq314 ?_
    refine WW.run (pc' := 14) (lv' := [(3, .ref e), (0, .ref o), (1, .int x), (2, .ref ou)]) (st' := [.int (nI 1)]) 2 rfl ?_
    exact WW.iret rfl rfl rfl ⟨l1, g1, _, k35, rfl⟩
  | inr v =>
    obtain rfl := hq
    obtain ⟨y9, rfl⟩ := hr
    show WW _ _ _ 7 _ [.int y9, .int (nI 0), .ref ou] _
    refine WW.run (pc' := 8) (lv' := [(0, .ref o), (1, .int x), (2, .ref ou)]) (st' := [.long y9.toInt64, .int (nI 0), .ref ou]) 1 rfl ?_
    refine WW.last (f' := fun j => if j = 0 then y9.toInt64 else fL j) rfl k35 one_in rfl ?_
    refine WW.run (pc' := 16) (lv' := [(0, .ref o), (1, .int x), (2, .ref ou)]) (st' := [.int (nI 0)]) 2 rfl ?_
    exact WW.iret rfl rfl rfl ⟨l1.put (Or.inl ⟨rfl, rfl⟩), g1.putL (Or.inl rfl), _, wPut_same _ _ _ _, rfl, rfl⟩
theorem lW_shipByFines (x : Int32) (hO : isOf G w o hl inp sb I cur hn hist sv ic on oc) (h35 : w.1 35 ou = some (.inr (1, .inr (.inl fL)))) {r : Nat ⊕ Value} (hx : Sp l G MX1_shipByFines 8 2061 8346 [.ref o, .int x] w (oA G o hl inp sb I cur hn hist sv ic on oc [16] r w)) (hr : rOk 1 r) : Sp l G MX0_shipByFines 9 2061 8346 [.ref o, .int x, .ref ou] w (lA G o hl inp sb I cur hn hist sv ic on oc ou r w) := by
  obtain ⟨fs, hc⟩ := hO.cell
  refine Sp.ofH rfl (by decide +kernel) kX0_shipByFines (wd_le rfl) ?_
  refine WW.run (pc' := 4) (lv' := [(0, .ref o), (1, .int x), (2, .ref ou)]) (st' := [.int x, .ref o, .int (nI 0), .ref ou]) 4 rfl ?_
  refine WW.callV [.int x] o [.int (nI 0), .ref ou] rfl mX0_96 hx (wdRecv.obj hc rfl) rfl rfl (wd_le rfl) (wd_le rfl) (wd_le rfl) (wd_le rfl) (fun o w1 hq => ?_)
  obtain ⟨f1, g1, hq⟩ := hq
  have k35 : w1.1 35 ou = some (.inr (1, .inr (.inl fL))) := f1.2 _ _ _ h35 (Or.inr (Or.inr (Or.inl rfl)))
  have l1 : lFr inp 36 w w1 := lFr.of (Or.inr rfl) f1
  cases r with
  | inl p =>
    obtain ⟨ci, e, h1, rfl⟩ := hq
    obtain ⟨p1, p2⟩ := hr
    show WX _ _ _ 4 _ _ _ _ _
    obtain rfl : p = 1 := by omega
    cases h1
    refine WX.catch_ [] ⟨0, 9, 12, 36⟩ [] "java/util/NoSuchElementException" rfl (fun z hz => by exact absurd hz List.not_mem_nil) rfl (by decide) q1126 nq314 ?_
    refine WW.run (pc' := 14) (lv' := [(3, .ref e), (0, .ref o), (1, .int x), (2, .ref ou)]) (st' := [.int (nI 1)]) 2 rfl ?_
    exact WW.iret rfl rfl rfl ⟨l1, g1, _, k35, rfl⟩
  | inr v =>
    obtain rfl := hq
    obtain ⟨y9, rfl⟩ := hr
    show WW _ _ _ 7 _ [.int y9, .int (nI 0), .ref ou] _
    refine WW.run (pc' := 8) (lv' := [(0, .ref o), (1, .int x), (2, .ref ou)]) (st' := [.long y9.toInt64, .int (nI 0), .ref ou]) 1 rfl ?_
    refine WW.last (f' := fun j => if j = 0 then y9.toInt64 else fL j) rfl k35 one_in rfl ?_
    refine WW.run (pc' := 16) (lv' := [(0, .ref o), (1, .int x), (2, .ref ou)]) (st' := [.int (nI 0)]) 2 rfl ?_
    exact WW.iret rfl rfl rfl ⟨l1.put (Or.inl ⟨rfl, rfl⟩), g1.putL (Or.inl rfl), _, wPut_same _ _ _ _, rfl, rfl⟩
theorem lW_lampByEnd (x : Int32) (hO : isOf G w o hl inp sb I cur hn hist sv ic on oc) (h35 : w.1 35 ou = some (.inr (1, .inr (.inl fL)))) {r : Nat ⊕ Value} (hx : Sp l G MX1_lampByEnd 8 2061 8346 [.ref o, .int x] w (oA G o hl inp sb I cur hn hist sv ic on oc [16] r w)) (hr : rOk 1 r) : Sp l G MX0_lampByEnd 9 2061 8346 [.ref o, .int x, .ref ou] w (lA G o hl inp sb I cur hn hist sv ic on oc ou r w) := by
  obtain ⟨fs, hc⟩ := hO.cell
  refine Sp.ofH rfl (by decide +kernel) kX0_lampByEnd (wd_le rfl) ?_
  refine WW.run (pc' := 4) (lv' := [(0, .ref o), (1, .int x), (2, .ref ou)]) (st' := [.int x, .ref o, .int (nI 0), .ref ou]) 4 rfl ?_
  refine WW.callV [.int x] o [.int (nI 0), .ref ou] rfl mX0_99 hx (wdRecv.obj hc rfl) rfl rfl (wd_le rfl) (wd_le rfl) (wd_le rfl) (wd_le rfl) (fun o w1 hq => ?_)
  obtain ⟨f1, g1, hq⟩ := hq
  have k35 : w1.1 35 ou = some (.inr (1, .inr (.inl fL))) := f1.2 _ _ _ h35 (Or.inr (Or.inr (Or.inl rfl)))
  have l1 : lFr inp 36 w w1 := lFr.of (Or.inr rfl) f1
  cases r with
  | inl p =>
    obtain ⟨ci, e, h1, rfl⟩ := hq
    obtain ⟨p1, p2⟩ := hr
    show WX _ _ _ 4 _ _ _ _ _
    obtain rfl : p = 1 := by omega
    cases h1
    refine WX.catch_ [] ⟨0, 9, 12, 36⟩ [] "java/util/NoSuchElementException" rfl (fun z hz => by exact absurd hz List.not_mem_nil) rfl (by decide) q1126 nq314 ?_
    refine WW.run (pc' := 14) (lv' := [(3, .ref e), (0, .ref o), (1, .int x), (2, .ref ou)]) (st' := [.int (nI 1)]) 2 rfl ?_
    exact WW.iret rfl rfl rfl ⟨l1, g1, _, k35, rfl⟩
  | inr v =>
    obtain rfl := hq
    obtain ⟨y9, rfl⟩ := hr
    show WW _ _ _ 7 _ [.int y9, .int (nI 0), .ref ou] _
    refine WW.run (pc' := 8) (lv' := [(0, .ref o), (1, .int x), (2, .ref ou)]) (st' := [.long y9.toInt64, .int (nI 0), .ref ou]) 1 rfl ?_
    refine WW.last (f' := fun j => if j = 0 then y9.toInt64 else fL j) rfl k35 one_in rfl ?_
    refine WW.run (pc' := 16) (lv' := [(0, .ref o), (1, .int x), (2, .ref ou)]) (st' := [.int (nI 0)]) 2 rfl ?_
    exact WW.iret rfl rfl rfl ⟨l1.put (Or.inl ⟨rfl, rfl⟩), g1.putL (Or.inl rfl), _, wPut_same _ _ _ _, rfl, rfl⟩
theorem lW_errorPosition (hO : isOf G w o hl inp sb I cur hn hist sv ic on oc) (h35 : w.1 35 ou = some (.inr (1, .inr (.inl fL)))) {r : Nat ⊕ Value} (hx : Sp l G MX1_errorPosition 7 1 6 [.ref o] w (oA G o hl inp sb I cur hn hist sv ic on oc [16] r w)) (hr : rOk 1 r) : Sp l G MX0_errorPosition 8 1 6 [.ref o, .ref ou] w (lA G o hl inp sb I cur hn hist sv ic on oc ou r w) := by
  obtain ⟨fs, hc⟩ := hO.cell
  refine Sp.ofH rfl (by decide +kernel) kX0_errorPosition (wd_le rfl) ?_
  refine WW.run (pc' := 3) (lv' := [(0, .ref o), (1, .ref ou)]) (st' := [.ref o, .int (nI 0), .ref ou]) 3 rfl ?_
  refine WW.callV [] o [.int (nI 0), .ref ou] rfl mX0_119 hx (wdRecv.obj hc rfl) rfl rfl (wd_le rfl) (wd_le rfl) (wd_le rfl) (wd_le rfl) (fun o w1 hq => ?_)
  obtain ⟨f1, g1, hq⟩ := hq
  have k35 : w1.1 35 ou = some (.inr (1, .inr (.inl fL))) := f1.2 _ _ _ h35 (Or.inr (Or.inr (Or.inl rfl)))
  have l1 : lFr inp 36 w w1 := lFr.of (Or.inr rfl) f1
  cases r with
  | inl p =>
    obtain ⟨ci, e, h1, rfl⟩ := hq
    obtain ⟨p1, p2⟩ := hr
    show WX _ _ _ 3 _ _ _ _ _
    obtain rfl : p = 1 := by omega
    cases h1
    refine WX.catch_ [] ⟨0, 8, 11, 36⟩ [] "java/util/NoSuchElementException" rfl (fun z hz => by exact absurd hz List.not_mem_nil) rfl (by decide) q1126 nq314 ?_
    refine WW.run (pc' := 13) (lv' := [(2, .ref e), (0, .ref o), (1, .ref ou)]) (st' := [.int (nI 1)]) 2 rfl ?_
    exact WW.iret rfl rfl rfl ⟨l1, g1, _, k35, rfl⟩
  | inr v =>
    obtain rfl := hq
    obtain ⟨y9, rfl⟩ := hr
    show WW _ _ _ 6 _ [.int y9, .int (nI 0), .ref ou] _
    refine WW.run (pc' := 7) (lv' := [(0, .ref o), (1, .ref ou)]) (st' := [.long y9.toInt64, .int (nI 0), .ref ou]) 1 rfl ?_
    refine WW.last (f' := fun j => if j = 0 then y9.toInt64 else fL j) rfl k35 one_in rfl ?_
    refine WW.run (pc' := 15) (lv' := [(0, .ref o), (1, .ref ou)]) (st' := [.int (nI 0)]) 2 rfl ?_
    exact WW.iret rfl rfl rfl ⟨l1.put (Or.inl ⟨rfl, rfl⟩), g1.putL (Or.inl rfl), _, wPut_same _ _ _ _, rfl, rfl⟩
theorem lW_failedCommand (hO : isOf G w o hl inp sb I cur hn hist sv ic on oc) (h35 : w.1 35 ou = some (.inr (1, .inr (.inl fL)))) {r : Nat ⊕ Value} (hx : Sp l G MX1_failedCommand 7 1 6 [.ref o] w (oA G o hl inp sb I cur hn hist sv ic on oc [16] r w)) (hr : rOk 1 r) : Sp l G MX0_failedCommand 8 1 6 [.ref o, .ref ou] w (lA G o hl inp sb I cur hn hist sv ic on oc ou r w) := by
  obtain ⟨fs, hc⟩ := hO.cell
  refine Sp.ofH rfl (by decide +kernel) kX0_failedCommand (wd_le rfl) ?_
  refine WW.run (pc' := 3) (lv' := [(0, .ref o), (1, .ref ou)]) (st' := [.ref o, .int (nI 0), .ref ou]) 3 rfl ?_
  refine WW.callV [] o [.int (nI 0), .ref ou] rfl mX0_122 hx (wdRecv.obj hc rfl) rfl rfl (wd_le rfl) (wd_le rfl) (wd_le rfl) (wd_le rfl) (fun o w1 hq => ?_)
  obtain ⟨f1, g1, hq⟩ := hq
  have k35 : w1.1 35 ou = some (.inr (1, .inr (.inl fL))) := f1.2 _ _ _ h35 (Or.inr (Or.inr (Or.inl rfl)))
  have l1 : lFr inp 36 w w1 := lFr.of (Or.inr rfl) f1
  cases r with
  | inl p =>
    obtain ⟨ci, e, h1, rfl⟩ := hq
    obtain ⟨p1, p2⟩ := hr
    show WX _ _ _ 3 _ _ _ _ _
    obtain rfl : p = 1 := by omega
    cases h1
    refine WX.catch_ [] ⟨0, 8, 11, 36⟩ [] "java/util/NoSuchElementException" rfl (fun z hz => by exact absurd hz List.not_mem_nil) rfl (by decide) q1126 nq314 ?_
    refine WW.run (pc' := 13) (lv' := [(2, .ref e), (0, .ref o), (1, .ref ou)]) (st' := [.int (nI 1)]) 2 rfl ?_
    exact WW.iret rfl rfl rfl ⟨l1, g1, _, k35, rfl⟩
  | inr v =>
    obtain rfl := hq
    obtain ⟨y9, rfl⟩ := hr
    show WW _ _ _ 6 _ [.int y9, .int (nI 0), .ref ou] _
    refine WW.run (pc' := 7) (lv' := [(0, .ref o), (1, .ref ou)]) (st' := [.long y9.toInt64, .int (nI 0), .ref ou]) 1 rfl ?_
    refine WW.last (f' := fun j => if j = 0 then y9.toInt64 else fL j) rfl k35 one_in rfl ?_
    refine WW.run (pc' := 15) (lv' := [(0, .ref o), (1, .ref ou)]) (st' := [.int (nI 0)]) 2 rfl ?_
    exact WW.iret rfl rfl rfl ⟨l1.put (Or.inl ⟨rfl, rfl⟩), g1.putL (Or.inl rfl), _, wPut_same _ _ _ _, rfl, rfl⟩
theorem lW_failureReason (hO : isOf G w o hl inp sb I cur hn hist sv ic on oc) (h35 : w.1 35 ou = some (.inr (1, .inr (.inl fL)))) {r : Nat ⊕ Value} (hx : Sp l G MX1_failureReason 7 1 6 [.ref o] w (oA G o hl inp sb I cur hn hist sv ic on oc [16] r w)) (hr : rOk 1 r) : Sp l G MX0_failureReason 8 1 6 [.ref o, .ref ou] w (lA G o hl inp sb I cur hn hist sv ic on oc ou r w) := by
  obtain ⟨fs, hc⟩ := hO.cell
  refine Sp.ofH rfl (by decide +kernel) kX0_failureReason (wd_le rfl) ?_
  refine WW.run (pc' := 3) (lv' := [(0, .ref o), (1, .ref ou)]) (st' := [.ref o, .int (nI 0), .ref ou]) 3 rfl ?_
  refine WW.callV [] o [.int (nI 0), .ref ou] rfl mX0_125 hx (wdRecv.obj hc rfl) rfl rfl (wd_le rfl) (wd_le rfl) (wd_le rfl) (wd_le rfl) (fun o w1 hq => ?_)
  obtain ⟨f1, g1, hq⟩ := hq
  have k35 : w1.1 35 ou = some (.inr (1, .inr (.inl fL))) := f1.2 _ _ _ h35 (Or.inr (Or.inr (Or.inl rfl)))
  have l1 : lFr inp 36 w w1 := lFr.of (Or.inr rfl) f1
  cases r with
  | inl p =>
    obtain ⟨ci, e, h1, rfl⟩ := hq
    obtain ⟨p1, p2⟩ := hr
    show WX _ _ _ 3 _ _ _ _ _
    obtain rfl : p = 1 := by omega
    cases h1
    refine WX.catch_ [] ⟨0, 8, 11, 36⟩ [] "java/util/NoSuchElementException" rfl (fun z hz => by exact absurd hz List.not_mem_nil) rfl (by decide) q1126 nq314 ?_
    refine WW.run (pc' := 13) (lv' := [(2, .ref e), (0, .ref o), (1, .ref ou)]) (st' := [.int (nI 1)]) 2 rfl ?_
    exact WW.iret rfl rfl rfl ⟨l1, g1, _, k35, rfl⟩
  | inr v =>
    obtain rfl := hq
    obtain ⟨y9, rfl⟩ := hr
    show WW _ _ _ 6 _ [.int y9, .int (nI 0), .ref ou] _
    refine WW.run (pc' := 7) (lv' := [(0, .ref o), (1, .ref ou)]) (st' := [.long y9.toInt64, .int (nI 0), .ref ou]) 1 rfl ?_
    refine WW.last (f' := fun j => if j = 0 then y9.toInt64 else fL j) rfl k35 one_in rfl ?_
    refine WW.run (pc' := 15) (lv' := [(0, .ref o), (1, .ref ou)]) (st' := [.int (nI 0)]) 2 rfl ?_
    exact WW.iret rfl rfl rfl ⟨l1.put (Or.inl ⟨rfl, rfl⟩), g1.putL (Or.inl rfl), _, wPut_same _ _ _ _, rfl, rfl⟩
theorem lW_outputChar (x : Int32) (hO : isOf G w o hl inp sb I cur hn hist sv ic on oc) (h35 : w.1 35 ou = some (.inr (1, .inr (.inl fL)))) {r : Nat ⊕ Value} (hx : Sp l G MX1_outputChar 8 2061 8346 [.ref o, .int x] w (oA G o hl inp sb I cur hn hist sv ic on oc [13] r w)) (hr : rOk 1 r) : Sp l G MX0_outputChar 9 2061 8346 [.ref o, .int x, .ref ou] w (lA G o hl inp sb I cur hn hist sv ic on oc ou r w) := by
  obtain ⟨fs, hc⟩ := hO.cell
  refine Sp.ofH rfl (by decide +kernel) kX0_outputChar (wd_le rfl) ?_
  refine WW.run (pc' := 4) (lv' := [(0, .ref o), (1, .int x), (2, .ref ou)]) (st' := [.int x, .ref o, .int (nI 0), .ref ou]) 4 rfl ?_
  refine WW.callV [.int x] o [.int (nI 0), .ref ou] rfl mX0_129 hx (wdRecv.obj hc rfl) rfl rfl (wd_le rfl) (wd_le rfl) (wd_le rfl) (wd_le rfl) (fun o w1 hq => ?_)
  obtain ⟨f1, g1, hq⟩ := hq
  have k35 : w1.1 35 ou = some (.inr (1, .inr (.inl fL))) := f1.2 _ _ _ h35 (Or.inr (Or.inr (Or.inl rfl)))
  have l1 : lFr inp 36 w w1 := lFr.of (Or.inr rfl) f1
  cases r with
  | inl p =>
    obtain ⟨ci, e, h1, rfl⟩ := hq
    obtain ⟨p1, p2⟩ := hr
    show WX _ _ _ 4 _ _ _ _ _
    obtain rfl : p = 1 := by omega
    cases h1
    refine WX.catch_ [] ⟨0, 9, 12, 28⟩ [] "java/lang/IndexOutOfBoundsException" rfl (fun z hz => by exact absurd hz List.not_mem_nil) rfl (by decide) q1040 nq1062 ?_
    refine WW.run (pc' := 14) (lv' := [(3, .ref e), (0, .ref o), (1, .int x), (2, .ref ou)]) (st' := [.int (nI 1)]) 2 rfl ?_
    exact WW.iret rfl rfl rfl ⟨l1, g1, _, k35, rfl⟩
  | inr v =>
    obtain rfl := hq
    obtain ⟨y9, rfl⟩ := hr
    show WW _ _ _ 7 _ [.int y9, .int (nI 0), .ref ou] _
    refine WW.run (pc' := 8) (lv' := [(0, .ref o), (1, .int x), (2, .ref ou)]) (st' := [.long y9.toInt64, .int (nI 0), .ref ou]) 1 rfl ?_
    refine WW.last (f' := fun j => if j = 0 then y9.toInt64 else fL j) rfl k35 one_in rfl ?_
    refine WW.run (pc' := 16) (lv' := [(0, .ref o), (1, .int x), (2, .ref ou)]) (st' := [.int (nI 0)]) 2 rfl ?_
    exact WW.iret rfl rfl rfl ⟨l1.put (Or.inl ⟨rfl, rfl⟩), g1.putL (Or.inl rfl), _, wPut_same _ _ _ _, rfl, rfl⟩
theorem lW_meanCoins (hO : isOf G w o hl inp sb I cur hn hist sv ic on oc) (h36 : w.1 36 ou = some (.inr (1, .inr (.inr (.inr (.inl fD)))))) {r : Nat ⊕ UInt64} (hx : Sp l G MX1_meanCoins 8 2061 8346 [.ref o] w (oA G o hl inp sb I cur hn hist sv ic on oc [18] (rD r) w)) (hr : ∀ p, r = .inl p → p = 1) : Sp l G MX0_meanCoins 9 2061 8346 [.ref o, .ref ou] w (lD G o hl inp sb I cur hn hist sv ic on oc ou r w) := by
  obtain ⟨fs, hc⟩ := hO.cell
  refine Sp.ofH rfl (by decide +kernel) kX0_meanCoins (wd_le rfl) ?_
  refine WW.run (pc' := 3) (lv' := [(0, .ref o), (1, .ref ou)]) (st' := [.ref o, .int (nI 0), .ref ou]) 3 rfl ?_
  refine WW.callV [] o [.int (nI 0), .ref ou] rfl mX0_102 hx (wdRecv.obj hc rfl) rfl rfl (wd_le rfl) (wd_le rfl) (wd_le rfl) (wd_le rfl) (fun o w1 hq => ?_)
  obtain ⟨f1, g1, hq⟩ := hq
  have k36 : w1.1 36 ou = some (.inr (1, .inr (.inr (.inr (.inl fD))))) := f1.2 _ _ _ h36 (Or.inr (Or.inr (Or.inr (Or.inl rfl))))
  have l1 : lFr inp 35 w w1 := lFr.of (Or.inl rfl) f1
  cases r with
  | inl p =>
    obtain ⟨ci, e, h1, rfl⟩ := hq
    obtain rfl := hr p rfl
    cases h1
    show WX _ _ _ 3 _ _ _ _ _
    refine WX.catch_ [] ⟨0, 7, 10, 106⟩ [] "java/lang/ArithmeticException" rfl (fun z hz => absurd hz List.not_mem_nil) rfl (by decide) q1397 nq1409 ?_
    refine WW.run (pc' := 12) (lv' := [(2, .ref e), (0, .ref o), (1, .ref ou)]) (st' := [.int (nI 1)]) 2 rfl ?_
    exact WW.iret rfl rfl rfl ⟨l1, g1, _, k36, rfl⟩
  | inr v =>
    obtain rfl := hq
    show WW _ _ _ 6 _ [.double v, .int (nI 0), .ref ou] _
    refine WW.dast (f' := fun j => if j = 0 then v else fD j) rfl k36 one_in rfl ?_
    refine WW.run (pc' := 14) (lv' := [(0, .ref o), (1, .ref ou)]) (st' := [.int (nI 0)]) 2 rfl ?_
    exact WW.iret rfl rfl rfl ⟨l1.put (Or.inr ⟨rfl, rfl⟩), g1.putL (Or.inr rfl), _, wPut_same _ _ _ _, rfl, rfl⟩
theorem lW_leasedShare (hO : isOf G w o hl inp sb I cur hn hist sv ic on oc) (h36 : w.1 36 ou = some (.inr (1, .inr (.inr (.inr (.inl fD)))))) {r : Nat ⊕ UInt32} (hx : Sp l G MX1_leasedShare 8 2061 8346 [.ref o] w (oA G o hl inp sb I cur hn hist sv ic on oc [18] (rF r) w)) (hr : ∀ p, r = .inl p → p = 1) (hN : ∀ v, r = .inr v → vf_n64 (FP.f2d v)) : Sp l G MX0_leasedShare 9 2061 8346 [.ref o, .ref ou] w (lD G o hl inp sb I cur hn hist sv ic on oc ou (rF2 r) w) := by
  obtain ⟨fs, hc⟩ := hO.cell
  refine Sp.ofH rfl (by decide +kernel) kX0_leasedShare (wd_le rfl) ?_
  refine WW.run (pc' := 3) (lv' := [(0, .ref o), (1, .ref ou)]) (st' := [.ref o, .int (nI 0), .ref ou]) 3 rfl ?_
  refine WW.callV [] o [.int (nI 0), .ref ou] rfl mX0_108 hx (wdRecv.obj hc rfl) rfl rfl (wd_le rfl) (wd_le rfl) (wd_le rfl) (wd_le rfl) (fun o w1 hq => ?_)
  obtain ⟨f1, g1, hq⟩ := hq
  have k36 : w1.1 36 ou = some (.inr (1, .inr (.inr (.inr (.inl fD))))) := f1.2 _ _ _ h36 (Or.inr (Or.inr (Or.inr (Or.inl rfl))))
  have l1 : lFr inp 35 w w1 := lFr.of (Or.inl rfl) f1
  cases r with
  | inl p =>
    obtain ⟨ci, e, h1, rfl⟩ := hq
    obtain rfl := hr p rfl
    cases h1
    show WX _ _ _ 3 _ _ _ _ _
    refine WX.catch_ [] ⟨0, 8, 11, 106⟩ [] "java/lang/ArithmeticException" rfl (fun z hz => absurd hz List.not_mem_nil) rfl (by decide) q1397 nq1409 ?_
    refine WW.run (pc' := 13) (lv' := [(2, .ref e), (0, .ref o), (1, .ref ou)]) (st' := [.int (nI 1)]) 2 rfl ?_
    exact WW.iret rfl rfl rfl ⟨l1, g1, _, k36, rfl⟩
  | inr v =>
    obtain rfl := hq
    show WW _ _ _ 6 _ [.float v, .int (nI 0), .ref ou] _
    refine WW.f2d rfl (hN v rfl) ?_
    refine WW.dast (f' := fun j => if j = 0 then FP.f2d v else fD j) rfl k36 one_in rfl ?_
    refine WW.run (pc' := 15) (lv' := [(0, .ref o), (1, .ref ou)]) (st' := [.int (nI 0)]) 2 rfl ?_
    exact WW.iret rfl rfl rfl ⟨l1.put (Or.inr ⟨rfl, rfl⟩), g1.putL (Or.inr rfl), _, wPut_same _ _ _ _, rfl, rfl⟩
/-- what else changes the office: f what it is afterwards, given the answer or what was thrown -/
def lS (inp ou : Nat) (B : Nat ⊕ Int32 → wdW → Prop) (w : wdW) : wdO → wdW → Prop := fun q w' => lFr inp 36 w w' ∧ ∃ f : Nat → Int64, w'.1 35 ou = some (.inr (1, .inr (.inl f))) ∧ ∃ r : Nat ⊕ Int32, B r w' ∧ match r with
  | .inl p => q = .inl (some (.int (nI p)))
  | .inr v => q = .inl (some (.int (nI 0))) ∧ f 0 = v.toInt64
theorem lW_feed (x : Int32) (hO : isOf G w o hl inp sb I cur hn hist sv ic on oc) (h35 : w.1 35 ou = some (.inr (1, .inr (.inl fL)))) (B : Nat ⊕ Int32 → wdW → Prop) (hB : ∀ r w' b p, B r w' → B r (wPut w' 35 b p)) {Q : wdO → wdW → Prop} (hQ : ∀ q w1, Q q w1 → oFr inp w w1 ∧ ((∃ x, q = .inr (eN 15, x)) ∧ B (.inl 1) w1 ∨ ∃ v, q = .inl (some (.int v)) ∧ B (.inr v) w1)) (hx : Sp l G MX1_feed 7 1 6 [.ref o, .int x] w Q) : Sp l G MX0_feed 8 1 6 [.ref o, .int x, .ref ou] w (lS inp ou B w) := by
  obtain ⟨fs, hc⟩ := hO.cell
  refine Sp.ofH rfl (by decide +kernel) kX0_feed (wd_le rfl) ?_
  refine WW.run (pc' := 4) (lv' := [(0, .ref o), (1, .int x), (2, .ref ou)]) (st' := [.int x, .ref o, .int (nI 0), .ref ou]) 4 rfl ?_
  refine WW.callV [.int x] o [.int (nI 0), .ref ou] rfl mX0_112 hx (wdRecv.obj hc rfl) rfl rfl (wd_le rfl) (wd_le rfl) (wd_le rfl) (wd_le rfl) (fun o w1 hq => ?_)
  replace hq := hQ _ _ hq
  obtain ⟨f1, hq⟩ := hq
  have k35 : w1.1 35 ou = some (.inr (1, .inr (.inl fL))) := f1.2 _ _ _ h35 (Or.inr (Or.inr (Or.inl rfl)))
  have l1 : lFr inp 36 w w1 := lFr.of (Or.inr rfl) f1
  rcases hq with ⟨⟨e, rfl⟩, hb⟩ | ⟨v, rfl, hb⟩
  · skip
    show WX _ _ _ 4 _ _ _ _ _
    refine WX.catch_ [] ⟨0, 9, 12, 13⟩ [] "java/lang/IllegalStateException" rfl (fun z hz => by exact absurd hz List.not_mem_nil) rfl (by decide) q960 nq974 ?_
    refine WW.run (pc' := 14) (lv' := [(3, .ref e), (0, .ref o), (1, .int x), (2, .ref ou)]) (st' := [.int (nI 1)]) 2 rfl ?_
    exact WW.iret rfl rfl rfl ⟨l1, _, k35, .inl 1, hb, rfl⟩
  · skip
    show WW _ _ _ 7 _ [.int v, .int (nI 0), .ref ou] _
    refine WW.run (pc' := 8) (lv' := [(0, .ref o), (1, .int x), (2, .ref ou)]) (st' := [.long v.toInt64, .int (nI 0), .ref ou]) 1 rfl ?_
    refine WW.last (f' := fun j => if j = 0 then v.toInt64 else fL j) rfl k35 one_in rfl ?_
    refine WW.run (pc' := 16) (lv' := [(0, .ref o), (1, .int x), (2, .ref ou)]) (st' := [.int (nI 0)]) 2 rfl ?_
    exact WW.iret rfl rfl rfl ⟨l1.put (Or.inl ⟨rfl, rfl⟩), _, wPut_same _ _ _ _, .inr v, hB _ _ _ _ hb, rfl, rfl⟩
theorem lW_undo (hO : isOf G w o hl inp sb I cur hn hist sv ic on oc) (h35 : w.1 35 ou = some (.inr (1, .inr (.inl fL)))) (B : Nat ⊕ Int32 → wdW → Prop) (hB : ∀ r w' b p, B r w' → B r (wPut w' 35 b p)) {Q : wdO → wdW → Prop} (hQ : ∀ q w1, Q q w1 → oFr inp w w1 ∧ ((∃ x, q = .inr (eN 15, x)) ∧ B (.inl 1) w1 ∨ ∃ v, q = .inl (some (.int v)) ∧ B (.inr v) w1)) (hx : Sp l G MX1_undo 7 1 6 [.ref o] w Q) : Sp l G MX0_undo 8 1 6 [.ref o, .ref ou] w (lS inp ou B w) := by
  obtain ⟨fs, hc⟩ := hO.cell
  refine Sp.ofH rfl (by decide +kernel) kX0_undo (wd_le rfl) ?_
  refine WW.run (pc' := 3) (lv' := [(0, .ref o), (1, .ref ou)]) (st' := [.ref o, .int (nI 0), .ref ou]) 3 rfl ?_
  refine WW.callV [] o [.int (nI 0), .ref ou] rfl mX0_133 hx (wdRecv.obj hc rfl) rfl rfl (wd_le rfl) (wd_le rfl) (wd_le rfl) (wd_le rfl) (fun o w1 hq => ?_)
  replace hq := hQ _ _ hq
  obtain ⟨f1, hq⟩ := hq
  have k35 : w1.1 35 ou = some (.inr (1, .inr (.inl fL))) := f1.2 _ _ _ h35 (Or.inr (Or.inr (Or.inl rfl)))
  have l1 : lFr inp 36 w w1 := lFr.of (Or.inr rfl) f1
  rcases hq with ⟨⟨e, rfl⟩, hb⟩ | ⟨v, rfl, hb⟩
  · skip
    show WX _ _ _ 3 _ _ _ _ _
    refine WX.catch_ [] ⟨0, 8, 11, 13⟩ [] "java/lang/IllegalStateException" rfl (fun z hz => by exact absurd hz List.not_mem_nil) rfl (by decide) q960 nq974 ?_
    refine WW.run (pc' := 13) (lv' := [(2, .ref e), (0, .ref o), (1, .ref ou)]) (st' := [.int (nI 1)]) 2 rfl ?_
    exact WW.iret rfl rfl rfl ⟨l1, _, k35, .inl 1, hb, rfl⟩
  · skip
    show WW _ _ _ 6 _ [.int v, .int (nI 0), .ref ou] _
    refine WW.run (pc' := 7) (lv' := [(0, .ref o), (1, .ref ou)]) (st' := [.long v.toInt64, .int (nI 0), .ref ou]) 1 rfl ?_
    refine WW.last (f' := fun j => if j = 0 then v.toInt64 else fL j) rfl k35 one_in rfl ?_
    refine WW.run (pc' := 15) (lv' := [(0, .ref o), (1, .ref ou)]) (st' := [.int (nI 0)]) 2 rfl ?_
    exact WW.iret rfl rfl rfl ⟨l1.put (Or.inl ⟨rfl, rfl⟩), _, wPut_same _ _ _ _, .inr v, hB _ _ _ _ hb, rfl, rfl⟩
theorem lW_restore (hO : isOf G w o hl inp sb I cur hn hist sv ic on oc) (h35 : w.1 35 ou = some (.inr (1, .inr (.inl fL)))) (B : Nat ⊕ Int32 → wdW → Prop) (hB : ∀ r w' b p, B r w' → B r (wPut w' 35 b p)) {Q : wdO → wdW → Prop} (hQ : ∀ q w1, Q q w1 → oFr inp w w1 ∧ ((∃ x, q = .inr (eN 15, x)) ∧ B (.inl 1) w1 ∨ ∃ v, q = .inl (some (.int v)) ∧ B (.inr v) w1)) (hx : Sp l G MX1_restore 7 61 346 [.ref o] w Q) : Sp l G MX0_restore 8 61 346 [.ref o, .ref ou] w (lS inp ou B w) := by
  obtain ⟨fs, hc⟩ := hO.cell
  refine Sp.ofH rfl (by decide +kernel) kX0_restore (wd_le rfl) ?_
  refine WW.run (pc' := 3) (lv' := [(0, .ref o), (1, .ref ou)]) (st' := [.ref o, .int (nI 0), .ref ou]) 3 rfl ?_
  refine WW.callV [] o [.int (nI 0), .ref ou] rfl mX0_136 hx (wdRecv.obj hc rfl) rfl rfl (wd_le rfl) (wd_le rfl) (wd_le rfl) (wd_le rfl) (fun o w1 hq => ?_)
  replace hq := hQ _ _ hq
  obtain ⟨f1, hq⟩ := hq
  have k35 : w1.1 35 ou = some (.inr (1, .inr (.inl fL))) := f1.2 _ _ _ h35 (Or.inr (Or.inr (Or.inl rfl)))
  have l1 : lFr inp 36 w w1 := lFr.of (Or.inr rfl) f1
  rcases hq with ⟨⟨e, rfl⟩, hb⟩ | ⟨v, rfl, hb⟩
  · skip
    show WX _ _ _ 3 _ _ _ _ _
    refine WX.catch_ [] ⟨0, 8, 11, 13⟩ [] "java/lang/IllegalStateException" rfl (fun z hz => by exact absurd hz List.not_mem_nil) rfl (by decide) q960 nq974 ?_
    refine WW.run (pc' := 13) (lv' := [(2, .ref e), (0, .ref o), (1, .ref ou)]) (st' := [.int (nI 1)]) 2 rfl ?_
    exact WW.iret rfl rfl rfl ⟨l1, _, k35, .inl 1, hb, rfl⟩
  · skip
    show WW _ _ _ 6 _ [.int v, .int (nI 0), .ref ou] _
    refine WW.run (pc' := 7) (lv' := [(0, .ref o), (1, .ref ou)]) (st' := [.long v.toInt64, .int (nI 0), .ref ou]) 1 rfl ?_
    refine WW.last (f' := fun j => if j = 0 then v.toInt64 else fL j) rfl k35 one_in rfl ?_
    refine WW.run (pc' := 15) (lv' := [(0, .ref o), (1, .ref ou)]) (st' := [.int (nI 0)]) 2 rfl ?_
    exact WW.iret rfl rfl rfl ⟨l1.put (Or.inl ⟨rfl, rfl⟩), _, wPut_same _ _ _ _, .inr v, hB _ _ _ _ hb, rfl, rfl⟩
theorem lW_runCommands (hO : isOf G w o hl inp sb I cur hn hist sv ic on oc) (h35 : w.1 35 ou = some (.inr (1, .inr (.inl fL)))) (B : Nat ⊕ Int32 → wdW → Prop) (hB : ∀ r w' b p, B r w' → B r (wPut w' 35 b p)) {Q : wdO → wdW → Prop} (hQ : ∀ q w1, Q q w1 → oFr inp w w1 ∧ ((∃ x, q = .inr (eN 14, x)) ∧ B (.inl 1) w1 ∨ (∃ x, q = .inr (eN 17, x)) ∧ B (.inl 2) w1 ∨ ∃ v, q = .inl (some (.int v)) ∧ B (.inr v) w1)) (hx : Sp l G MX1_runCommands 14 19110 94020 [.ref o] w Q) : Sp l G MX0_runCommands 15 19110 94020 [.ref o, .ref ou] w (lS inp ou B w) := by
  obtain ⟨fs, hc⟩ := hO.cell
  refine Sp.ofH rfl (by decide +kernel) kX0_runCommands (wd_le rfl) ?_
  refine WW.run (pc' := 3) (lv' := [(0, .ref o), (1, .ref ou)]) (st' := [.ref o, .int (nI 0), .ref ou]) 3 rfl ?_
  refine WW.callVH [] o [.int (nI 0), .ref ou] rfl mX0_116 hx (wdRecv.obj hc rfl) rfl rfl (wd_le rfl) (wd_le rfl) (wd_le rfl) (wd_le rfl) (fun o w1 hq => ?_)
  replace hq := hQ _ _ hq
  obtain ⟨f1, hq⟩ := hq
  have k35 : w1.1 35 ou = some (.inr (1, .inr (.inl fL))) := f1.2 _ _ _ h35 (Or.inr (Or.inr (Or.inl rfl)))
  have l1 : lFr inp 36 w w1 := lFr.of (Or.inr rfl) f1
  rcases hq with ⟨⟨e, rfl⟩, hb⟩ | ⟨⟨e, rfl⟩, hb⟩ | ⟨v, rfl, hb⟩
  · skip
    show WX _ _ _ 3 _ _ _ _ _
    refine WX.catch_ [] ⟨0, 8, 11, 19⟩ [⟨0, 8, 14, 30⟩] "java/lang/IllegalArgumentException" rfl (fun z hz => by exact absurd hz List.not_mem_nil) rfl (by decide) q1005 nq816 ?_
    refine WW.run (pc' := 13) (lv' := [(2, .ref e), (0, .ref o), (1, .ref ou)]) (st' := [.int (nI 1)]) 2 rfl ?_
    exact WW.iret rfl rfl rfl ⟨l1, _, k35, .inl 1, hb, rfl⟩
  · skip
    show WX _ _ _ 3 _ _ _ _ _
    refine WX.catch_ [⟨0, 8, 11, 19⟩] ⟨0, 8, 14, 30⟩ [] "java/lang/UnsupportedOperationException" rfl (fun z hz => by rcases List.mem_cons.mp hz with rfl | hz; exact Or.inr ⟨by decide, _, q1005, List.mem_of_getElem? (i := 12) rfl⟩; exact absurd hz List.not_mem_nil) rfl (by decide) q1043 nq1110 ?_
    refine WW.run (pc' := 16) (lv' := [(2, .ref e), (0, .ref o), (1, .ref ou)]) (st' := [.int (nI 2)]) 2 rfl ?_
    exact WW.iret rfl rfl rfl ⟨l1, _, k35, .inl 2, hb, rfl⟩
  · skip
    show WW _ _ _ 6 _ [.int v, .int (nI 0), .ref ou] _
    refine WW.run (pc' := 7) (lv' := [(0, .ref o), (1, .ref ou)]) (st' := [.long v.toInt64, .int (nI 0), .ref ou]) 1 rfl ?_
    refine WW.last (f' := fun j => if j = 0 then v.toInt64 else fL j) rfl k35 one_in rfl ?_
    refine WW.run (pc' := 18) (lv' := [(0, .ref o), (1, .ref ou)]) (st' := [.int (nI 0)]) 2 rfl ?_
    exact WW.iret rfl rfl rfl ⟨l1.put (Or.inl ⟨rfl, rfl⟩), _, wPut_same _ _ _ _, .inr v, hB _ _ _ _ hb, rfl, rfl⟩
end
