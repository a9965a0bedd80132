set_option maxRecDepth 100000
/-! ARRAYLIST -/
/-- cells of w at addresses out of P stay, and all of kind 7 (the parser's) -/
def wFr (P : Nat → Prop) (w w' : wdW) : Prop := ((∀ a, a < w.2 → ¬ P a → ∀ k, w'.1 k a = w.1 k a) ∧ w'.1 7 = w.1 7) ∧ w.2 ≤ w'.2
theorem wPut_7 {w : wdW} {k a : Nat} {p : wdPay} (hk : k ≠ 7) : (wPut w k a p).1 7 = w.1 7 := by
  funext b
  rw [wPut_eq, if_neg (fun q => hk q.1.symm)]
theorem wNew_7 {w : wdW} {k a : Nat} {p : wdPay} (hk : k ≠ 7) : (wNew w k a p).1 7 = w.1 7 := by
  funext b
  rw [wNew_eq, if_neg (fun q => hk q.1.symm)]
theorem wFr.refl (P : Nat → Prop) (w : wdW) : wFr P w w := ⟨⟨fun _ _ _ _ => rfl, rfl⟩, Nat.le_refl _⟩
theorem wFr.trans {P : Nat → Prop} {w w1 w2 : wdW} (h : wFr P w w1) (h' : wFr P w1 w2) : wFr P w w2 := ⟨⟨fun a ha hp k => (h'.1.1 a (Nat.lt_of_lt_of_le ha h.2) hp k).trans (h.1.1 a ha hp k), h'.1.2.trans h.1.2⟩, Nat.le_trans h.2 h'.2⟩
theorem wFr.mono {P P' : Nat → Prop} {w w' : wdW} (h : wFr P w w') (hp : ∀ a, a < w.2 → P a → P' a) : wFr P' w w' := ⟨⟨fun a ha hn k => h.1.1 a ha (fun q => hn (hp a ha q)) k, h.1.2⟩, h.2⟩
theorem wFr.put {P : Nat → Prop} {w w' : wdW} (h : wFr P w w') {k a : Nat} {p : wdPay} (ha : P a ∨ w.2 ≤ a) (hk : k ≠ 7 := by decide) : wFr P w (wPut w' k a p) := ⟨⟨fun b hb hn k' => (wPut_ne (fun e => by
  subst e
  rcases ha with h1 | h1
  · exact hn h1
  · omega)).trans (h.1.1 b hb hn k'), (wPut_7 hk).trans h.1.2⟩, h.2⟩
theorem wFr.new {P : Nat → Prop} {w w' : wdW} (h : wFr P w w') {k q : Nat} {p : wdPay} (hq : w'.2 ≤ q) (hk : k ≠ 7 := by decide) : wFr P w (wNew w' k q p) := ⟨⟨fun b hb hn k' => (wNew_ne (fun e => by
  have := h.2
  omega)).trans (h.1.1 b hb hn k'), (wNew_7 hk).trans h.1.2⟩, Nat.le_trans h.2 (by show w'.2 ≤ q + 1; omega)⟩
theorem wFr.eq {P : Nat → Prop} {w w' : wdW} (h : wFr P w w') {k a : Nat} {p : wdPay} (hp : w.1 k a = some p) (ha : a < w.2) (hn : ¬ P a) : w'.1 k a = some p := (h.1.1 a ha hn k).trans hp
theorem wNew_put (w : wdW) (k q : Nat) (p p' : wdPay) : wPut (wNew w k q p) k q p' = wNew w k q p' := by
  refine Prod.ext ?_ rfl
  funext k' a'
  rw [wPut_eq, wNew_eq, wNew_eq]
  by_cases h : k' = k ∧ a' = q
  · rw [if_pos h, if_pos h]
  · rw [if_neg h, if_neg h, if_neg h]
/-- the list L with its array arr: n elements g 0 .. -/
def isL (G : wdG) (w : wdW) (L arr n : Nat) (g : Nat → Nat) : Prop := (∃ mc : Int32, w.1 10 L = some (.inl [.int mc, .ref arr, .int (nI n)])) ∧ n ≤ 10 ∧ ((arr = G.2.2.2.1 0 ∧ n = 0) ∨ ∃ h : Nat → Option Nat, w.1 37 arr = some (.inr (10, .inr (.inr (.inr (.inr h))))) ∧ ∀ i, i < n → h i = some (g i))
theorem isL.to {G : wdG} {w w' : wdW} {L arr n : Nat} {g : Nat → Nat} (h : isL G w L arr n g) (h1 : ∀ p, w.1 10 L = some p → w'.1 10 L = some p) (h2 : ∀ p, w.1 37 arr = some p → w'.1 37 arr = some p) : isL G w' L arr n g := by
  obtain ⟨⟨mc, a1⟩, a2, a3⟩ := h
  refine ⟨⟨mc, h1 _ a1⟩, a2, ?_⟩
  rcases a3 with a3 | ⟨z, b1, b2⟩
  · exact Or.inl a3
  · exact Or.inr ⟨z, h2 _ b1, b2⟩
theorem isL.ext {G : wdG} {w : wdW} {L arr n : Nat} {g g' : Nat → Nat} (h : isL G w L arr n g) (e : ∀ i, i < n → g i = g' i) : isL G w L arr n g' := by
  obtain ⟨a1, a2, a3⟩ := h
  refine ⟨a1, a2, ?_⟩
  rcases a3 with a3 | ⟨z, b1, b2⟩
  · exact Or.inl a3
  · exact Or.inr ⟨z, b1, fun i hi => (b2 i hi).trans (by rw [e i hi])⟩
section
variable {l : Launch} {G : wdG} {w : wdW} {L arr n : Nat} {g : Nat → Nat}
theorem sJ_pcheck (i n : Nat) (h : i < n) (hn : n < 2 ^ 31) : SpR l G MJ17_checkIndex 0 [.int (nI i), .int (nI n), .null] w (.int (nI i)) := by
  refine Sp.of rfl (by decide +kernel) kJ17_checkIndex (wd_le rfl) ?_
  refine WW.run (pc' := 1) (lv' := [(0, .int (nI i)), (1, .int (nI n)), (2, .null)]) (st' := [.int (nI i)]) 1 rfl ?_
  refine WW.if_lt (tgt := 9) rfl rfl (fun hno => absurd hno (nI_pos (by omega))) (fun _ => ?_)
  refine WW.run (pc' := 6) (lv' := [(0, .int (nI i)), (1, .int (nI n)), (2, .null)]) (st' := [.int (nI n), .int (nI i)]) 2 rfl ?_
  refine WW.icmp_lt (tgt := 16) rfl rfl (fun _ => ?_) (fun hno => absurd (nI_lt h hn) hno)
  refine WW.run (pc' := 17) (lv' := [(0, .int (nI i)), (1, .int (nI n)), (2, .null)]) (st' := [.int (nI i)]) 1 rfl ?_
  exact WW.iret rfl rfl rfl ⟨rfl, rfl⟩
theorem sJ_ocheck (i n : Nat) (h : i < n) (hn : n < 2 ^ 31) : SpR l G MJ16_checkIndex 1 [.int (nI i), .int (nI n)] w (.int (nI i)) := by
  refine Sp.of rfl (by decide +kernel) kJ16_checkIndex (wd_le rfl) ?_
  refine WW.run (pc' := 3) (lv' := [(0, .int (nI i)), (1, .int (nI n))]) (st' := [.null, .int (nI n), .int (nI i)]) 3 rfl ?_
  refine WW.callS [.int (nI i), .int (nI n), .null] [] rfl mJ16_105 (sJ_pcheck i n h hn) rfl rfl (wd_le rfl) (wd_le rfl) (wd_le rfl) (wd_le rfl) (fun o w' hq => ?_)
  obtain ⟨rfl, hw9⟩ := hq
  show WW _ _ _ 6 _ [.int (nI i)] _
  rw [hw9]
  clear hw9 w'
  exact WW.iret rfl rfl rfl ⟨rfl, rfl⟩
theorem sL_size (h : isL G w L arr n g) : SpR l G MJ2_size 0 [.ref L] w (.int (nI n)) := by
  obtain ⟨⟨mc, h1⟩, h2, h3⟩ := h
  refine Sp.of rfl (by decide +kernel) kJ2_size (wd_le rfl) ?_
  refine WW.run (pc' := 1) (lv' := [(0, .ref L)]) (st' := [.ref L]) 1 rfl ?_
  refine WW.get rfl fJ2_48 h1 (show _ = some (.int (nI n)) from rfl) ?_
  exact WW.iret rfl rfl rfl ⟨rfl, rfl⟩
theorem sL_isEmpty (h : isL G w L arr n g) : SpR l G MJ2_isEmpty 0 [.ref L] w (.int (bI (n == 0))) := by
  obtain ⟨⟨mc, h1⟩, h2, h3⟩ := h
  refine Sp.of rfl (by decide +kernel) kJ2_isEmpty (wd_le rfl) ?_
  refine WW.run (pc' := 1) (lv' := [(0, .ref L)]) (st' := [.ref L]) 1 rfl ?_
  refine WW.get rfl fJ2_48 h1 (show _ = some (.int (nI n)) from rfl) ?_
  by_cases e : n = 0
  · skip
    refine WW.if_ne (tgt := 11) rfl rfl (fun hno => absurd (by rw [e]; rfl) hno) (fun _ => ?_)
    refine WW.run (pc' := 12) (lv' := [(0, .ref L)]) (st' := [.int (nI 1)]) 2 rfl ?_
    exact WW.iret rfl rfl rfl ⟨by rw [e]; rfl, rfl⟩
  · skip
    refine WW.if_ne (tgt := 11) rfl rfl (fun _ => ?_) (fun hno => absurd hno (nI_ne0 (by omega) (by omega)))
    refine WW.run (pc' := 12) (lv' := [(0, .ref L)]) (st' := [.int (nI 0)]) 1 rfl ?_
    exact WW.iret rfl rfl rfl ⟨by rw [show (n == 0) = false by simp [e]]; rfl, rfl⟩
theorem sL_elem (h : isL G w L arr n g) {i : Nat} (hi : i < n) : SpR l G MJ2_elementData 0 [.ref L, .int (nI i)] w (.ref (g i)) := by
  obtain ⟨⟨mc, h1⟩, h2, h3⟩ := h
  obtain ⟨-, e⟩ | ⟨z, h3, h4⟩ := h3
  · omega
  refine Sp.of rfl (by decide +kernel) kJ2_elementData (wd_le rfl) ?_
  refine WW.run (pc' := 1) (lv' := [(0, .ref L), (1, .int (nI i))]) (st' := [.ref L]) 1 rfl ?_
  refine WW.get rfl fJ2_9 h1 (show _ = some (.ref arr) from rfl) ?_
  refine WW.run (pc' := 5) (lv' := [(0, .ref L), (1, .int (nI i))]) (st' := [.int (nI i), .ref arr]) 1 rfl ?_
  refine WW.aaldN i rfl h3 rfl (by omega) (by decide) (by rw [h4 i hi]) ?_
  exact WW.aret rfl rfl (Or.inl ⟨_, rfl⟩) (Or.inr ⟨_, rfl⟩) ⟨rfl, rfl⟩
theorem sL_get (h : isL G w L arr n g) {i : Nat} (hi : i < n) : SpR l G MJ2_get 2 [.ref L, .int (nI i)] w (.ref (g i)) := by
  have h0 := h
  obtain ⟨⟨mc, h1⟩, h2, h3⟩ := h
  refine Sp.of rfl (by decide +kernel) kJ2_get (wd_le rfl) ?_
  refine WW.run (pc' := 2) (lv' := [(0, .ref L), (1, .int (nI i))]) (st' := [.ref L, .int (nI i)]) 2 rfl ?_
  refine WW.get rfl fJ2_48 h1 (show _ = some (.int (nI n)) from rfl) ?_
  refine WW.callS [.int (nI i), .int (nI n)] [] rfl mJ2_118 (sJ_ocheck i n hi (by omega)) rfl rfl (wd_le rfl) (wd_le rfl) (wd_le rfl) (wd_le rfl) (fun o w' hq => ?_)
  obtain ⟨rfl, hw9⟩ := hq
  show WW _ _ _ 8 _ [.int (nI i)] _
  rw [hw9]
  clear hw9 w'
  refine WW.run (pc' := 11) (lv' := [(0, .ref L), (1, .int (nI i))]) (st' := [.int (nI i), .ref L]) 3 rfl ?_
  refine WW.callV [.int (nI i)] L [] rfl mJ2_123 (sL_elem h0 hi) (wdRecv.obj h1 rfl) rfl rfl (wd_le rfl) (wd_le rfl) (wd_le rfl) (wd_le rfl) (fun o w' hq => ?_)
  obtain ⟨rfl, hw9⟩ := hq
  show WW _ _ _ 14 _ [.ref (g i)] _
  rw [hw9]
  clear hw9 w'
  exact WW.aret rfl rfl (Or.inl ⟨_, rfl⟩) (Or.inr ⟨_, rfl⟩) ⟨rfl, rfl⟩
/-! its iterator -/
theorem sI_hasNext {it : Nat} {c : Nat} {lr mc : Int32} (hit : w.1 11 it = some (.inl [.int (nI c), .int lr, .int mc, .ref L])) (h : isL G w L arr n g) (hc : c ≤ n) : SpR l G MJ7_hasNext 0 [.ref it] w (.int (bI (Nat.blt c n))) := by
  obtain ⟨⟨mc', h1⟩, h2, h3⟩ := h
  refine Sp.of rfl (by decide +kernel) kJ7_hasNext (wd_le rfl) ?_
  refine WW.run (pc' := 1) (lv' := [(0, .ref it)]) (st' := [.ref it]) 1 rfl ?_
  refine WW.get rfl fJ7_25 hit (show _ = some (.int (nI c)) from rfl) ?_
  refine WW.run (pc' := 5) (lv' := [(0, .ref it)]) (st' := [.ref it, .int (nI c)]) 1 rfl ?_
  refine WW.get rfl fJ7_1 hit (show _ = some (.ref L) from rfl) ?_
  refine WW.get rfl fJ7_28 h1 (show _ = some (.int (nI n)) from rfl) ?_
  by_cases e : c = n
  · skip
    refine WW.icmp_eq (tgt := 18) rfl rfl (fun _ => ?_) (fun hno => absurd (by rw [e]) hno)
    refine WW.run (pc' := 19) (lv' := [(0, .ref it)]) (st' := [.int (nI 0)]) 1 rfl ?_
    exact WW.iret rfl rfl rfl ⟨by rw [show Nat.blt c n = false by rw [e]; exact Bool.eq_false_iff.mpr (fun q => absurd (Nat.le_of_ble_eq_true q) (Nat.not_succ_le_self n))]; rfl, rfl⟩
  · skip
    refine WW.icmp_eq (tgt := 18) rfl rfl (fun hno => absurd hno (by rw [nI_eq (by omega) (by omega)]; exact e)) (fun _ => ?_)
    refine WW.run (pc' := 19) (lv' := [(0, .ref it)]) (st' := [.int (nI 1)]) 2 rfl ?_
    exact WW.iret rfl rfl rfl ⟨by rw [show Nat.blt c n = true from Nat.ble_eq_true_of_le (show c + 1 ≤ n by omega)]; rfl, rfl⟩
theorem sI_comod {it : Nat} {c : Nat} {lr mc : Int32} (hit : w.1 11 it = some (.inl [.int (nI c), .int lr, .int mc, .ref L])) (h1 : w.1 10 L = some (.inl [.int mc, .ref arr, .int (nI n)])) : Sp l G MJ7_checkForComodification 0 0 0 [.ref it] w (fun o w' => o = .inl none ∧ w' = w) := by
  refine Sp.of rfl (by decide +kernel) kJ7_checkForComodification (wd_le rfl) ?_
  refine WW.run (pc' := 1) (lv' := [(0, .ref it)]) (st' := [.ref it]) 1 rfl ?_
  refine WW.get rfl fJ7_1 hit (show _ = some (.ref L) from rfl) ?_
  refine WW.get rfl fJ7_17 h1 (show _ = some (.int mc) from rfl) ?_
  refine WW.run (pc' := 8) (lv' := [(0, .ref it)]) (st' := [.ref it, .int mc]) 1 rfl ?_
  refine WW.get rfl fJ7_22 hit (show _ = some (.int mc) from rfl) ?_
  refine WW.icmp_eq (tgt := 22) rfl rfl (fun _ => ?_) (fun hno => absurd rfl hno)
  exact WW.vret rfl rfl ⟨rfl, rfl⟩
theorem sI_next {it : Nat} {c : Nat} {lr mc : Int32} (hit : w.1 11 it = some (.inl [.int (nI c), .int lr, .int mc, .ref L])) (h1 : w.1 10 L = some (.inl [.int mc, .ref arr, .int (nI n)])) (h : isL G w L arr n g) (hc : c < n) : Sp l G MJ7_next 1 0 0 [.ref it] w (fun o w' => o = .inl (some (.ref (g c))) ∧ w' = wPut w 11 it (.inl [.int (nI (c + 1)), .int (nI c), .int mc, .ref L])) := by
  obtain ⟨-, h2, h3⟩ := h
  obtain ⟨-, e⟩ | ⟨z, h3, h4⟩ := h3
  · omega
  refine Sp.of rfl (by decide +kernel) kJ7_next (wd_le rfl) ?_
  refine WW.run (pc' := 1) (lv' := [(0, .ref it)]) (st' := [.ref it]) 1 rfl ?_
  refine WW.callV [] it [] rfl mJ7_31 (sI_comod hit h1) (wdRecv.obj hit rfl) rfl rfl (wd_le rfl) (wd_le rfl) (wd_le rfl) (wd_le rfl) (fun o w' hq => ?_)
  obtain ⟨rfl, hw9⟩ := hq
  show WW _ _ _ 4 _ [] _
  rw [hw9]
  clear hw9 w'
  refine WW.run (pc' := 5) (lv' := [(0, .ref it)]) (st' := [.ref it]) 1 rfl ?_
  refine WW.get rfl fJ7_25 hit (show _ = some (.int (nI c)) from rfl) ?_
  refine WW.run (pc' := 11) (lv' := [(1, .int (nI c)), (0, .ref it)]) (st' := [.ref it, .int (nI c)]) 3 rfl ?_
  refine WW.get rfl fJ7_1 hit (show _ = some (.ref L) from rfl) ?_
  refine WW.get rfl fJ7_28 h1 (show _ = some (.int (nI n)) from rfl) ?_
  refine WW.icmp_lt (tgt := 28) rfl rfl (fun _ => ?_) (fun hno => absurd (nI_lt hc (by omega)) hno)
  refine WW.run (pc' := 29) (lv' := [(1, .int (nI c)), (0, .ref it)]) (st' := [.ref it]) 1 rfl ?_
  refine WW.get rfl fJ7_1 hit (show _ = some (.ref L) from rfl) ?_
  refine WW.get rfl fJ7_37 h1 (show _ = some (.ref arr) from rfl) ?_
  refine WW.run (pc' := 38) (lv' := [(2, .ref arr), (1, .int (nI c)), (0, .ref it)]) (st' := [.ref arr, .int (nI c)]) 3 rfl ?_
  refine WW.alen (v := nI 10) 37 5 rfl rfl h3 rfl ?_
  refine WW.icmp_lt (tgt := 50) rfl rfl (fun _ => ?_) (fun hno => absurd (nI_lt (show c < 10 by omega) (by decide)) hno)
  refine WW.run (pc' := 54) (lv' := [(2, .ref arr), (1, .int (nI c)), (0, .ref it)]) (st' := [.int ((nI c) + (nI 1)), .ref it]) 4 rfl ?_
  refine WW.put [.int ((nI c) + (nI 1)), .int lr, .int mc, .ref L] rfl pfJ7_25 hit (wd_le rfl) rfl rfl rfl ?_
  have ha : (wPut w 11 it (.inl [.int ((nI c) + (nI 1)), .int lr, .int mc, .ref L])).1 11 it = some (.inl [.int ((nI c) + (nI 1)), .int lr, .int mc, .ref L]) := wPut_same _ _ _ _
  refine WW.run (pc' := 61) (lv' := [(2, .ref arr), (1, .int (nI c)), (0, .ref it)]) (st' := [.int (nI c), .ref it, .int (nI c), .ref arr]) 4 rfl ?_
  refine WW.put [.int ((nI c) + (nI 1)), .int (nI c), .int mc, .ref L] rfl pfJ7_13 ha (wd_le rfl) rfl rfl rfl ?_
  have hb : (wPut (wPut w 11 it (.inl [.int ((nI c) + (nI 1)), .int lr, .int mc, .ref L])) 11 it (.inl [.int ((nI c) + (nI 1)), .int (nI c), .int mc, .ref L])).1 11 it = some (.inl [.int ((nI c) + (nI 1)), .int (nI c), .int mc, .ref L]) := wPut_same _ _ _ _
  refine WW.aaldN c rfl h3 rfl (by omega) (by decide) (by rw [h4 c hc]) ?_
  exact WW.aret rfl rfl (Or.inl ⟨_, rfl⟩) (Or.inr ⟨_, rfl⟩) ⟨rfl, by rw [wPut_put, nI_add]⟩
theorem sI_init {q : Nat} {mc : Int32} (hq : w.1 11 q = some (.inl wdB11)) (h1 : w.1 10 L = some (.inl [.int mc, .ref arr, .int (nI n)])) : Sp l G MJ7_init 1 0 0 [.ref q, .ref L] w (fun o w' => o = .inl none ∧ w' = wPut w 11 q (.inl [.int (nI 0), .int (-1), .int mc, .ref L])) := by
  refine Sp.of rfl (by decide +kernel) kJ7_init (wd_le rfl) ?_
  refine WW.run (pc' := 2) (lv' := [(0, .ref q), (1, .ref L)]) (st' := [.ref L, .ref q]) 2 rfl ?_
  refine WW.putF [.int 0, .int 0, .int 0, .ref L] rfl pfJ7_1 rfl hq (wd_le rfl) rfl rfl rfl ?_
  have ha : (wPut w 11 q (.inl [.int 0, .int 0, .int 0, .ref L])).1 11 q = some (.inl [.int 0, .int 0, .int 0, .ref L]) := wPut_same _ _ _ _
  refine WW.run (pc' := 6) (lv' := [(0, .ref q), (1, .ref L)]) (st' := [.ref q]) 1 rfl ?_
  refine WW.objInit rfl q275 q110 q111 (wd_le rfl) (wd_le rfl) ?_
  refine WW.run (pc' := 11) (lv' := [(0, .ref q), (1, .ref L)]) (st' := [.int (-1), .ref q]) 2 rfl ?_
  refine WW.put [.int 0, .int (-1), .int 0, .ref L] rfl pfJ7_13 ha (wd_le rfl) rfl rfl rfl ?_
  have hb : (wPut (wPut w 11 q (.inl [.int 0, .int 0, .int 0, .ref L])) 11 q (.inl [.int 0, .int (-1), .int 0, .ref L])).1 11 q = some (.inl [.int 0, .int (-1), .int 0, .ref L]) := wPut_same _ _ _ _
  refine WW.run (pc' := 16) (lv' := [(0, .ref q), (1, .ref L)]) (st' := [.ref q, .ref q]) 2 rfl ?_
  refine WW.get rfl fJ7_1 hb (show _ = some (.ref L) from rfl) ?_
  refine WW.get rfl fJ7_17 h1 (show _ = some (.int mc) from rfl) ?_
  refine WW.put [.int 0, .int (-1), .int mc, .ref L] rfl pfJ7_22 hb (wd_le rfl) rfl rfl rfl ?_
  have hc : (wPut (wPut (wPut w 11 q (.inl [.int 0, .int 0, .int 0, .ref L])) 11 q (.inl [.int 0, .int (-1), .int 0, .ref L])) 11 q (.inl [.int 0, .int (-1), .int mc, .ref L])).1 11 q = some (.inl [.int 0, .int (-1), .int mc, .ref L]) := wPut_same _ _ _ _
  exact WW.vret rfl rfl ⟨rfl, by rw [wPut_put, wPut_put]; rfl⟩
theorem sL_iterator (h : isL G w L arr n g) : Sp l G MJ2_iterator 2 1 4 [.ref L] w (fun o w' => ∃ q mc, w.2 ≤ q ∧ o = .inl (some (.ref q)) ∧ w' = wNew w 11 q (.inl [.int (nI 0), .int (-1), .int mc, .ref L]) ∧ w.1 10 L = some (.inl [.int mc, .ref arr, .int (nI n)])) := by
  obtain ⟨⟨mc, h1⟩, h2, h3⟩ := h
  refine Sp.of rfl (by decide +kernel) kJ2_iterator (wd_le rfl) ?_
  refine WW.new (fs := [.int 0, .int 0, .int 0, .null]) rfl kJ2_267 wdBl11 (wd_le rfl) (wd_le rfl) (fun q hq => ?_)
  have ha : (wNew w 11 q (.inl [.int 0, .int 0, .int 0, .null])).1 11 q = some (.inl [.int 0, .int 0, .int 0, .null]) := wNew_same _ _ _ _
  refine WW.run (pc' := 5) (lv' := [(0, .ref L)]) (st' := [.ref L, .ref q, .ref q]) 2 rfl ?_
  refine WW.callI [.ref L] q [.ref q] rfl mJ2_269 (sI_init ha h1) rfl rfl (wd_le rfl) (wd_le rfl) (wd_le rfl) (wd_le rfl) (fun o w' hq => ?_)
  obtain ⟨rfl, hw9⟩ := hq
  show WW _ _ _ 8 _ [.ref q] _
  exact WW.aret rfl rfl (Or.inl ⟨_, rfl⟩) (Or.inr ⟨_, rfl⟩) ⟨q, mc, ‹_›, rfl, by rw [hw9, wNew_put], h1⟩
theorem sL_grow2 {k : Nat} {mc : Int32} (hk : k ≤ 10) (h1 : w.1 10 L = some (.inl [.int mc, .ref (G.2.2.2.1 0), .int (nI 0)])) : Sp l G MJ2_grow_2 1 1 10 [.ref L, .int (nI k)] w (fun o w' => ∃ q, w.2 ≤ q ∧ o = .inl (some (.ref q)) ∧ w' = wPut (wNew w 37 q (.inr (10, .inr (.inr (.inr (.inr (fun _ => none))))))) 10 L (.inl [.int mc, .ref q, .int (nI 0)])) := by
  refine Sp.of rfl (by decide +kernel) kJ2_grow_2 (wd_le rfl) ?_
  refine WW.run (pc' := 1) (lv' := [(0, .ref L), (1, .int (nI k))]) (st' := [.ref L]) 1 rfl ?_
  refine WW.get rfl fJ2_9 h1 (show _ = some (.ref (G.2.2.2.1 0)) from rfl) ?_
  refine WW.alenT rfl (List.mem_of_getElem? (i := 0) rfl) rfl ?_
  refine WW.run (pc' := 7) (lv' := [(2, .int (nI 0)), (0, .ref L), (1, .int (nI k))]) (st' := [.int (nI 0)]) 2 rfl ?_
  refine WW.if_gt (tgt := 20) rfl rfl (fun hno => absurd hno (by decide)) (fun _ => ?_)
  refine WW.run (pc' := 11) (lv' := [(2, .int (nI 0)), (0, .ref L), (1, .int (nI k))]) (st' := [.ref L]) 1 rfl ?_
  refine WW.get rfl fJ2_9 h1 (show _ = some (.ref (G.2.2.2.1 0)) from rfl) ?_
  refine WW.gets rfl (List.mem_of_getElem? (i := 1) rfl) q130 ?_
  refine WW.acmp_eq (tgt := 45) (rx := some (G.2.2.2.1 0)) (ry := some (G.2.2.2.1 0)) rfl rfl (fun _ => ?_) (fun hno => absurd rfl hno)
  refine WW.run (pc' := 49) (lv' := [(2, .int (nI 0)), (0, .ref L), (1, .int (nI k))]) (st' := [.int (nI k), .int (nI 10), .ref L]) 3 rfl ?_
  refine WW.mmax rfl q503 q455 q82 q456 (wd_le rfl) (wd_le rfl) ?_
  rw [show (if nI 10 < nI k then nI k else nI 10) = nI 10 from if_neg (nI_nlt hk (by decide))]
  refine WW.newq (N := 10) rfl q504 (by decide) (by decide) (by decide) (wd_le rfl) (wd_le rfl) (fun q hq => ?_)
  have ha : (wNew w 37 q (.inr (10, .inr (.inr (.inr (.inr (fun _ => none))))))).1 37 q = some (.inr (10, .inr (.inr (.inr (.inr (fun _ => none)))))) := wNew_same _ _ _ _
  refine WW.run (pc' := 56) (lv' := [(2, .int (nI 0)), (0, .ref L), (1, .int (nI k))]) (st' := [.ref q, .ref L, .ref q]) 1 rfl ?_
  refine WW.put [.int mc, .ref q, .int (nI 0)] rfl pfJ2_9 h1 (wd_le rfl) rfl rfl rfl ?_
  have hb : (wPut (wNew w 37 q (.inr (10, .inr (.inr (.inr (.inr (fun _ => none))))))) 10 L (.inl [.int mc, .ref q, .int (nI 0)])).1 10 L = some (.inl [.int mc, .ref q, .int (nI 0)]) := wPut_same _ _ _ _
  exact WW.aret rfl rfl (Or.inr ⟨_, rfl⟩) (Or.inr ⟨_, rfl⟩) ⟨q, hq, rfl, rfl⟩
theorem sL_grow {mc : Int32} (h1 : w.1 10 L = some (.inl [.int mc, .ref (G.2.2.2.1 0), .int (nI 0)])) : Sp l G MJ2_grow 2 1 10 [.ref L] w (fun o w' => ∃ q, w.2 ≤ q ∧ o = .inl (some (.ref q)) ∧ w' = wPut (wNew w 37 q (.inr (10, .inr (.inr (.inr (.inr (fun _ => none))))))) 10 L (.inl [.int mc, .ref q, .int (nI 0)])) := by
  refine Sp.of rfl (by decide +kernel) kJ2_grow (wd_le rfl) ?_
  refine WW.run (pc' := 2) (lv' := [(0, .ref L)]) (st' := [.ref L, .ref L]) 2 rfl ?_
  refine WW.get rfl fJ2_48 h1 (show _ = some (.int (nI 0)) from rfl) ?_
  refine WW.run (pc' := 7) (lv' := [(0, .ref L)]) (st' := [.int ((nI 0) + (nI 1)), .ref L]) 2 rfl ?_
  refine WW.callV [.int ((nI 0) + (nI 1))] L [] rfl mJ2_69 (sL_grow2 (k := 1) (by decide) h1) (wdRecv.obj h1 rfl) rfl rfl (wd_le rfl) (wd_le rfl) (wd_le rfl) (wd_le rfl) (fun o w' hq => ?_)
  obtain ⟨q, hq, rfl, hw⟩ := hq
  show WW _ _ _ 10 _ [.ref q] _
  exact WW.aret rfl rfl (Or.inr ⟨_, rfl⟩) (Or.inr ⟨_, rfl⟩) ⟨q, hq, rfl, hw⟩
/-! adding -/
theorem wPut_k {w : wdW} {k a : Nat} {p : wdPay} {k' a' : Nat} (h : k' ≠ k) : (wPut w k a p).1 k' a' = w.1 k' a' := by rw [wPut_eq, if_neg (fun q => h q.1)]
theorem wNew_k {w : wdW} {k a : Nat} {p : wdPay} {k' a' : Nat} (h : k' ≠ k) : (wNew w k a p).1 k' a' = w.1 k' a' := by rw [wNew_eq, if_neg (fun q => h q.1)]
/-- x may be an element: an object, of no list's class -/
def isO (w : wdW) (x : Nat) : Prop := ∃ (ci : Nat) (fs : List Value) (r : vw_C), w.1 ci x = some (.inl fs) ∧ wdCl[ci]? = some r ∧ ci ≠ 10 ∧ ci ≠ 37 ∧ (Cond.castable r.1 "java/lang/Object") ∈ wdNw
theorem isO.to {w w' : wdW} {x : Nat} (h : isO w x) (e : ∀ k, k ≠ 10 → k ≠ 37 → w'.1 k x = w.1 k x) : isO w' x := by
  obtain ⟨ci, fs, r, h1, h2, h3, h4, h5⟩ := h
  exact ⟨ci, fs, r, (e ci h3 h4).trans h1, h2, h3, h4, h5⟩
theorem isO.at {w : wdW} {x : Nat} (h : isO w x) : ∃ (ci : Nat) (fs : List Value) (r : vw_C), w.1 ci x = some (.inl fs) ∧ wdCl[ci]? = some r ∧ (Cond.castable r.1 "java/lang/Object") ∈ wdNw := by
  obtain ⟨ci, fs, r, h1, h2, h3, h4, h5⟩ := h
  exact ⟨ci, fs, r, h1, h2, h5⟩
/-- what a list's change may touch -/
def lP (G : wdG) (L arr : Nat) : Nat → Prop := fun a => a = L ∨ (a = arr ∧ arr ≠ G.2.2.2.1 0)
theorem sL_add2 {x : Nat} {mc : Int32} (hx : isO w x) (h1 : w.1 10 L = some (.inl [.int mc, .ref arr, .int (nI n)])) (h : isL G w L arr n g) (hn : n < 10) : Sp l G MJ2_add_2 3 1 10 [.ref L, .ref x, .ref arr, .int (nI n)] w (fun o w' => ∃ arr', o = .inl none ∧ (arr' = arr ∨ w.2 ≤ arr') ∧ arr' ≠ G.2.2.2.1 0 ∧ isL G w' L arr' (n + 1) (va_up g n x) ∧ wFr (lP G L arr) w w') := by
  obtain ⟨-, h2, h3⟩ := h
  refine Sp.of rfl (by decide +kernel) kJ2_add_2 (wd_le rfl) ?_
  refine WW.ok fun ok => ?_
  obtain ⟨ok1, ok2, ok3⟩ : wdOk G w := ok
  obtain ⟨rfl, rfl⟩ | ⟨z, h3, h4⟩ := h3
  · skip
    refine WW.run (pc' := 2) (lv' := [(0, .ref L), (1, .ref x), (2, .ref (G.2.2.2.1 0)), (3, .int (nI 0))]) (st' := [.ref (G.2.2.2.1 0), .int (nI 0)]) 2 rfl ?_
    refine WW.alenT rfl (List.mem_of_getElem? (i := 0) rfl) rfl ?_
    refine WW.icmp_ne (tgt := 11) rfl rfl (fun hno => absurd rfl hno) (fun _ => ?_)
    refine WW.run (pc' := 7) (lv' := [(0, .ref L), (1, .ref x), (2, .ref (G.2.2.2.1 0)), (3, .int (nI 0))]) (st' := [.ref L]) 1 rfl ?_
    refine WW.callV [] L [] rfl mJ2_129 (sL_grow h1) (wdRecv.obj h1 rfl) rfl rfl (wd_le rfl) (wd_le rfl) (wd_le rfl) (wd_le rfl) (fun o w' hq => ?_)
    obtain ⟨q, hq, rfl, hw⟩ := hq
    show WW _ _ _ 10 _ [.ref q] _
    have hL2 := (ok1 _ _ _ h1).2
    have hq0 : q ≠ G.2.2.2.1 0 := by
      have := (ok1 _ _ _ h1).1
      omega
    have hqL : q ≠ L := by omega
    have a1 : w'.1 10 L = some (.inl [.int mc, .ref q, .int (nI 0)]) := by rw [hw]; exact wPut_same _ _ _ _
    have a2 : w'.1 37 q = some (.inr (10, .inr (.inr (.inr (.inr (fun _ => none)))))) := by rw [hw]; exact (wPut_k (by decide)).trans (wNew_same _ _ _ _)
    have fr : wFr (lP G L (G.2.2.2.1 0)) w w' := by rw [hw]; exact ((wFr.refl _ _).new hq).put (Or.inl (Or.inl rfl))
    have hx' : isO w' x := hx.to (fun k e1 e2 => by rw [hw]; exact (wPut_k e1).trans (wNew_k e2))
    refine WW.run (pc' := 14) (lv' := [(2, .ref q), (0, .ref L), (1, .ref x), (3, .int (nI 0))]) (st' := [.ref x, .int (nI 0), .ref q]) 4 rfl ?_
    refine WW.aastK (f' := va_up (fun _ => none) 0 (some x)) 0 rfl a2 hx'.at rfl (by decide) (by decide) rfl ?_
    have a3 : (wPut w' 37 q (.inr (10, .inr (.inr (.inr (.inr (va_up (fun _ => none) 0 (some x)))))))).1 37 q = some (.inr (10, .inr (.inr (.inr (.inr (va_up (fun _ => none) 0 (some x))))))) := wPut_same _ _ _ _
    refine WW.run (pc' := 19) (lv' := [(2, .ref q), (0, .ref L), (1, .ref x), (3, .int (nI 0))]) (st' := [.int ((nI 0) + (nI 1)), .ref L]) 4 rfl ?_
    refine WW.put [.int mc, .ref q, .int ((nI 0) + (nI 1))] rfl pfJ2_48 a1 (wd_le rfl) rfl rfl rfl ?_
    have a4 : (wPut (wPut w' 37 q (.inr (10, .inr (.inr (.inr (.inr (va_up (fun _ => none) 0 (some x)))))))) 10 L (.inl [.int mc, .ref q, .int ((nI 0) + (nI 1))])).1 10 L = some (.inl [.int mc, .ref q, .int ((nI 0) + (nI 1))]) := wPut_same _ _ _ _
    refine WW.vret rfl rfl ⟨q, rfl, Or.inr hq, hq0, ⟨⟨mc, a4⟩, by decide, Or.inr ⟨_, (wPut_k (by decide)).trans a3, ?_⟩⟩, (fr.put (Or.inr hq)).put (Or.inl (Or.inl rfl))⟩
    intro i hi
    have : i = 0 := by omega
    subst this
    rw [va_up_self, va_up_self]
  · skip
    refine WW.run (pc' := 2) (lv' := [(0, .ref L), (1, .ref x), (2, .ref arr), (3, .int (nI n))]) (st' := [.ref arr, .int (nI n)]) 2 rfl ?_
    refine WW.alen (v := nI 10) 37 5 rfl rfl h3 rfl ?_
    have ha0 : arr ≠ G.2.2.2.1 0 := by
      have := (ok1 _ _ _ h3).1
      omega
    refine WW.icmp_ne (tgt := 11) rfl rfl (fun _ => ?_) (fun hno => absurd hno (by rw [nI_eq (by omega) (by decide)]; omega))
    refine WW.run (pc' := 14) (lv' := [(0, .ref L), (1, .ref x), (2, .ref arr), (3, .int (nI n))]) (st' := [.ref x, .int (nI n), .ref arr]) 3 rfl ?_
    refine WW.aastK (f' := va_up z n (some x)) n rfl h3 hx.at rfl (by omega) (by decide) rfl ?_
    have a3 : (wPut w 37 arr (.inr (10, .inr (.inr (.inr (.inr (va_up z n (some x)))))))).1 37 arr = some (.inr (10, .inr (.inr (.inr (.inr (va_up z n (some x))))))) := wPut_same _ _ _ _
    refine WW.run (pc' := 19) (lv' := [(0, .ref L), (1, .ref x), (2, .ref arr), (3, .int (nI n))]) (st' := [.int ((nI n) + (nI 1)), .ref L]) 4 rfl ?_
    refine WW.put [.int mc, .ref arr, .int ((nI n) + (nI 1))] rfl pfJ2_48 h1 (wd_le rfl) rfl rfl rfl ?_
    have a4 : (wPut (wPut w 37 arr (.inr (10, .inr (.inr (.inr (.inr (va_up z n (some x)))))))) 10 L (.inl [.int mc, .ref arr, .int ((nI n) + (nI 1))])).1 10 L = some (.inl [.int mc, .ref arr, .int ((nI n) + (nI 1))]) := wPut_same _ _ _ _
    refine WW.vret rfl rfl ⟨arr, rfl, Or.inl rfl, ha0, ⟨⟨mc, by rw [nI_add] at a4; rw [nI_add]; exact a4⟩, by omega, Or.inr ⟨_, (wPut_k (by decide)).trans a3, ?_⟩⟩, ((wFr.refl _ _).put (Or.inl (Or.inr ⟨rfl, ha0⟩))).put (Or.inl (Or.inl rfl))⟩
    intro i hi
    by_cases e : i = n
    · subst e; rw [va_up_self, va_up_self]
    · rw [va_up_ne _ _ e, va_up_ne _ _ e]; exact h4 i (by omega)
theorem sL_add {x : Nat} (hx : isO w x) (h : isL G w L arr n g) (hn : n < 10) : Sp l G MJ2_add 4 1 10 [.ref L, .ref x] w (fun o w' => ∃ arr', o = .inl (some (.int 1)) ∧ (arr' = arr ∨ w.2 ≤ arr') ∧ arr' ≠ G.2.2.2.1 0 ∧ isL G w' L arr' (n + 1) (va_up g n x) ∧ wFr (lP G L arr) w w') := by
  have h0 := h
  obtain ⟨⟨mc, h1⟩, h2, h3⟩ := h
  refine Sp.of rfl (by decide +kernel) kJ2_add (wd_le rfl) ?_
  refine WW.run (pc' := 2) (lv' := [(0, .ref L), (1, .ref x)]) (st' := [.ref L, .ref L]) 2 rfl ?_
  refine WW.get rfl fJ2_63 h1 (show _ = some (.int mc) from rfl) ?_
  refine WW.run (pc' := 7) (lv' := [(0, .ref L), (1, .ref x)]) (st' := [.int (mc + (nI 1)), .ref L]) 2 rfl ?_
  refine WW.put [.int (mc + (nI 1)), .ref arr, .int (nI n)] rfl pfJ2_63 h1 (wd_le rfl) rfl rfl rfl ?_
  have ha : (wPut w 10 L (.inl [.int (mc + (nI 1)), .ref arr, .int (nI n)])).1 10 L = some (.inl [.int (mc + (nI 1)), .ref arr, .int (nI n)]) := wPut_same _ _ _ _
  refine WW.run (pc' := 13) (lv' := [(0, .ref L), (1, .ref x)]) (st' := [.ref L, .ref x, .ref L]) 3 rfl ?_
  refine WW.get rfl fJ2_9 ha (show _ = some (.ref arr) from rfl) ?_
  refine WW.run (pc' := 17) (lv' := [(0, .ref L), (1, .ref x)]) (st' := [.ref L, .ref arr, .ref x, .ref L]) 1 rfl ?_
  refine WW.get rfl fJ2_48 ha (show _ = some (.int (nI n)) from rfl) ?_
  have hx1 := hx.to (w' := (wPut w 10 L (.inl [.int (mc + (nI 1)), .ref arr, .int (nI n)]))) (fun k e1 e2 => wPut_k e1)
  have hl : isL G (wPut w 10 L (.inl [.int (mc + (nI 1)), .ref arr, .int (nI n)])) L arr n g := ⟨⟨_, ha⟩, h2, by
    rcases h3 with h3 | ⟨z, h3, h4⟩
    · exact Or.inl h3
    · exact Or.inr ⟨z, (wPut_k (by decide)).trans h3, h4⟩⟩
  refine WW.callV [.ref x, .ref arr, .int (nI n)] L [] rfl mJ2_131 (sL_add2 hx1 ha hl hn) (wdRecv.obj ha rfl) rfl rfl (wd_le rfl) (wd_le rfl) (wd_le rfl) (wd_le rfl) (fun o w' hq => ?_)
  obtain ⟨arr', rfl, b1, b2, b3, b4⟩ := hq
  show WW _ _ _ 23 _ [] _
  refine WW.run (pc' := 24) (lv' := [(0, .ref L), (1, .ref x)]) (st' := [.int (nI 1)]) 1 rfl ?_
  exact WW.iret rfl rfl rfl ⟨arr', rfl, b1, b2, b3, ((wFr.refl _ _).put (Or.inl (Or.inl rfl))).trans b4⟩
theorem sL_init0 {q : Nat} (hq : w.1 10 q = some (.inl wdB10)) : Sp l G MJ0_init 1 0 0 [.ref q] w (fun o w' => o = .inl none ∧ w' = w) := by
  refine Sp.of rfl (by decide +kernel) kJ0_init (wd_le rfl) ?_
  refine WW.run (pc' := 1) (lv' := [(0, .ref q)]) (st' := [.ref q]) 1 rfl ?_
  refine WW.objInit rfl q129 q110 q111 (wd_le rfl) (wd_le rfl) ?_
  exact WW.vret rfl rfl ⟨rfl, rfl⟩
theorem sL_init1 {q : Nat} (hq : w.1 10 q = some (.inl wdB10)) : Sp l G MJ1_init 2 0 0 [.ref q] w (fun o w' => o = .inl none ∧ w' = wPut w 10 q (.inl [.int (nI 0), .null, .int 0])) := by
  refine Sp.of rfl (by decide +kernel) kJ1_init (wd_le rfl) ?_
  refine WW.run (pc' := 1) (lv' := [(0, .ref q)]) (st' := [.ref q]) 1 rfl ?_
  refine WW.callI [] q [] rfl mJ1_1 (sL_init0 hq) rfl rfl (wd_le rfl) (wd_le rfl) (wd_le rfl) (wd_le rfl) (fun o w' hq => ?_)
  obtain ⟨rfl, hw9⟩ := hq
  show WW _ _ _ 4 _ [] _
  rw [hw9]
  clear hw9 w'
  refine WW.run (pc' := 6) (lv' := [(0, .ref q)]) (st' := [.int (nI 0), .ref q]) 2 rfl ?_
  refine WW.put [.int (nI 0), .null, .int 0] rfl pfJ1_7_J2 hq (wd_le rfl) rfl rfl rfl ?_
  have ha : (wPut w 10 q (.inl [.int (nI 0), .null, .int 0])).1 10 q = some (.inl [.int (nI 0), .null, .int 0]) := wPut_same _ _ _ _
  exact WW.vret rfl rfl ⟨rfl, rfl⟩
theorem sL_init {q : Nat} (hq : w.1 10 q = some (.inl wdB10)) : Sp l G MJ2_init 3 0 0 [.ref q] w (fun o w' => o = .inl none ∧ w' = wPut w 10 q (.inl [.int (nI 0), .ref (G.2.2.2.1 0), .int 0])) := by
  refine Sp.of rfl (by decide +kernel) kJ2_init (wd_le rfl) ?_
  refine WW.run (pc' := 1) (lv' := [(0, .ref q)]) (st' := [.ref q]) 1 rfl ?_
  refine WW.callI [] q [] rfl mJ2_1 (sL_init1 hq) rfl rfl (wd_le rfl) (wd_le rfl) (wd_le rfl) (wd_le rfl) (fun o w' hq => ?_)
  obtain ⟨rfl, hw⟩ := hq
  show WW _ _ _ 4 _ [] _
  have hq2 : w'.1 10 q = some (.inl [.int (nI 0), .null, .int 0]) := by rw [hw]; exact wPut_same _ _ _ _
  refine WW.run (pc' := 5) (lv' := [(0, .ref q)]) (st' := [.ref q]) 1 rfl ?_
  refine WW.gets rfl (List.mem_of_getElem? (i := 1) rfl) q130 ?_
  refine WW.put [.int (nI 0), .ref (G.2.2.2.1 0), .int 0] rfl pfJ2_9 hq2 (wd_le rfl) rfl rfl rfl ?_
  have ha : (wPut w' 10 q (.inl [.int (nI 0), .ref (G.2.2.2.1 0), .int 0])).1 10 q = some (.inl [.int (nI 0), .ref (G.2.2.2.1 0), .int 0]) := wPut_same _ _ _ _
  exact WW.vret rfl rfl ⟨rfl, by rw [hw, wPut_put]⟩
/-! taking out -/
theorem WW.copyqN {X : wdX} {kc ks pc idx a0 a n0 n1 : Nat} {r : vw_C} {f g g' : Nat → Option Nat} {lv : List (Nat × Value)} {rest : List Value} {w : wdW} {sp dp nn : Int32} (ci x y z : Nat) (ht : X.M.tab pc = some (.invokestatic idx, 3)) (hL : wdLcp X.M.y.cls idx) (hr : wdCl[ci]? = some r) (hca : (Cond.castable r.1 "java/lang/Object") ∈ wdNw)
    (hc0 : w.1 37 a0 = some (.inr (n0, .inr (.inr (.inr (.inr f)))))) (hc : w.1 37 a = some (.inr (n1, .inr (.inr (.inr (.inr g)))))) (hsp : sp = nI x) (hdp : dp = nI y) (hnn : nn = nI z) (h4 : x + z ≤ n0) (h5 : y + z ≤ n1) (hn0 : n0 < 2 ^ 31) (hn1 : n1 < 2 ^ 31)
    (hel : ∀ i : Nat, i < z → ∀ y : Nat, f (x + i) = some y → ∃ fs, w.1 ci y = some (.inl fs)) (hg : va_cpy f g x y z = g') (hW : (rest.map fun v => v.category).sum ≤ 8) (hd : 1 ≤ X.d)
    (kk : WW X kc ks (pc + 3) lv rest (wPut w 37 a (.inr (n1, .inr (.inr (.inr (.inr g'))))))) : WW X kc ks pc lv (.int nn :: .int dp :: .ref a :: .int sp :: .ref a0 :: rest) w := by
  subst hsp hdp hnn
  have hx : x < 2 ^ 31 := by omega
  have hy : y < 2 ^ 31 := by omega
  have hz : z < 2 ^ 31 := by omega
  exact WW.copyq ci ht hL hr hca hc0 hc (nI_pos hx) (nI_pos hy) (nI_pos hz) (by rw [nI_clamp hx, nI_clamp hz]; exact h4) (by rw [nI_clamp hy, nI_clamp hz]; exact h5) (by rw [nI_clamp hx, nI_clamp hz]; exact hel) (by rw [nI_clamp hx, nI_clamp hy, nI_clamp hz]; exact hg) hW hd kk
theorem sL_fast {ci i : Nat} {mc : Int32} {r : vw_C} (hr : wdCl[ci]? = some r) (hca : (Cond.castable r.1 "java/lang/Object") ∈ wdNw) (h10 : ci ≠ 10) (hel : ∀ j, j < n → ∃ fs, w.1 ci (g j) = some (.inl fs)) (h1 : w.1 10 L = some (.inl [.int mc, .ref arr, .int (nI n)])) (h : isL G w L arr n g) (hi : i < n) : Sp l G MJ2_fastRemove 1 0 0 [.ref L, .ref arr, .int (nI i)] w (fun o w' => o = .inl none ∧ isL G w' L arr (n - 1) (fun j => if j < i then g j else g (j + 1)) ∧ w'.2 = w.2 ∧ (∀ k a, ¬ (k = 10 ∧ a = L) → ¬ (k = 37 ∧ a = arr ∧ arr ≠ G.2.2.2.1 0) → w'.1 k a = w.1 k a)) := by
  obtain ⟨-, h2, h3⟩ := h
  obtain ⟨-, e⟩ | ⟨z, h3, h4⟩ := h3
  · omega
  refine Sp.of rfl (by decide +kernel) kJ2_fastRemove (wd_le rfl) ?_
  refine WW.ok fun ok => ?_
  replace ok : wdOk G w := ok
  have ha0 : arr ≠ G.2.2.2.1 0 := by
    have := (ok.1 _ _ _ h3).1
    have := ok.2.2
    omega
  refine WW.run (pc' := 2) (lv' := [(0, .ref L), (1, .ref arr), (2, .int (nI i))]) (st' := [.ref L, .ref L]) 2 rfl ?_
  refine WW.get rfl fJ2_63 h1 (show _ = some (.int mc) from rfl) ?_
  refine WW.run (pc' := 7) (lv' := [(0, .ref L), (1, .ref arr), (2, .int (nI i))]) (st' := [.int (mc + (nI 1)), .ref L]) 2 rfl ?_
  refine WW.put [.int (mc + (nI 1)), .ref arr, .int (nI n)] rfl pfJ2_63 h1 (wd_le rfl) rfl rfl rfl ?_
  have ha : (wPut w 10 L (.inl [.int (mc + (nI 1)), .ref arr, .int (nI n)])).1 10 L = some (.inl [.int (mc + (nI 1)), .ref arr, .int (nI n)]) := wPut_same _ _ _ _
  refine WW.run (pc' := 11) (lv' := [(0, .ref L), (1, .ref arr), (2, .int (nI i))]) (st' := [.ref L]) 1 rfl ?_
  refine WW.get rfl fJ2_48 ha (show _ = some (.int (nI n)) from rfl) ?_
  refine WW.run (pc' := 15) (lv' := [(0, .ref L), (1, .ref arr), (2, .int (nI i))]) (st' := [.int (nI 1), .int (nI n)]) 1 rfl ?_
  refine WW.run (pc' := 16) (lv' := [(0, .ref L), (1, .ref arr), (2, .int (nI i))]) (st' := [.int ((nI n) - (nI 1))]) 1 rfl ?_
  rw [(wn_sub rfl rfl (by omega) : nI n - nI 1 = nI (n - 1))]
  refine WW.run (pc' := 19) (lv' := [(3, .int (nI (n - 1))), (0, .ref L), (1, .ref arr), (2, .int (nI i))]) (st' := [.int (nI i), .int (nI (n - 1))]) 3 rfl ?_
  by_cases hlt : i < n - 1
  · skip
    refine WW.icmp_le (tgt := 34) rfl rfl (fun hno => absurd hno (fun q => nI_ge hlt (by omega) q)) (fun _ => ?_)
    refine WW.run (pc' := 30) (lv' := [(3, .int (nI (n - 1))), (0, .ref L), (1, .ref arr), (2, .int (nI i))]) (st' := [.int (nI i), .int (nI (n - 1)), .int (nI i), .ref arr, .int ((nI i) + (nI 1)), .ref arr]) 8 rfl ?_
    refine WW.run (pc' := 31) (lv' := [(3, .int (nI (n - 1))), (0, .ref L), (1, .ref arr), (2, .int (nI i))]) (st' := [.int ((nI (n - 1)) - (nI i)), .int (nI i), .ref arr, .int ((nI i) + (nI 1)), .ref arr]) 1 rfl ?_
    rw [(wn_sub rfl rfl (by omega) : nI (n - 1) - nI i = nI (n - 1 - i))]
    refine WW.copyqN (g' := (va_cpy z z (i + 1) i (n - 1 - i))) ci (i + 1) i (n - 1 - i) rfl mJ2_112 hr hca h3 h3 (wn_add rfl rfl) rfl rfl (by omega) (by omega) (by decide) (by decide) (fun j hj y hy => by rw [h4 _ (by omega)] at hy; cases hy; obtain ⟨fs, hf⟩ := hel (i + 1 + j) (by omega); exact ⟨fs, (wPut_k h10).trans hf⟩) rfl (wd_le rfl) (wd_le rfl) ?_
    have hb : (wPut (wPut w 10 L (.inl [.int (mc + (nI 1)), .ref arr, .int (nI n)])) 37 arr (.inr (10, .inr (.inr (.inr (.inr (va_cpy z z (i + 1) i (n - 1 - i)))))))).1 37 arr = some (.inr (10, .inr (.inr (.inr (.inr (va_cpy z z (i + 1) i (n - 1 - i))))))) := wPut_same _ _ _ _
    refine WW.run (pc' := 38) (lv' := [(3, .int (nI (n - 1))), (0, .ref L), (1, .ref arr), (2, .int (nI i))]) (st' := [.int (nI (n - 1)), .ref L, .int (nI (n - 1)), .ref arr]) 4 rfl ?_
    refine WW.put [.int (mc + (nI 1)), .ref arr, .int (nI (n - 1))] rfl pfJ2_48 ha (wd_le rfl) rfl rfl rfl ?_
    have hc : (wPut (wPut (wPut w 10 L (.inl [.int (mc + (nI 1)), .ref arr, .int (nI n)])) 37 arr (.inr (10, .inr (.inr (.inr (.inr (va_cpy z z (i + 1) i (n - 1 - i)))))))) 10 L (.inl [.int (mc + (nI 1)), .ref arr, .int (nI (n - 1))])).1 10 L = some (.inl [.int (mc + (nI 1)), .ref arr, .int (nI (n - 1))]) := wPut_same _ _ _ _
    refine WW.run (pc' := 42) (lv' := [(3, .int (nI (n - 1))), (0, .ref L), (1, .ref arr), (2, .int (nI i))]) (st' := [.null, .int (nI (n - 1)), .ref arr]) 1 rfl ?_
    refine WW.aastNN (f' := va_up (va_cpy z z (i + 1) i (n - 1 - i)) (n - 1) none) (n - 1) rfl hb rfl (by omega) (by decide) rfl ?_
    have hd : (wPut (wPut (wPut (wPut w 10 L (.inl [.int (mc + (nI 1)), .ref arr, .int (nI n)])) 37 arr (.inr (10, .inr (.inr (.inr (.inr (va_cpy z z (i + 1) i (n - 1 - i)))))))) 10 L (.inl [.int (mc + (nI 1)), .ref arr, .int (nI (n - 1))])) 37 arr (.inr (10, .inr (.inr (.inr (.inr (va_up (va_cpy z z (i + 1) i (n - 1 - i)) (n - 1) none))))))).1 37 arr = some (.inr (10, .inr (.inr (.inr (.inr (va_up (va_cpy z z (i + 1) i (n - 1 - i)) (n - 1) none)))))) := wPut_same _ _ _ _
    refine WW.vret rfl rfl ⟨rfl, ⟨⟨_, (wPut_k (by decide)).trans hc⟩, by omega, Or.inr ⟨_, hd, ?_⟩⟩, rfl, ?_⟩
    · intro j hj
      rw [va_up_ne _ _ (by omega)]
      show (if _ then _ else _) = some (if j < i then g j else g (j + 1))
      by_cases e : j < i
      · rw [if_neg (by omega), if_pos e]; exact h4 j (by omega)
      · rw [if_pos (by omega), if_neg e]
        rw [show i + 1 + (j - i) = j + 1 by omega]
        exact h4 _ (by omega)
    · intro k a e1 e2
      have e3 : ¬ (k = 37 ∧ a = arr) := fun q => e2 ⟨q.1, q.2, ha0⟩
      rw [wPut_eq, if_neg e3, wPut_eq, if_neg e1, wPut_eq, if_neg e3, wPut_eq, if_neg e1]
  · skip
    refine WW.icmp_le (tgt := 34) rfl rfl (fun _ => ?_) (fun hno => absurd (nI_le (by omega) (by omega)) hno)
    refine WW.run (pc' := 38) (lv' := [(3, .int (nI (n - 1))), (0, .ref L), (1, .ref arr), (2, .int (nI i))]) (st' := [.int (nI (n - 1)), .ref L, .int (nI (n - 1)), .ref arr]) 4 rfl ?_
    refine WW.put [.int (mc + (nI 1)), .ref arr, .int (nI (n - 1))] rfl pfJ2_48 ha (wd_le rfl) rfl rfl rfl ?_
    have hc : (wPut (wPut w 10 L (.inl [.int (mc + (nI 1)), .ref arr, .int (nI n)])) 10 L (.inl [.int (mc + (nI 1)), .ref arr, .int (nI (n - 1))])).1 10 L = some (.inl [.int (mc + (nI 1)), .ref arr, .int (nI (n - 1))]) := wPut_same _ _ _ _
    refine WW.run (pc' := 42) (lv' := [(3, .int (nI (n - 1))), (0, .ref L), (1, .ref arr), (2, .int (nI i))]) (st' := [.null, .int (nI (n - 1)), .ref arr]) 1 rfl ?_
    refine WW.aastNN (f' := va_up z (n - 1) none) (n - 1) rfl h3 rfl (by omega) (by decide) rfl ?_
    have hd : (wPut (wPut (wPut w 10 L (.inl [.int (mc + (nI 1)), .ref arr, .int (nI n)])) 10 L (.inl [.int (mc + (nI 1)), .ref arr, .int (nI (n - 1))])) 37 arr (.inr (10, .inr (.inr (.inr (.inr (va_up z (n - 1) none))))))).1 37 arr = some (.inr (10, .inr (.inr (.inr (.inr (va_up z (n - 1) none)))))) := wPut_same _ _ _ _
    refine WW.vret rfl rfl ⟨rfl, ⟨⟨_, (wPut_k (by decide)).trans hc⟩, by omega, Or.inr ⟨_, hd, ?_⟩⟩, rfl, ?_⟩
    · intro j hj
      rw [va_up_ne _ _ (by omega)]
      show _ = some (if j < i then g j else g (j + 1))
      rw [if_pos (by omega)]
      exact h4 j (by omega)
    · intro k a e1 e2
      have e3 : ¬ (k = 37 ∧ a = arr) := fun q => e2 ⟨q.1, q.2, ha0⟩
      rw [wPut_eq, if_neg e3, wPut_eq, if_neg e1, wPut_eq, if_neg e1]
theorem sL_remove {ci i : Nat} {r : vw_C} (hr : wdCl[ci]? = some r) (hca : (Cond.castable r.1 "java/lang/Object") ∈ wdNw) (h10 : ci ≠ 10) (hel : ∀ j, j < n → ∃ fs, w.1 ci (g j) = some (.inl fs)) (h : isL G w L arr n g) (hi : i < n) : Sp l G MJ2_remove 2 0 0 [.ref L, .int (nI i)] w (fun o w' => o = .inl (some (.ref (g i))) ∧ isL G w' L arr (n - 1) (fun j => if j < i then g j else g (j + 1)) ∧ w'.2 = w.2 ∧ (∀ k a, ¬ (k = 10 ∧ a = L) → ¬ (k = 37 ∧ a = arr ∧ arr ≠ G.2.2.2.1 0) → w'.1 k a = w.1 k a)) := by
  have h0 := h
  obtain ⟨⟨mc, h1⟩, h2, h3⟩ := h
  obtain ⟨-, e⟩ | ⟨z, h3, h4⟩ := h3
  · omega
  refine Sp.of rfl (by decide +kernel) kJ2_remove (wd_le rfl) ?_
  refine WW.run (pc' := 2) (lv' := [(0, .ref L), (1, .int (nI i))]) (st' := [.ref L, .int (nI i)]) 2 rfl ?_
  refine WW.get rfl fJ2_48 h1 (show _ = some (.int (nI n)) from rfl) ?_
  refine WW.callS [.int (nI i), .int (nI n)] [] rfl mJ2_118 (sJ_ocheck i n hi (by omega)) rfl rfl (wd_le rfl) (wd_le rfl) (wd_le rfl) (wd_le rfl) (fun o w' hq => ?_)
  obtain ⟨rfl, hw9⟩ := hq
  show WW _ _ _ 8 _ [.int (nI i)] _
  rw [hw9]
  clear hw9 w'
  refine WW.run (pc' := 10) (lv' := [(0, .ref L), (1, .int (nI i))]) (st' := [.ref L]) 2 rfl ?_
  refine WW.get rfl fJ2_9 h1 (show _ = some (.ref arr) from rfl) ?_
  refine WW.run (pc' := 16) (lv' := [(2, .ref arr), (0, .ref L), (1, .int (nI i))]) (st' := [.int (nI i), .ref arr]) 3 rfl ?_
  refine WW.aaldN i rfl h3 rfl (by omega) (by decide) (by rw [h4 i hi]) ?_
  refine WW.run (pc' := 21) (lv' := [(3, .ref (g i)), (2, .ref arr), (0, .ref L), (1, .int (nI i))]) (st' := [.int (nI i), .ref arr, .ref L]) 4 rfl ?_
  refine WW.callV [.ref arr, .int (nI i)] L [] rfl mJ2_144 (sL_fast hr hca h10 hel h1 h0 hi) (wdRecv.obj h1 rfl) rfl rfl (wd_le rfl) (wd_le rfl) (wd_le rfl) (wd_le rfl) (fun o w' hq => ?_)
  obtain ⟨rfl, b1, b2, b3⟩ := hq
  show WW _ _ _ 24 _ [] _
  refine WW.run (pc' := 25) (lv' := [(3, .ref (g i)), (2, .ref arr), (0, .ref L), (1, .int (nI i))]) (st' := [.ref (g i)]) 1 rfl ?_
  exact WW.aret rfl rfl (Or.inl ⟨_, rfl⟩) (Or.inr ⟨_, rfl⟩) ⟨rfl, b1, b2, b3⟩
theorem sL_clear (h : isL G w L arr n g) : Sp l G MJ2_clear 0 0 0 [.ref L] w (fun o w' => o = .inl none ∧ isL G w' L arr 0 g ∧ w'.2 = w.2 ∧ (∀ k a, ¬ (k = 10 ∧ a = L) → ¬ (k = 37 ∧ a = arr ∧ arr ≠ G.2.2.2.1 0) → w'.1 k a = w.1 k a)) := by
  obtain ⟨⟨mc, h1⟩, h2, h3⟩ := h
  refine Sp.of rfl (by decide +kernel) kJ2_clear (wd_le rfl) ?_
  refine WW.ok fun ok => ?_
  replace ok : wdOk G w := ok
  refine WW.run (pc' := 2) (lv' := [(0, .ref L)]) (st' := [.ref L, .ref L]) 2 rfl ?_
  refine WW.get rfl fJ2_63 h1 (show _ = some (.int mc) from rfl) ?_
  refine WW.run (pc' := 7) (lv' := [(0, .ref L)]) (st' := [.int (mc + (nI 1)), .ref L]) 2 rfl ?_
  refine WW.put [.int (mc + (nI 1)), .ref arr, .int (nI n)] rfl pfJ2_63 h1 (wd_le rfl) rfl rfl rfl ?_
  have ha : (wPut w 10 L (.inl [.int (mc + (nI 1)), .ref arr, .int (nI n)])).1 10 L = some (.inl [.int (mc + (nI 1)), .ref arr, .int (nI n)]) := wPut_same _ _ _ _
  refine WW.run (pc' := 11) (lv' := [(0, .ref L)]) (st' := [.ref L]) 1 rfl ?_
  refine WW.get rfl fJ2_9 ha (show _ = some (.ref arr) from rfl) ?_
  refine WW.run (pc' := 16) (lv' := [(1, .ref arr), (0, .ref L)]) (st' := [.ref L]) 2 rfl ?_
  refine WW.get rfl fJ2_48 ha (show _ = some (.int (nI n)) from rfl) ?_
  refine WW.run (pc' := 23) (lv' := [(2, .int (nI n)), (1, .ref arr), (0, .ref L)]) (st' := [.int (nI 0), .ref L, .int (nI 0)]) 4 rfl ?_
  refine WW.put [.int (mc + (nI 1)), .ref arr, .int (nI 0)] rfl pfJ2_48 ha (wd_le rfl) rfl rfl rfl ?_
  have hb : (wPut (wPut w 10 L (.inl [.int (mc + (nI 1)), .ref arr, .int (nI n)])) 10 L (.inl [.int (mc + (nI 1)), .ref arr, .int (nI 0)])).1 10 L = some (.inl [.int (mc + (nI 1)), .ref arr, .int (nI 0)]) := wPut_same _ _ _ _
  refine WW.run (pc' := 27) (lv' := [(3, .int (nI 0)), (2, .int (nI n)), (1, .ref arr), (0, .ref L)]) (st' := []) 1 rfl ?_
  obtain ⟨W1, hW1⟩ : ∃ W1, W1 = (wPut (wPut w 10 L (.inl [.int (mc + (nI 1)), .ref arr, .int (nI n)])) 10 L (.inl [.int (mc + (nI 1)), .ref arr, .int (nI 0)])) := ⟨_, rfl⟩
  rw [← hW1] at hb
  rw [← hW1]
  have fr : ∀ k a, ¬ (k = 10 ∧ a = L) → W1.1 k a = w.1 k a := fun k a e => by rw [hW1, wPut_eq, if_neg e, wPut_eq, if_neg e]
  have f2 : W1.2 = w.2 := by rw [hW1]; rfl
  obtain ⟨rfl, rfl⟩ | ⟨z, h3, h4⟩ := h3
  · skip
    refine WW.run (pc' := 29) (lv' := [(3, .int (nI 0)), (2, .int (nI 0)), (1, .ref (G.2.2.2.1 0)), (0, .ref L)]) (st' := [.int (nI 0), .int (nI 0)]) 2 rfl ?_
    refine WW.icmp_ge (tgt := 42) rfl rfl (fun _ => ?_) (fun hno => absurd (by decide) hno)
    exact WW.vret rfl rfl ⟨rfl, ⟨⟨_, hb⟩, by decide, Or.inl ⟨rfl, rfl⟩⟩, f2, fun k a e1 _ => fr k a e1⟩
  · skip
    have ha0 : arr ≠ G.2.2.2.1 0 := by
      have := (ok.1 _ _ _ h3).1
      have := ok.2.2
      omega
    refine WW.upW n (fun _ => 0) (fun _ => 0) (fun i => [(3, .int (nI i)), (2, .int (nI n)), (1, .ref arr), (0, .ref L)]) (fun i u => u.1 10 L = some (.inl [.int (mc + (nI 1)), .ref arr, .int (nI 0)]) ∧ (∃ z, u.1 37 arr = some (.inr (10, .inr (.inr (.inr (.inr z)))))) ∧ u.2 = w.2 ∧ ∀ k a, ¬ (k = 10 ∧ a = L) → ¬ (k = 37 ∧ a = arr) → u.1 k a = w.1 k a) (fun i u hi hInv ih => ?_) (fun u hInv => ?_) ⟨hb, ⟨z, (fr 37 arr (fun e => by omega)).trans h3⟩, f2, fun k a e1 _ => fr k a e1⟩
    · skip
      obtain ⟨c1, ⟨z1, c2⟩, c3, c4⟩ := hInv
      refine WW.run (pc' := 29) (lv' := [(3, .int (nI i)), (2, .int (nI n)), (1, .ref arr), (0, .ref L)]) (st' := [.int (nI n), .int (nI i)]) 2 rfl ?_
      refine WW.icmp_ge (tgt := 42) rfl rfl (fun hno => absurd hno (nI_ge hi (by omega))) (fun _ => ?_)
      refine WW.run (pc' := 35) (lv' := [(3, .int (nI i)), (2, .int (nI n)), (1, .ref arr), (0, .ref L)]) (st' := [.null, .int (nI i), .ref arr]) 3 rfl ?_
      refine WW.aastNN (f' := va_up z1 i none) i rfl c2 rfl (by omega) (by decide) rfl ?_
      have c5 : (wPut u 37 arr (.inr (10, .inr (.inr (.inr (.inr (va_up z1 i none))))))).1 37 arr = some (.inr (10, .inr (.inr (.inr (.inr (va_up z1 i none)))))) := wPut_same _ _ _ _
      refine WW.run (pc' := 27) (lv' := [(3, .int ((nI i) + nI 1)), (2, .int (nI n)), (1, .ref arr), (0, .ref L)]) (st' := []) 2 rfl ?_
      rw [nI_add]
      refine ih _ ⟨(wPut_k (by decide)).trans c1, ⟨_, c5⟩, c3, fun k a e1 e2 => ?_⟩
      rw [wPut_eq, if_neg e2]
      exact c4 k a e1 e2
    · skip
      obtain ⟨c1, ⟨z1, c2⟩, c3, c4⟩ := hInv
      refine WW.run (pc' := 29) (lv' := [(3, .int (nI n)), (2, .int (nI n)), (1, .ref arr), (0, .ref L)]) (st' := [.int (nI n), .int (nI n)]) 2 rfl ?_
      refine WW.icmp_ge (tgt := 42) rfl rfl (fun _ => ?_) (fun hno => absurd (nI_le (Nat.le_refl _) (by omega)) hno)
      exact WW.vret rfl rfl ⟨rfl, ⟨⟨_, c1⟩, by omega, Or.inr ⟨_, c2, fun i hi => absurd hi (Nat.not_lt_zero i)⟩⟩, c3, fun k a e1 e2 => c4 k a e1 (fun q => e2 ⟨q.1, q.2, ha0⟩)⟩
end
