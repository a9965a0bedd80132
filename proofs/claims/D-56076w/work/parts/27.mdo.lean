set_option maxRecDepth 100000
/-! THE MODEL's CHANGES, by the state -/
theorem va_up_up {α : Type} (f : Nat → α) (k : Nat) (x y : α) : va_up (va_up f k x) k y = va_up f k y := by
  funext j
  unfold va_up
  by_cases h : j = k <;> simp [h]
theorem va_up_id {α : Type} (f : Nat → α) (k : Nat) : va_up f k (f k) = f := by
  funext j
  unfold va_up
  by_cases h : j = k <;> simp [h]
theorem WW.sast {X : wdX} {kc ks pc m : Nat} {A : Nat → Nat} {I : Nat → Int32} {F : Nat → Nat → Int32} {f : Nat → Int32} {x v : Int32} {lv : List (Nat × Value)} {rest : List Value} {w : wdW} (j : Nat) (ht : X.M.tab pc = some (.iastore, 1)) (hM : isM w m A I (va_up F 0 f)) (hx : x = nI j) (hj : j < 81)
    (kk : ∀ w1, isM w1 m A I (va_up F 0 (va_up f j v)) → mFr m A w w1 → WW X kc ks (pc + 1) lv rest w1) : WW X kc ks pc lv (.int v :: .int x :: .ref (A 0) :: rest) w :=
  WW.mast 0 j ht hM (by decide) rfl hx hj (by decide) (fun w1 h1 h2 => kk w1 (by rw [va_up_up] at h1; exact h1) h2)
theorem WW.scopy {X : wdX} {kc ks pc idx m : Nat} {A : Nat → Nat} {I : Nat → Int32} {F : Nat → Nat → Int32} {f : Nat → Int32} {lv : List (Nat × Value)} {rest : List Value} {w : wdW} {sp dp n : Int32} (x y z : Nat) (ht : X.M.tab pc = some (.invokestatic idx, 3)) (hL : wdLcp X.M.y.cls idx) (hM : isM w m A I (va_up F 0 f)) (hsp : sp = nI x) (hdp : dp = nI y) (hnz : n = nI z) (h4 : x + z ≤ 81) (h5 : y + z ≤ 81) (hW : (rest.map fun v => v.category).sum ≤ 8) (hd : 1 ≤ X.d)
    (kk : ∀ w1, isM w1 m A I (va_up F 0 (va_cpy f f x y z)) → mFr m A w w1 → WW X kc ks (pc + 3) lv rest w1) : WW X kc ks pc lv (.int n :: .int dp :: .ref (A 0) :: .int sp :: .ref (A 0) :: rest) w :=
  WW.mcopy 0 0 x y z ht hL hM (by decide) (by decide) rfl rfl hsp hdp hnz h4 h5 hW hd (fun w1 h1 h2 => kk w1 (by rw [va_up_up] at h1; exact h1) h2)
/-- a contract: the answer v, the state S' -/
abbrev SpS (l : Launch) (G : wdG) (M : wdM) (d : Nat) (m : Nat) (A : Nat → Nat) (I : Nat → Int32) (F : Nat → Nat → Int32) (as : List Value) (w : wdW) (v : Option Value) (S' : aS) : Prop := Sp l G M d 0 0 (.ref m :: as) w (fun o w' => ∃ f' : Nat → Int32, o = .inl v ∧ fS f' S' ∧ isM w' m A I (va_up F 0 f') ∧ mFr m A w w')
def rI (r : aR) (I : Nat → Int32) : Nat → Int32 := match r with
  | .inl p => va_up I 2 (nI p)
  | .inr _ => I
def rS (r : aR) (S : aS) : aS := match r with
  | .inl _ => S
  | .inr q => q.2
def rV (r : aR) : Int32 := match r with
  | .inl _ => nI 0
  | .inr q => q.1
/-- .. of a command: S becomes what r says -/
abbrev SpD (l : Launch) (G : wdG) (M : wdM) (d : Nat) (m : Nat) (A : Nat → Nat) (I : Nat → Int32) (F : Nat → Nat → Int32) (as : List Value) (w : wdW) (S : aS) (r : aR) : Prop := SpS l G M d m A (rI r I) F as w (some (.int (rV r))) (rS r S)
/-! the row of numbers changes -/
theorem fS.lamp {f f' : Nat → Int32} {S : aS} (h : fS f S) (hn : S.nl ≤ 8) {i : Nat} (hs : S.ns ≤ 6) (x : aLa) (hz : ∀ z, z < 25 + 5 * i ∨ 30 + 5 * i ≤ z → f' z = f z) (hi : i < 8) (h0 : f' (25 + 5 * i + 0) = x.lv) (h1 : f' (25 + 5 * i + 1) = nI x.le) (h2 : f' (25 + 5 * i + 2) = if x.le = 0 then nI 0 else x.en) (h3 : f' (25 + 5 * i + 3) = x.br) (h4 : f' (25 + 5 * i + 4) = bI x.was) : fS f' (S.wLa i x) := by
  obtain ⟨⟨a0, a1, a2, a3, a4, a5, a6⟩, b, c, d⟩ := h
  refine ⟨⟨(hz 0 (by omega)).trans a0, (hz 1 (by omega)).trans a1, (hz 2 (by omega)).trans a2, (hz 3 (by omega)).trans a3, (hz 4 (by omega)).trans a4, (hz 5 (by omega)).trans a5, (hz 6 (by omega)).trans a6⟩, fun k hk => ?_, fun k hk => ?_, fun k hk => ?_⟩
  · have hk' : k < S.ns := hk
    obtain ⟨b0, b1, b2⟩ := b k hk
    exact ⟨(hz _ (by omega)).trans b0, (hz _ (by omega)).trans b1, (hz _ (by omega)).trans b2⟩
  · by_cases e : k = i
    · subst e
      show _ = ((va_up S.la k x) k).lv ∧ _ = nI ((va_up S.la k x) k).le ∧ _ = (if ((va_up S.la k x) k).le = 0 then nI 0 else ((va_up S.la k x) k).en) ∧ _ = ((va_up S.la k x) k).br ∧ _ = bI ((va_up S.la k x) k).was
      rw [va_up_self]
      exact ⟨h0, h1, h2, h3, h4⟩
    · show _ = ((va_up S.la i x) k).lv ∧ _ = nI ((va_up S.la i x) k).le ∧ _ = (if ((va_up S.la i x) k).le = 0 then nI 0 else ((va_up S.la i x) k).en) ∧ _ = ((va_up S.la i x) k).br ∧ _ = bI ((va_up S.la i x) k).was
      rw [va_up_ne _ _ e]
      obtain ⟨c0, c1, c2, c3, c4⟩ := c k hk
      exact ⟨(hz _ (by omega)).trans c0, (hz _ (by omega)).trans c1, (hz _ (by omega)).trans c2, (hz _ (by omega)).trans c3, (hz _ (by omega)).trans c4⟩
  · obtain ⟨d0, d1⟩ := d k hk
    exact ⟨(hz _ (by omega)).trans d0, (hz _ (by omega)).trans d1⟩
theorem fS.ship {f f' : Nat → Int32} {S : aS} (h : fS f S) {i : Nat} (x : aSh) (hz : ∀ z, z < 7 + 3 * i ∨ 10 + 3 * i ≤ z → f' z = f z) (hi : i < 6) (h0 : f' (7 + 3 * i + 0) = x.1) (h1 : f' (7 + 3 * i + 1) = x.2.1) (h2 : f' (7 + 3 * i + 2) = x.2.2) : fS f' (S.wSh i x) := by
  obtain ⟨⟨a0, a1, a2, a3, a4, a5, a6⟩, b, c, d⟩ := h
  refine ⟨⟨(hz 0 (by omega)).trans a0, (hz 1 (by omega)).trans a1, (hz 2 (by omega)).trans a2, (hz 3 (by omega)).trans a3, (hz 4 (by omega)).trans a4, (hz 5 (by omega)).trans a5, (hz 6 (by omega)).trans a6⟩, fun k hk => ?_, fun k hk => ?_, fun k hk => ?_⟩
  · by_cases e : k = i
    · subst e
      show _ = ((va_up S.sh k x) k).1 ∧ _ = ((va_up S.sh k x) k).2.1 ∧ _ = ((va_up S.sh k x) k).2.2
      rw [va_up_self]
      exact ⟨h0, h1, h2⟩
    · show _ = ((va_up S.sh i x) k).1 ∧ _ = ((va_up S.sh i x) k).2.1 ∧ _ = ((va_up S.sh i x) k).2.2
      rw [va_up_ne _ _ e]
      obtain ⟨b0, b1, b2⟩ := b k hk
      exact ⟨(hz _ (by omega)).trans b0, (hz _ (by omega)).trans b1, (hz _ (by omega)).trans b2⟩
  · obtain ⟨c0, c1, c2, c3, c4⟩ := c k hk
    exact ⟨(hz _ (by omega)).trans c0, (hz _ (by omega)).trans c1, (hz _ (by omega)).trans c2, (hz _ (by omega)).trans c3, (hz _ (by omega)).trans c4⟩
  · obtain ⟨d0, d1⟩ := d k hk
    exact ⟨(hz _ (by omega)).trans d0, (hz _ (by omega)).trans d1⟩
/-- the numbers 2 to 5 -/
theorem fS.nums {f f' : Nat → Int32} {S : aS} (h : fS f S) (oil hour office refused : Int32) (hz : ∀ z, z < 2 ∨ 6 ≤ z → f' z = f z) (h2 : f' 2 = oil) (h3 : f' 3 = hour) (h4 : f' 4 = refused) (h5 : f' 5 = office) : fS f' (S.1, S.2.1, S.2.2.1, oil, hour, office, refused) := by
  obtain ⟨⟨a0, a1, a2, a3, a4, a5, a6⟩, b, c, d⟩ := h
  refine ⟨⟨(hz 0 (by omega)).trans a0, (hz 1 (by omega)).trans a1, h2, h3, h4, h5, (hz 6 (by omega)).trans a6⟩, fun k hk => ?_, fun k hk => ?_, fun k hk => ?_⟩
  · obtain ⟨b0, b1, b2⟩ := b k hk
    exact ⟨(hz _ (by omega)).trans b0, (hz _ (by omega)).trans b1, (hz _ (by omega)).trans b2⟩
  · obtain ⟨c0, c1, c2, c3, c4⟩ := c k hk
    exact ⟨(hz _ (by omega)).trans c0, (hz _ (by omega)).trans c1, (hz _ (by omega)).trans c2, (hz _ (by omega)).trans c3, (hz _ (by omega)).trans c4⟩
  · obtain ⟨d0, d1⟩ := d k hk
    exact ⟨(hz _ (by omega)).trans d0, (hz _ (by omega)).trans d1⟩
theorem fS.to {f : Nat → Int32} {S S' : aS} (h : fS f S) (e : S = S') : fS f S' := e ▸ h
theorem fS.oil {f : Nat → Int32} {S : aS} (h : fS f S) (x : Int32) : fS (va_up f 2 x) (S.wOil x) := h.nums _ _ _ _ (fun z hz => va_up_ne _ _ (by omega)) (va_up_self _ _ _) ((va_up_ne _ _ (by omega)).trans h.1.2.2.2.1) ((va_up_ne _ _ (by omega)).trans h.1.2.2.2.2.1) ((va_up_ne _ _ (by omega)).trans h.1.2.2.2.2.2.1)
theorem fS.hour {f : Nat → Int32} {S : aS} (h : fS f S) (x : Int32) : fS (va_up f 3 x) (S.wHour x) := h.nums _ _ _ _ (fun z hz => va_up_ne _ _ (by omega)) ((va_up_ne _ _ (by omega)).trans h.1.2.2.1) (va_up_self _ _ _) ((va_up_ne _ _ (by omega)).trans h.1.2.2.2.2.1) ((va_up_ne _ _ (by omega)).trans h.1.2.2.2.2.2.1)
theorem fS.refused {f : Nat → Int32} {S : aS} (h : fS f S) (x : Int32) : fS (va_up f 4 x) (S.wRef x) := h.nums _ _ _ _ (fun z hz => va_up_ne _ _ (by omega)) ((va_up_ne _ _ (by omega)).trans h.1.2.2.1) ((va_up_ne _ _ (by omega)).trans h.1.2.2.2.1) (va_up_self _ _ _) ((va_up_ne _ _ (by omega)).trans h.1.2.2.2.2.2.1)
theorem fS.office {f : Nat → Int32} {S : aS} (h : fS f S) (x : Int32) : fS (va_up f 5 x) (S.wOffice x) := h.nums _ _ _ _ (fun z hz => va_up_ne _ _ (by omega)) ((va_up_ne _ _ (by omega)).trans h.1.2.2.1) ((va_up_ne _ _ (by omega)).trans h.1.2.2.2.1) ((va_up_ne _ _ (by omega)).trans h.1.2.2.2.2.1) (va_up_self _ _ _)
/-- one number of a lamp -/
theorem fS.lamp3 {f : Nat → Int32} {S : aS} (h : fS f S) (hn : S.nl ≤ 8) (hs : S.ns ≤ 6) {i : Nat} (hi : i < S.nl) (x : Int32) : fS (va_up f (25 + 5 * i + 3) x) (S.wLa i ((S.la i).lv, (S.la i).le, (S.la i).en, x, (S.la i).was)) := by
  obtain ⟨c0, c1, c2, c3, c4⟩ := h.2.2.1 i hi
  exact h.lamp hn hs _ (fun z hz => va_up_ne _ _ (by omega)) (by omega) ((va_up_ne _ _ (by omega)).trans c0) ((va_up_ne _ _ (by omega)).trans c1) ((va_up_ne _ _ (by omega)).trans c2) (va_up_self _ _ _) ((va_up_ne _ _ (by omega)).trans c4)
theorem fS.lamp4 {f : Nat → Int32} {S : aS} (h : fS f S) (hn : S.nl ≤ 8) (hs : S.ns ≤ 6) {i : Nat} (hi : i < S.nl) (b : Bool) : fS (va_up f (25 + 5 * i + 4) (bI b)) (S.wLa i ((S.la i).lv, (S.la i).le, (S.la i).en, (S.la i).br, b)) := by
  obtain ⟨c0, c1, c2, c3, c4⟩ := h.2.2.1 i hi
  exact h.lamp hn hs _ (fun z hz => va_up_ne _ _ (by omega)) (by omega) ((va_up_ne _ _ (by omega)).trans c0) ((va_up_ne _ _ (by omega)).trans c1) ((va_up_ne _ _ (by omega)).trans c2) ((va_up_ne _ _ (by omega)).trans c3) (va_up_self _ _ _)
theorem fS.lamp2 {f : Nat → Int32} {S : aS} (h : fS f S) (hn : S.nl ≤ 8) (hs : S.ns ≤ 6) {i : Nat} (hi : i < S.nl) (hl : 0 < (S.la i).le) (x : Int32) : fS (va_up f (25 + 5 * i + 2) x) (S.wLa i ((S.la i).lv, (S.la i).le, x, (S.la i).br, (S.la i).was)) := by
  obtain ⟨c0, c1, c2, c3, c4⟩ := h.2.2.1 i hi
  exact h.lamp hn hs _ (fun z hz => va_up_ne _ _ (by omega)) (by omega) ((va_up_ne _ _ (by omega)).trans c0) ((va_up_ne _ _ (by omega)).trans c1) ((va_up_self _ _ _).trans (by rw [if_neg]; show ¬ (S.la i).le = 0; omega)) ((va_up_ne _ _ (by omega)).trans c3) ((va_up_ne _ _ (by omega)).trans c4)
theorem fS.lamp12 {f : Nat → Int32} {S : aS} (h : fS f S) (hn : S.nl ≤ 8) (hs : S.ns ≤ 6) {i : Nat} (hi : i < S.nl) (le : Nat) (en y : Int32) (hy : y = if le = 0 then nI 0 else en) : fS (va_up (va_up f (25 + 5 * i + 1) (nI le)) (25 + 5 * i + 2) y) (S.wLa i ((S.la i).lv, le, en, (S.la i).br, (S.la i).was)) := by
  obtain ⟨c0, c1, c2, c3, c4⟩ := h.2.2.1 i hi
  have n2 : ∀ z : Nat, z ≠ 25 + 5 * i + 1 → z ≠ 25 + 5 * i + 2 → va_up (va_up f (25 + 5 * i + 1) (nI le)) (25 + 5 * i + 2) y z = f z := fun z h1 h2 => (va_up_ne _ _ h2).trans (va_up_ne _ _ h1)
  exact h.lamp hn hs _ (fun z hz => n2 z (by omega) (by omega)) (by omega) ((n2 _ (by omega) (by omega)).trans c0) ((va_up_ne _ _ (by omega)).trans (va_up_self _ _ _)) ((va_up_self _ _ _).trans hy) ((n2 _ (by omega) (by omega)).trans c3) ((n2 _ (by omega) (by omega)).trans c4)
section
variable {l : Launch} {G : wdG} {w : wdW} {m : Nat} {A : Nat → Nat} {I : Nat → Int32} {F : Nat → Nat → Int32} {f : Nat → Int32} {S : aS}
theorem sS_sets (hM : isM w m A I (va_up F 0 f)) (i j : Nat) (x : Int32) (hb : 25 + 5 * i + j < 81) : Sp l G MX3_sets 0 0 0 [.ref m, .int (nI i), .int (nI j), .int x] w (fun o w' => o = .inl none ∧ isM w' m A I (va_up F 0 (va_up f (25 + 5 * i + j) x)) ∧ mFr m A w w') := by
  refine Sp.of rfl (by decide +kernel) kX3_sets (wd_le rfl) ?_
  refine WW.run (pc' := 1) (lv' := [(0, .ref m), (1, .int (nI i)), (2, .int (nI j)), (3, .int x)]) (st' := [.ref m]) 1 rfl ?_
  refine WW.get rfl fX3_9 hM.1 (show _ = some (.ref (A 0)) from rfl) ?_
  refine WW.run (pc' := 13) (lv' := [(0, .ref m), (1, .int (nI i)), (2, .int (nI j)), (3, .int x)]) (st' := [.int x, .int (((nI 25) + ((nI 5) * (nI i))) + (nI j)), .ref (A 0)]) 8 rfl ?_
  refine WW.sast ((25 + (5 * i)) + j) rfl hM (wn_add (wn_add rfl (wn_mul rfl rfl)) rfl) (by show _ < 81; omega) (fun w1 hM1 fr1 => ?_)
  exact WW.vret rfl rfl ⟨rfl, hM1, fr1⟩
theorem sS_pays (hM : isM w m A I (va_up F 0 f)) (hS : fS f S) (hW : aWf S) {j : Nat} (hj : j < S.ns) (c : Int32) : SpS l G MX3_pays 0 m A I F [.int (nI j), .int c] w none (S.pays j c) := by
  have h6 := hW.1
  refine Sp.of rfl (by decide +kernel) kX3_pays (wd_le rfl) ?_
  refine WW.run (pc' := 1) (lv' := [(0, .ref m), (1, .int (nI j)), (2, .int c)]) (st' := [.ref m]) 1 rfl ?_
  refine WW.get rfl fX3_9 hM.1 (show _ = some (.ref (A 0)) from rfl) ?_
  refine WW.run (pc' := 11) (lv' := [(0, .ref m), (1, .int (nI j)), (2, .int c)]) (st' := [.int ((nI 7) + ((nI 3) * (nI j))), .ref (A 0), .int ((nI 7) + ((nI 3) * (nI j))), .ref (A 0)]) 6 rfl ?_
  refine WW.mald 0 (7 + (3 * j)) rfl hM (by decide) rfl (wn_add rfl (wn_mul rfl rfl)) (by show _ < 81; omega) (by decide) (hS.2.1 j hj).1 ?_
  refine WW.run (pc' := 14) (lv' := [(0, .ref m), (1, .int (nI j)), (2, .int c)]) (st' := [.int (((S.sh j).1) - c), .int ((nI 7) + ((nI 3) * (nI j))), .ref (A 0)]) 2 rfl ?_
  refine WW.sast (7 + (3 * j)) rfl hM (wn_add rfl (wn_mul rfl rfl)) (by show _ < 81; omega) (fun w2 hM2 fr2 => ?_)
  refine WW.run (pc' := 16) (lv' := [(0, .ref m), (1, .int (nI j)), (2, .int c)]) (st' := [.ref m]) 1 rfl ?_
  refine WW.get rfl fX3_9 hM2.1 (show _ = some (.ref (A 0)) from rfl) ?_
  refine WW.run (pc' := 21) (lv' := [(0, .ref m), (1, .int (nI j)), (2, .int c)]) (st' := [.int (nI 5), .ref (A 0), .int (nI 5), .ref (A 0)]) 2 rfl ?_
  refine WW.mald 0 5 rfl hM2 (by decide) rfl rfl (by decide) (by decide) ((va_up_ne _ _ (by omega)).trans hS.1.2.2.2.2.2.1) ?_
  refine WW.run (pc' := 24) (lv' := [(0, .ref m), (1, .int (nI j)), (2, .int c)]) (st' := [.int (S.office + c), .int (nI 5), .ref (A 0)]) 2 rfl ?_
  refine WW.sast 5 rfl hM2 rfl (by decide) (fun w3 hM3 fr3 => ?_)
  have h1 : fS (va_up f (7 + (3 * j)) ((S.sh j).1 - c)) (S.wSh j ((S.sh j).1 - c, (S.sh j).2.1, (S.sh j).2.2)) := hS.ship _ (fun z hz => va_up_ne _ _ (by omega)) (by omega) (va_up_self _ _ _) ((va_up_ne _ _ (by omega)).trans (hS.2.1 j hj).2.1) ((va_up_ne _ _ (by omega)).trans (hS.2.1 j hj).2.2)
  exact WW.vret rfl rfl ⟨_, rfl, (h1.office _), hM3, (fr2.trans fr3)⟩
/-! burning -/
theorem aWf.same {S T : aS} (h : aWf S) (h1 : T.ns = S.ns) (h2 : T.nl = S.nl) (h3 : T.nr = S.nr) (h4 : T.rq = S.rq) (h5 : ∀ i, (T.la i).le = (S.la i).le) : aWf T := by
  obtain ⟨a1, a2, a3, a4, a5, a6⟩ := h
  refine ⟨by rw [h1]; exact a1, by rw [h2]; exact a2, by rw [h3]; exact a3, fun i hi => ?_, fun k hk => ?_, fun k k' hk hk' e => ?_⟩
  · rw [h5, h1]; exact a4 i (by rw [← h2]; exact hi)
  · rw [h4, h5, h2]; exact a5 k (by rw [← h3]; exact hk)
  · rw [h4] at e
    exact a6 k k' (by rw [← h3]; exact hk) (by rw [← h3]; exact hk') e
theorem wLa_le (S : aS) (i : Nat) (a c d : Int32) (b : Bool) (z : Nat) : ((S.wLa i (a, (S.la i).le, c, d, b)).la z).le = (S.la z).le := by
  show (va_up S.la i (a, (S.la i).le, c, d, b) z).le = _
  by_cases e : z = i
  · subst e; rw [va_up_self]
  · rw [va_up_ne _ _ e]
theorem wLa_wLa (S : aS) (i : Nat) (x y : aLa) : (S.wLa i x).wLa i y = S.wLa i y := by
  show (S.1, (S.nl, va_up (va_up S.la i x) i y), S.2.2) = _
  rw [va_up_up]
theorem burn1_same (S : aS) (i : Nat) : (S.burn1 i).ns = S.ns ∧ (S.burn1 i).nl = S.nl ∧ (S.burn1 i).nr = S.nr ∧ (S.burn1 i).rq = S.rq ∧ ∀ z, ((S.burn1 i).la z).le = (S.la z).le := ⟨rfl, rfl, rfl, rfl, fun z => wLa_le (S.wOil _) i _ _ _ _ z⟩
theorem burnTo_same (S : aS) : ∀ i, (S.burnTo i).ns = S.ns ∧ (S.burnTo i).nl = S.nl ∧ (S.burnTo i).nr = S.nr ∧ (S.burnTo i).rq = S.rq ∧ ∀ z, ((S.burnTo i).la z).le = (S.la z).le
  | 0 => ⟨rfl, rfl, rfl, rfl, fun _ => rfl⟩
  | i + 1 => by
    obtain ⟨a1, a2, a3, a4, a5⟩ := burnTo_same S i
    obtain ⟨b1, b2, b3, b4, b5⟩ := burn1_same (S.burnTo i) i
    exact ⟨b1.trans a1, b2.trans a2, b3.trans a3, b4.trans a4, fun z => (b5 z).trans (a5 z)⟩
theorem aWf.burnTo {S : aS} (h : aWf S) (i : Nat) : aWf (S.burnTo i) := by
  obtain ⟨a1, a2, a3, a4, a5⟩ := burnTo_same S i
  exact h.same a1 a2 a3 a4 a5
theorem sS_burns (hM : isM w m A I (va_up F 0 f)) (hS : fS f S) (hW : aWf S) : SpS l G MX3_burns 2 m A I F [] w (some (.int S.brights)) S.burn := by
  have hn : S.nl < 2 ^ 31 := by have := hW.2.1; omega
  refine Sp.of rfl (by decide +kernel) kX3_burns (wd_le rfl) ?_
  refine WW.run (pc' := 4) (lv' := [(2, .int (nI 0)), (1, .int (nI 0)), (0, .ref m)]) (st' := []) 4 rfl ?_
  refine WW.upW S.nl (fun _ => 0) (fun _ => 0) (fun i => [(2, .int (nI i)), (1, .int (S.burnN i)), (0, .ref m)]) (fun i w' => ∃ f', isM w' m A I (va_up F 0 f') ∧ fS f' (S.burnTo i) ∧ mFr m A w w') (fun i wi hi hInv ih => ?_) (fun wi hInv => ?_) ⟨f, hM, hS, mFr.refl _ _ _⟩
  · skip
    obtain ⟨f1, hM1, hS1, fr0⟩ := hInv
    have hW1 := hW.burnTo i
    have hnl : (S.burnTo i).nl = S.nl := (burnTo_same S i).2.1
    have hn8 := hW.2.1
    generalize hT : S.burnTo i = T at hS1 hW1 hnl
    have hi' : i < T.nl := by omega
    have h6 := hW1.1
    have h8 := hW1.2.1
    refine WW.run (pc' := 6) (lv' := [(2, .int (nI i)), (1, .int (S.burnN i)), (0, .ref m)]) (st' := [.ref m, .int (nI i)]) 2 rfl ?_
    refine WW.get rfl fX3_9 hM1.1 (show _ = some (.ref (A 0)) from rfl) ?_
    refine WW.run (pc' := 10) (lv' := [(2, .int (nI i)), (1, .int (S.burnN i)), (0, .ref m)]) (st' := [.int (nI 1), .ref (A 0), .int (nI i)]) 1 rfl ?_
    refine WW.mald 0 1 rfl hM1 (by decide) rfl rfl (by decide) (by decide) (hS1.1.2.1.trans (by rw [hnl])) ?_
    refine WW.icmp_ge (tgt := 121) rfl rfl (fun hno => absurd hno (nI_ge hi hn)) (fun _ => ?_)
    refine WW.run (pc' := 16) (lv' := [(2, .int (nI i)), (1, .int (S.burnN i)), (0, .ref m)]) (st' := [.int (nI i), .ref m]) 2 rfl ?_
    refine WW.callV [.int (nI i)] m [] rfl mX3_96 (sM_isOut hM1 hS1 hW1 hi') (wdRecv.obj hM1.1 rfl) rfl rfl (wd_le rfl) (wd_le rfl) (wd_le rfl) (wd_le rfl) (fun o w' hq => ?_)
    obtain ⟨rfl, rfl⟩ := hq
    show WW _ _ _ 19 _ [.int (bI (Nat.blt 0 (T.la i).le))] _
    refine WW.join (pc' := 42) (lv' := [(2, .int (nI i)), (1, .int (S.burnN i)), (0, .ref m)]) (st' := [.int (bI (T.glow i))]) ?_ (fun H => ?_)
    rotate_left
    · skip
      cases h0 : Nat.blt 0 (T.la i).le with
      | false =>
        refine WW.if_eq (tgt := 41) rfl rfl (fun _ => ?_) (fun hno => absurd rfl hno)
        refine WW.run (pc' := 42) (lv' := [(2, .int (nI i)), (1, .int (S.burnN i)), (0, .ref m)]) (st' := [.int (nI 0)]) 1 rfl ?_
        rw [show T.glow i = false by unfold aS.glow; rw [h0]; rfl] at H
        exact H
      | true =>
        refine WW.if_eq (tgt := 41) rfl rfl (fun hno => absurd hno (by decide)) (fun _ => ?_)
        refine WW.run (pc' := 25) (lv' := [(2, .int (nI i)), (1, .int (S.burnN i)), (0, .ref m)]) (st' := [.int (nI 0), .int (nI i), .ref m]) 3 rfl ?_
        refine WW.callV [.int (nI i), .int (nI 0)] m [] rfl mX3_58 (sM_lv hM1 hS1 hW1 hi') (wdRecv.obj hM1.1 rfl) rfl rfl (wd_le rfl) (wd_le rfl) (wd_le rfl) (wd_le rfl) (fun o w' hq => ?_)
        obtain ⟨rfl, rfl⟩ := hq
        show WW _ _ _ 28 _ [.int ((T.la i).lv)] _
        refine WW.run (pc' := 29) (lv' := [(2, .int (nI i)), (1, .int (S.burnN i)), (0, .ref m)]) (st' := [.ref m, .int ((T.la i).lv)]) 1 rfl ?_
        refine WW.get rfl fX3_9 hM1.1 (show _ = some (.ref (A 0)) from rfl) ?_
        refine WW.run (pc' := 33) (lv' := [(2, .int (nI i)), (1, .int (S.burnN i)), (0, .ref m)]) (st' := [.int (nI 2), .ref (A 0), .int ((T.la i).lv)]) 1 rfl ?_
        refine WW.mald 0 2 rfl hM1 (by decide) rfl rfl (by decide) (by decide) hS1.1.2.2.1 ?_
        by_cases h1 : (T.la i).lv ≤ T.oil
        · skip
          refine WW.icmp_gt (tgt := 41) rfl rfl (fun hno => absurd hno (Int32.not_lt.mpr h1)) (fun _ => ?_)
          refine WW.run (pc' := 42) (lv' := [(2, .int (nI i)), (1, .int (S.burnN i)), (0, .ref m)]) (st' := [.int (nI 1)]) 2 rfl ?_
          rw [show T.glow i = true by unfold aS.glow; rw [h0, decide_eq_true h1]; rfl] at H
          exact H
        · skip
          refine WW.icmp_gt (tgt := 41) rfl rfl (fun _ => ?_) (fun hno => absurd (Int32.not_le.mp h1) hno)
          refine WW.run (pc' := 42) (lv' := [(2, .int (nI i)), (1, .int (S.burnN i)), (0, .ref m)]) (st' := [.int (nI 0)]) 1 rfl ?_
          rw [show T.glow i = false by unfold aS.glow; rw [h0, decide_eq_false h1]; rfl] at H
          exact H
    generalize hg : T.glow i = g
    refine WW.run (pc' := 44) (lv' := [(3, .int (bI (g))), (2, .int (nI i)), (1, .int (S.burnN i)), (0, .ref m)]) (st' := [.ref m]) 2 rfl ?_
    refine WW.get rfl fX3_9 hM1.1 (show _ = some (.ref (A 0)) from rfl) ?_
    refine WW.run (pc' := 49) (lv' := [(3, .int (bI (g))), (2, .int (nI i)), (1, .int (S.burnN i)), (0, .ref m)]) (st' := [.int (nI 2), .ref (A 0), .int (nI 2), .ref (A 0)]) 2 rfl ?_
    refine WW.mald 0 2 rfl hM1 (by decide) rfl rfl (by decide) (by decide) hS1.1.2.2.1 ?_
    refine WW.run (pc' := 51) (lv' := [(3, .int (bI (g))), (2, .int (nI i)), (1, .int (S.burnN i)), (0, .ref m)]) (st' := [.int (bI (g)), .int T.oil, .int (nI 2), .ref (A 0)]) 1 rfl ?_
    refine WW.join (pc' := 64) (lv' := [(3, .int (bI (g))), (2, .int (nI i)), (1, .int (S.burnN i)), (0, .ref m)]) (st' := [.int (bif g then (T.la i).lv else nI 0), .int T.oil, .int (nI 2), .ref (A 0)]) ?_ ?_
    rotate_left
    · cases hb : g with
      | false =>
        intro H
        refine WW.if_eq (tgt := 63) rfl rfl (fun _ => ?_) (fun hno => absurd rfl hno)
        refine WW.run (pc' := 64) (lv' := [(3, .int (bI (false))), (2, .int (nI i)), (1, .int (S.burnN i)), (0, .ref m)]) (st' := [.int (nI 0), .int T.oil, .int (nI 2), .ref (A 0)]) 1 rfl ?_
        exact H
      | true =>
        intro H
        refine WW.if_eq (tgt := 63) rfl rfl (fun hno => absurd hno (by decide)) (fun _ => ?_)
        refine WW.run (pc' := 57) (lv' := [(3, .int (bI (true))), (2, .int (nI i)), (1, .int (S.burnN i)), (0, .ref m)]) (st' := [.int (nI 0), .int (nI i), .ref m, .int T.oil, .int (nI 2), .ref (A 0)]) 3 rfl ?_
        refine WW.callV [.int (nI i), .int (nI 0)] m [.int T.oil, .int (nI 2), .ref (A 0)] rfl mX3_58 (sM_lv hM1 hS1 hW1 hi') (wdRecv.obj hM1.1 rfl) rfl rfl (wd_le rfl) (wd_le rfl) (wd_le rfl) (wd_le rfl) (fun o w' hq => ?_)
        obtain ⟨rfl, rfl⟩ := hq
        show WW _ _ _ 60 _ [.int ((T.la i).lv), .int T.oil, .int (nI 2), .ref (A 0)] _
        refine WW.run (pc' := 64) (lv' := [(3, .int (bI (true))), (2, .int (nI i)), (1, .int (S.burnN i)), (0, .ref m)]) (st' := [.int ((T.la i).lv), .int T.oil, .int (nI 2), .ref (A 0)]) 1 rfl ?_
        exact H
    refine WW.run (pc' := 65) (lv' := [(3, .int (bI (g))), (2, .int (nI i)), (1, .int (S.burnN i)), (0, .ref m)]) (st' := [.int (T.oil - (bif g then (T.la i).lv else nI 0)), .int (nI 2), .ref (A 0)]) 1 rfl ?_
    refine WW.sast 2 rfl hM1 rfl (by decide) (fun w4 hM4 fr4 => ?_)
    have hS2 := hS1.oil (T.oil - (bif g then (T.la i).lv else nI 0))
    have hW2 : aWf (T.wOil (T.oil - (bif g then (T.la i).lv else nI 0))) := hW1.same rfl rfl rfl rfl (fun _ => rfl)
    refine WW.run (pc' := 70) (lv' := [(3, .int (bI (g))), (2, .int (nI i)), (1, .int (S.burnN i)), (0, .ref m)]) (st' := [.int (bI (g)), .int (nI 4), .int (nI i), .ref m]) 4 rfl ?_
    refine WW.join (pc' := 78) (lv' := [(3, .int (bI (g))), (2, .int (nI i)), (1, .int (S.burnN i)), (0, .ref m)]) (st' := [.int (bI g), .int (nI 4), .int (nI i), .ref m]) ?_ ?_
    rotate_left
    · cases hb : g with
      | false =>
        intro H
        refine WW.if_eq (tgt := 77) rfl rfl (fun _ => ?_) (fun hno => absurd rfl hno)
        refine WW.run (pc' := 78) (lv' := [(3, .int (bI (false))), (2, .int (nI i)), (1, .int (S.burnN i)), (0, .ref m)]) (st' := [.int (nI 0), .int (nI 4), .int (nI i), .ref m]) 1 rfl ?_
        exact H
      | true =>
        intro H
        refine WW.if_eq (tgt := 77) rfl rfl (fun hno => absurd hno (by decide)) (fun _ => ?_)
        refine WW.run (pc' := 78) (lv' := [(3, .int (bI (true))), (2, .int (nI i)), (1, .int (S.burnN i)), (0, .ref m)]) (st' := [.int (nI 1), .int (nI 4), .int (nI i), .ref m]) 2 rfl ?_
        exact H
    refine WW.callV [.int (nI i), .int (nI 4), .int (bI g)] m [] rfl mX3_66 (sS_sets hM4 i 4 (bI g) (by omega)) (wdRecv.obj hM4.1 rfl) rfl rfl (wd_le rfl) (wd_le rfl) (wd_le rfl) (wd_le rfl) (fun o w5 hq => ?_)
    obtain ⟨rfl, hM5, fr5⟩ := hq
    show WW _ _ _ 81 _ [] _
    have hS3 := hS2.lamp4 h8 h6 hi' g
    have hW3 : aWf ((T.wOil (T.oil - (bif g then (T.la i).lv else nI 0))).wLa i ((T.la i).lv, (T.la i).le, (T.la i).en, (T.la i).br, g)) := hW2.same rfl rfl rfl rfl (fun z => wLa_le (T.wOil _) i _ _ _ _ z)
    obtain ⟨T3, hT3⟩ : ∃ z, z = (T.wOil (T.oil - (bif g then (T.la i).lv else nI 0))).wLa i ((T.la i).lv, (T.la i).le, (T.la i).en, (T.la i).br, g) := ⟨_, rfl⟩
    have e3 : T3.la i = ((T.la i).lv, (T.la i).le, (T.la i).en, (T.la i).br, g) := by rw [hT3]; exact va_up_self _ _ _
    have hi3 : i < T3.nl := by rw [hT3]; exact hi'
    replace hS3 := hS3.to hT3.symm
    rw [← hT3] at hW3
    refine WW.run (pc' := 87) (lv' := [(3, .int (bI (g))), (2, .int (nI i)), (1, .int (S.burnN i)), (0, .ref m)]) (st' := [.int (nI 3), .int (nI i), .ref m, .int (nI 3), .int (nI i), .ref m]) 6 rfl ?_
    have hbr := sM_br (l := l) (G := G) hM5 hS3 hW3 hi3
    rw [e3] at hbr
    refine WW.callV [.int (nI i), .int (nI 3)] m [.int (nI 3), .int (nI i), .ref m] rfl mX3_58 hbr (wdRecv.obj hM5.1 rfl) rfl rfl (wd_le rfl) (wd_le rfl) (wd_le rfl) (wd_le rfl) (fun o w' hq => ?_)
    obtain ⟨rfl, rfl⟩ := hq
    show WW _ _ _ 90 _ [.int ((T.la i).br), .int (nI 3), .int (nI i), .ref m] _
    refine WW.run (pc' := 91) (lv' := [(3, .int (bI (g))), (2, .int (nI i)), (1, .int (S.burnN i)), (0, .ref m)]) (st' := [.int (bI (g)), .int ((T.la i).br), .int (nI 3), .int (nI i), .ref m]) 1 rfl ?_
    refine WW.join (pc' := 99) (lv' := [(3, .int (bI (g))), (2, .int (nI i)), (1, .int (S.burnN i)), (0, .ref m)]) (st' := [.int (bI g), .int ((T.la i).br), .int (nI 3), .int (nI i), .ref m]) ?_ ?_
    rotate_left
    · cases hb : g with
      | false =>
        intro H
        refine WW.if_eq (tgt := 98) rfl rfl (fun _ => ?_) (fun hno => absurd rfl hno)
        refine WW.run (pc' := 99) (lv' := [(3, .int (bI (false))), (2, .int (nI i)), (1, .int (S.burnN i)), (0, .ref m)]) (st' := [.int (nI 0), .int ((T.la i).br), .int (nI 3), .int (nI i), .ref m]) 1 rfl ?_
        exact H
      | true =>
        intro H
        refine WW.if_eq (tgt := 98) rfl rfl (fun hno => absurd hno (by decide)) (fun _ => ?_)
        refine WW.run (pc' := 99) (lv' := [(3, .int (bI (true))), (2, .int (nI i)), (1, .int (S.burnN i)), (0, .ref m)]) (st' := [.int (nI 1), .int ((T.la i).br), .int (nI 3), .int (nI i), .ref m]) 2 rfl ?_
        exact H
    refine WW.run (pc' := 100) (lv' := [(3, .int (bI (g))), (2, .int (nI i)), (1, .int (S.burnN i)), (0, .ref m)]) (st' := [.int (((T.la i).br) + (bI g)), .int (nI 3), .int (nI i), .ref m]) 1 rfl ?_
    refine WW.callV [.int (nI i), .int (nI 3), .int (((T.la i).br) + (bI g))] m [] rfl mX3_66 (sS_sets hM5 i 3 (((T.la i).br) + (bI g)) (by omega)) (wdRecv.obj hM5.1 rfl) rfl rfl (wd_le rfl) (wd_le rfl) (wd_le rfl) (wd_le rfl) (fun o w6 hq => ?_)
    obtain ⟨rfl, hM6, fr6⟩ := hq
    show WW _ _ _ 103 _ [] _
    have hS4 := hS3.lamp3 hW3.2.1 hW3.1 hi3 ((T.la i).br + bI g)
    have e4 : T3.wLa i ((T3.la i).lv, (T3.la i).le, (T3.la i).en, (T.la i).br + bI g, (T3.la i).was) = T.burn1 i := by
      rw [e3, hT3, wLa_wLa]
      unfold aS.burn1
      rw [hg]
    rw [e4] at hS4
    refine WW.run (pc' := 105) (lv' := [(3, .int (bI (g))), (2, .int (nI i)), (1, .int (S.burnN i)), (0, .ref m)]) (st' := [.int (bI (g)), .int (S.burnN i)]) 2 rfl ?_
    refine WW.join (pc' := 113) (lv' := [(3, .int (bI (g))), (2, .int (nI i)), (1, .int (S.burnN i)), (0, .ref m)]) (st' := [.int (bI g), .int (S.burnN i)]) ?_ ?_
    rotate_left
    · cases hb : g with
      | false =>
        intro H
        refine WW.if_eq (tgt := 112) rfl rfl (fun _ => ?_) (fun hno => absurd rfl hno)
        refine WW.run (pc' := 113) (lv' := [(3, .int (bI (false))), (2, .int (nI i)), (1, .int (S.burnN i)), (0, .ref m)]) (st' := [.int (nI 0), .int (S.burnN i)]) 1 rfl ?_
        exact H
      | true =>
        intro H
        refine WW.if_eq (tgt := 112) rfl rfl (fun hno => absurd hno (by decide)) (fun _ => ?_)
        refine WW.run (pc' := 113) (lv' := [(3, .int (bI (true))), (2, .int (nI i)), (1, .int (S.burnN i)), (0, .ref m)]) (st' := [.int (nI 1), .int (S.burnN i)]) 2 rfl ?_
        exact H
    refine WW.run (pc' := 4) (lv' := [(2, .int ((nI i) + nI 1)), (1, .int ((S.burnN i) + (bI g))), (3, .int (bI (g))), (0, .ref m)]) (st' := []) 4 rfl ?_
    refine WW.pick (lv' := [(2, .int ((nI i) + nI 1)), (1, .int ((S.burnN i) + (bI g))), (0, .ref m)]) [0, 1, 3] rfl ?_
    rw [nI_add]
    have h9 := ih _ ⟨_, hM6, show fS _ (S.burnTo (i + 1)) from by rw [show S.burnTo (i + 1) = (S.burnTo i).burn1 i from rfl, hT]; exact hS4, ((fr0.trans fr4).trans fr5).trans fr6⟩
    rw [show S.burnN (i + 1) = S.burnN i + bI g from by show S.burnN i + bI ((S.burnTo i).glow i) = _; rw [hT, hg]] at h9
    exact h9
  · skip
    obtain ⟨f1, hM1, hS1, fr0⟩ := hInv
    have hnl : (S.burnTo S.nl).nl = S.nl := (burnTo_same S _).2.1
    refine WW.run (pc' := 6) (lv' := [(2, .int (nI S.nl)), (1, .int S.brights), (0, .ref m)]) (st' := [.ref m, .int (nI S.nl)]) 2 rfl ?_
    refine WW.get rfl fX3_9 hM1.1 (show _ = some (.ref (A 0)) from rfl) ?_
    refine WW.run (pc' := 10) (lv' := [(2, .int (nI S.nl)), (1, .int S.brights), (0, .ref m)]) (st' := [.int (nI 1), .ref (A 0), .int (nI S.nl)]) 1 rfl ?_
    refine WW.mald 0 1 rfl hM1 (by decide) rfl rfl (by decide) (by decide) (hS1.1.2.1.trans (by rw [hnl])) ?_
    refine WW.icmp_ge (tgt := 121) rfl rfl (fun _ => ?_) (fun hno => absurd (nI_le (Nat.le_refl _) hn) hno)
    refine WW.run (pc' := 122) (lv' := [(2, .int (nI S.nl)), (1, .int S.brights), (0, .ref m)]) (st' := [.int S.brights]) 1 rfl ?_
    exact WW.iret rfl rfl rfl ⟨_, rfl, hS1, hM1, fr0⟩
end
