set_option maxRecDepth 100000
/-! THE LAW'S STATE -/
theorem lg_cmp_self (x : Int64) : lg_cmp x x = 0 := by
  unfold lg_cmp
  simp
section
variable {G : wdG} {w w' : wdW} {o hl inp sb st harr sbarr : Nat} {hg : Nat → Nat} {sva : Option Nat} {I J : Nat → Int32} {cur : aS} {hn : Nat} {hist : Nat → aS} {sv : Option aS} {ic : Nat → Int32} {on : Nat} {oc : Nat → Int32} {n m : Nat} {A : Nat → Nat} {t : Int32} {F : Nat → Nat → Int32}
/-- the kinds that the component's cells have -/
abbrev oKd (inp k b : Nat) : Prop := k ≠ 2 ∧ k ≠ 32 ∧ k ≠ 35 ∧ k ≠ 36 ∧ (k = 33 → b = inp)
theorem isSo.oldK {a : Nat} {S : aS} (h : isSo G w hl harr a S) (f : ∀ k b p, w.1 k b = some p → oKd inp k b → w'.1 k b = some p) : isSo G w' hl harr a S := by
  obtain ⟨lo, Z, gs, gl, gr, h1, h2⟩ := h
  exact ⟨lo, Z, gs, gl, gr, h1.keepK (fun k b p hp hk => f k b p hp (by rcases hk with e | e | e | e | ⟨e, -⟩ | ⟨e, -⟩ <;> exact ⟨by omega, by omega, by omega, by omega, by omega⟩)), h2⟩
theorem isOf.oldK (h : isOf G w o hl inp sb I cur hn hist sv ic on oc) (f : ∀ k b p, w.1 k b = some p → oKd inp k b → w'.1 k b = some p) : isOf G w' o hl inp sb I cur hn hist sv ic on oc := by
  obtain ⟨st, harr, hg, sva, sbarr, h1, h2, h3, h4, h5, h6, h7⟩ := h
  have k0 : ∀ {b : Nat}, oKd inp 0 b := ⟨by decide, by decide, by decide, by decide, fun e => absurd e (by decide)⟩
  have k10 : ∀ {b : Nat}, oKd inp 10 b := ⟨by decide, by decide, by decide, by decide, fun e => absurd e (by decide)⟩
  have k37 : ∀ {b : Nat}, oKd inp 37 b := ⟨by decide, by decide, by decide, by decide, fun e => absurd e (by decide)⟩
  have k12 : ∀ {b : Nat}, oKd inp 12 b := ⟨by decide, by decide, by decide, by decide, fun e => absurd e (by decide)⟩
  have k34 : ∀ {b : Nat}, oKd inp 34 b := ⟨by decide, by decide, by decide, by decide, fun e => absurd e (by decide)⟩
  refine ⟨st, harr, hg, sva, sbarr, f _ _ _ h1 k0, h2.to (fun p hp => f _ _ _ hp k10) (fun p hp => f _ _ _ hp k37), h3.oldK f, fun i hi => (h4 i hi).oldK f, ?_, f _ _ _ h6 ⟨by decide, by decide, by decide, by decide, fun _ => rfl⟩, h7.to (fun p hp => f _ _ _ hp k12) (fun p hp => f _ _ _ hp k34)⟩
  cases sva <;> cases sv <;> first | exact h5 | exact isSo.oldK h5 f
theorem isM.other (ok : wdOk G w) (hM : isM w m A I F) {k b : Nat} {p : wdPay} (hp : w.1 k b = some p) (h2 : k ≠ 2) (h32 : k ≠ 32) (h33 : k = 33 → ∀ i, i < 8 → A i ≠ b) : b ≠ m ∧ ∀ i, i < 8 → b ≠ A i := by
  refine ⟨fun e => ?_, fun i hi e => ?_⟩
  · subst e
    exact h2 (ok.2.1 _ _ _ _ _ hp hM.1)
  · subst e
    have := ok.2.1 _ _ _ _ _ hp (hM.2.1 i hi)
    have hk : mK i = 32 ∨ mK i = 33 := by
      rcases i with _ | _ | _ | _ | _ | _ | _ | _ | i
      all_goals first | decide | omega
    rcases hk with q | q
    · exact h32 (this.trans q)
    · exact h33 (this.trans q) i hi rfl
/-- the model has moved: the office stays -/
theorem isOf.mFr {I9 : Nat → Int32} (ok : wdOk G w) (h : isOf G w o hl inp sb I cur hn hist sv ic on oc) (hM : isM w m A I9 F) (hA : ∀ i, i < 8 → A i ≠ inp) (fr : mFr m A w w') : isOf G w' o hl inp sb I cur hn hist sv ic on oc :=
  h.oldK (fun k b p hp ⟨h2, h32, _, _, h33⟩ => by
    obtain ⟨e1, e2⟩ := isM.other ok hM hp h2 h32 (fun e => by rw [h33 e]; exact hA)
    exact (fr.1 b e1 e2 k).trans hp)
theorem mFr.keep (ok : wdOk G w) (hM : isM w m A I F) (fr : mFr m A w w') {k b : Nat} {p : wdPay} (hp : w.1 k b = some p) (hk : k = 35 ∨ k = 36) : w'.1 k b = some p := by
  obtain ⟨e1, e2⟩ := isM.other ok hM hp (by omega) (by omega) (fun e => by omega)
  exact (fr.1 b e1 e2 k).trans hp
/-- the component has moved: the model stays -/
theorem isMm.lFr {kd : Nat} (h : isMm w m A t J cur hn hist sv n ic on oc) (hA : ∀ i, i < 8 → A i ≠ inp) (f : lFr inp kd w w') : isMm w' m A t J cur hn hist sv n ic on oc := by
  obtain ⟨I, F, hM, ht, hR⟩ := h
  refine ⟨I, F, hM.mto (fun p hp => f.2 _ _ _ hp (Or.inl rfl)) (fun i p hi hp => f.2 _ _ _ hp ?_), ht, hR⟩
  have hk : mK i = 32 ∨ mK i = 33 := by
    rcases i with _ | _ | _ | _ | _ | _ | _ | _ | i
    all_goals first | decide | omega
  rcases hk with q | q
  · exact Or.inr (Or.inl q)
  · exact Or.inr (Or.inr (Or.inr ⟨q, hA i hi⟩))
/-- both are in the same state -/
def lI (G : wdG) (w : wdW) (o hl inp sb m : Nat) (A : Nat → Nat) (ou od : Nat) (cur : aS) (hn : Nat) (hist : Nat → aS) (sv : Option aS) (n : Nat) (ic : Nat → Int32) (on : Nat) (oc : Nat → Int32) (J : Nat → Int32) : Prop :=
  isOf G w o hl inp sb J cur hn hist sv ic on oc ∧ J 0 = nI n ∧ (∃ t J', isMm w m A t J' cur hn hist sv n ic on oc ∧ J' 1 = J 1 ∧ J' 2 = J 2 ∧ J' 3 = J 3) ∧ (∃ f : Nat → Int64, w.1 35 ou = some (.inr (1, .inr (.inl f)))) ∧ (∃ f : Nat → UInt64, w.1 36 od = some (.inr (1, .inr (.inr (.inr (.inl f)))))) ∧ ∀ i, i < 8 → A i ≠ inp
theorem mR.j {J' : Nat → Int32} (h : mR I F J cur hn hist sv n ic on oc) (h1 : J' 1 = J 1) (h2 : J' 2 = J 2) (h3 : J' 3 = J 3) : mR I F J' cur hn hist sv n ic on oc := by
  obtain ⟨g0, g1, g2, g3, g4, g5, g6, g7⟩ := h
  exact ⟨g0, g1, g2, g3, g4, by rw [h1]; exact g5, by rw [h2]; exact g6, by rw [h3]; exact g7⟩
theorem isMm.j {J' : Nat → Int32} (h : isMm w m A t J cur hn hist sv n ic on oc) (h1 : J' 1 = J 1) (h2 : J' 2 = J 2) (h3 : J' 3 = J 3) : isMm w m A t J' cur hn hist sv n ic on oc := by
  obtain ⟨I, F, a, b, c⟩ := h
  exact ⟨I, F, a, b, c.j h1 h2 h3⟩
end
/-! what the law asks of a state, plainly -/
def gDark (S : aS) : Nat ⊕ Value := bif decide ((S.wRq 0 S.rq).dark 600 (nI 0) = -1) then .inl 1 else .inr (.int ((S.wRq 0 S.rq).dark 600 (nI 0)))
def gEnds (S : aS) : Nat ⊕ Value := bif decide (S.byEnds 601 S.oil S.hour = -1) then .inl 1 else .inr (.int (S.byEnds 601 S.oil S.hour))
def gByF (S : aS) (x : Int32) : Nat ⊕ Value := match aSeek (fun i => S.fRank i S.ns) x S.ns 0 with
  | some i => .inr (.int (nI i))
  | none => .inl 1
def gByE (S : aS) (x : Int32) : Nat ⊕ Value := match aSeekP (fun i => Nat.blt 0 (S.la i).le && decide (S.eRank i S.nl = x)) S.nl 0 with
  | some i => .inr (.int (nI i))
  | none => .inl 1
/-- a state's shape and the sizes of its numbers -/
def gA (S : aS) : Prop := aWf S ∧ aEnds 600 S ∧ aQrB S ∧ aShB S ∧ aLaB S ∧ aTx S ∧ (∀ i, i < S.nl → 0 < (S.la i).le → ∃ m, 1 ≤ m ∧ m ≤ 24 ∧ (S.la i).lv = nI m) ∧ (∃ L, S.shl S.ns = nI L ∧ L < 1000 ∧ (0 < L → 0 < S.ns) ∧ ∀ k, k < S.ns → shG S.ns L S.quo S.rem k = S.byRank k) ∧ ((∀ x, S.next x S.nl ≠ -1 → ¬ S.after x = 0) ∧ ∃ m : Int32 → Nat, (∀ x, S.next x S.nl ≠ -1 → m (S.next x S.nl) < m x) ∧ m S.hour ≤ 600)
/-- the two sides' answers are the same -/
def gB (S : aS) : Prop := gDark S = oR (S.darkM 600 0) ∧ gEnds S = oR (S.darkM 600 0) ∧ S.top 25 0 (nI 0) = S.most ∧ (∀ x, gByF S x = bif S.ixS x then .inr (.int (S.lastF x)) else .inl 1) ∧ (∀ x, gByE S x = bif inR x (nI 0) (S.leased - nI 1) then .inr (.int (S.lastL x)) else .inl 1) ∧ S.coinTo S.ns = nI 100 * nI S.ns ∧ aSum S.byRank S.ns = bif decide (S.needs = 0) then nI 0 else S.oil
/-- the quotients are numbers -/
def gN (S : aS) : Prop := (0 < S.ns → vf_n64 (FP.ddiv (FP.i2d S.coins) (FP.i2d (nI S.ns)))) ∧ (0 < S.nl → vf_n32 (FP.fdiv (FP.i2f S.leased) (FP.i2f (nI S.nl))) ∧ vf_n64 (FP.f2d (FP.fdiv (FP.i2f S.leased) (FP.i2f (nI S.nl)))) ∧ Op.cmpValue (FP.dcmp (FP.f2d (FP.fdiv (FP.i2f S.leased) (FP.i2f (nI S.nl)))) (FP.f2d (FP.fdiv (FP.i2f S.leased) (FP.i2f (nI S.nl))))) .l = 0)
def lG (cur : aS) (hn : Nat) (hist : Nat → aS) (sv : Option aS) (n : Nat) (ic : Nat → Int32) (on : Nat) (oc : Nat → Int32) (J : Nat → Int32) : Prop :=
  gA cur ∧ gB cur ∧ gN cur ∧ ((J 1 = -1 ∨ 0 ≤ J 1) ∧ (J 2 = -1 ∨ 0 ≤ J 2) ∧ narrow .char (.int (J 3)) = .int (J 3)) ∧ (tSm (on, oc) ∧ on ≤ 120) ∧ (n ≤ 60 ∧ ∀ j, j < n → narrow .char (.int (ic j)) = .int (ic j)) ∧ (hn ≤ 8 ∧ ∀ k, k < hn → aWf (hist k)) ∧ (∀ T, sv = some T → aWf T) ∧ ∀ cs, kAll ic n = .inr cs → kWf cs cur
theorem rOk_b {N : Nat} (hN : 1 ≤ N) {b : Bool} {y : Int32} : rOk N (bif b then .inr (.int y) else .inl 1) := by
  cases b with
  | true => exact ⟨y, rfl⟩
  | false => exact ⟨Nat.le_refl 1, hN⟩
theorem isMm.cell {w : wdW} {m : Nat} {A : Nat → Nat} {t : Int32} {J : Nat → Int32} {cur : aS} {hn : Nat} {hist : Nat → aS} {sv : Option aS} {n : Nat} {ic : Nat → Int32} {on : Nat} {oc : Nat → Int32} (h : isMm w m A t J cur hn hist sv n ic on oc) : ∃ I F, isM w m A I F ∧ I 2 = t := by
  obtain ⟨I, F, h1, h2, -⟩ := h
  exact ⟨I, F, h1, h2⟩
/-- the script is read -/
theorem WW.scr {X : wdX} {kc ks pc : Nat} {x : Int32} {lv : List (Nat × Value)} {rest : List Value} {w : wdW} (j : Nat) (ht : X.M.tab pc = some (.iaload, 1)) (hx : x = nI j) (hj : j < X.G.2.2.2.2.2.2.1) (hl : X.G.2.2.2.2.2.2.1 < 2 ^ 31) (kk : WW X kc ks (pc + 1) lv (.int (X.G.2.2.2.2.2.2.2 j) :: rest) w) : WW X kc ks pc lv (.int x :: .ref (X.G.2.2.2.1 3) :: rest) w := by
  subst hx
  exact WW.ialdT (v := .int (X.G.2.2.2.2.2.2.2 j)) ht (List.mem_of_getElem? (i := 3) rfl) (vp_in_nI hj hl) (by show Value.int _ = _; rw [nI_clamp (by omega)]) kk
def lQ : wdO → wdW → Prop := fun o _ => o = .inl (some (.int (nI 1)))
