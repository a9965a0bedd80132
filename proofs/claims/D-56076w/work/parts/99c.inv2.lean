set_option maxRecDepth 100000
section
variable {S : aS} {m h q : Nat} {cc ff v d : Nat → Nat}
theorem renew1_n (S : aS) (k : Nat) : (S.renew1 k).nr = S.nr ∧ (S.renew1 k).nl = S.nl ∧ (S.renew1 k).ns = S.ns ∧ (S.renew1 k).rq = S.rq := by
  unfold aS.renew1
  dsimp only
  cases decide ((S.la (S.rq k).1).lv * (S.rq k).2 ≤ (S.sh ((S.la (S.rq k).1).le - 1)).1) <;> exact ⟨rfl, rfl, rfl, rfl⟩
theorem renewTo_n (S : aS) : ∀ k, (S.renewTo k).nr = S.nr ∧ (S.renewTo k).nl = S.nl ∧ (S.renewTo k).ns = S.ns
  | 0 => ⟨rfl, rfl, rfl⟩
  | k + 1 => by
    obtain ⟨h1, h2, h3⟩ := renewTo_n S k
    obtain ⟨g1, g2, g3, -⟩ := renew1_n (S.renewTo k) k
    exact ⟨g1.trans h1, g2.trans h2, g3.trans h3⟩
theorem aV.renewTo (hW : aWf S) (H : aV S m h q cc ff v d) : ∀ k, k ≤ S.nr → ∃ cc' ff' d', aV (S.renewTo k) m h q cc' ff' v d'
  | 0, _ => ⟨cc, ff, d, H⟩
  | k + 1, hk => by
    obtain ⟨c1, f1, d1, H1⟩ := aV.renewTo hW H k (by omega)
    exact H1.renew1 (hW.renewTo k) (by rw [(renewTo_n S k).1]; omega)
theorem aV.noReq (H : aV S m h q cc ff v d) (g : Nat → aRe) : aV (S.wRq 0 g) m h q cc ff v d := by
  obtain ⟨a1, a4, a5, a6, a7⟩ := H
  exact ⟨a1, a4, a5, fun k hk => absurd hk (Nat.not_lt_zero k), (coinTo_same (S := S) (T := S.wRq 0 g) rfl (fun _ => rfl) S.ns).trans a7⟩
theorem fine1_nl (S : aS) (j : Nat) : (S.fine1 j).nl = S.nl := by
  unfold aS.fine1
  cases decide (nI 0 < S.leasesOf j) && !(S.lit j) <;> rfl
theorem fineTo_nl (S : aS) : ∀ j, (S.fineTo j).nl = S.nl
  | 0 => rfl
  | j + 1 => (fine1_nl _ _).trans (fineTo_nl S j)
theorem burnTo_ns (S : aS) : ∀ i, (S.burnTo i).ns = S.ns
  | 0 => rfl
  | i + 1 => burnTo_ns S i
/-- an hour -/
theorem aV.hourS (hW : aWf S) (H : aV S S.nl h q cc ff v d) (hh : h + 1 < 2 ^ 30) : ∃ q' cc' ff' d', aV S.hourS S.hourS.nl (h + 1) q' cc' ff' v d' := by
  obtain ⟨c1, f1, d1, H1⟩ := H.renewTo hW S.nr (Nat.le_refl _)
  have H2 : aV S.renew S.nl h q c1 f1 v d1 := H1.noReq S.rq
  have n2 : S.renew.nl = S.nl := (renewTo_n S S.nr).2.1
  obtain ⟨q3, H3⟩ := H2.burnTo S.renew.nl (Nat.le_refl _)
  have W3 : aWf S.renew.burn := hW.renew.burnTo _
  obtain ⟨c4, f4, H4⟩ := H3.fineTo W3 S.renew.burn.ns (Nat.le_refl _)
  have n4 : S.renew.burn.fine.nl = S.nl := (fineTo_nl _ _).trans ((burnTo_nl _ _).trans n2)
  have H5 := aV.tick (S := S.renew.burn.fine) (by rw [n4]; exact H4)
  have H6 := H5.endTo hh S.renew.burn.fine.tick.nl (Nat.le_refl _)
  have e9 : S.hourS.nl = S.renew.burn.fine.tick.nl := endTo_nl _ _
  exact ⟨q3, c4, f4, fun i => d1 i - 1, by rw [e9]; exact H6⟩
theorem aV.passTo (hW : aWf S) (H : aV S S.nl h q cc ff v d) : ∀ k, h + k < 2 ^ 30 → ∃ q' cc' ff' d', aV (S.passTo k) (S.passTo k).nl (h + k) q' cc' ff' v d'
  | 0, _ => ⟨q, cc, ff, d, H⟩
  | k + 1, hk => by
    obtain ⟨q1, c1, f1, d1, H1⟩ := aV.passTo hW H k (by omega)
    exact H1.hourS (hW.passTo k) (by omega)
end
/-- every command keeps it -/
theorem aInv.do {B k : Nat} {u : kV} {S : aS} {z : Int32 × aS} (hk : k ≤ 6) (h : aInv B S) (hB : B + 48 < 2 ^ 30) (e : aDo k u S = .inr z) : aInv (B + 48) z.2 := by
  obtain ⟨hW, hh, q, cc, ff, v, d, hb, H⟩ := h
  have up : ∀ {T : aS}, aInv B T → aInv (B + 48) T := fun h => h.mono (by omega)
  match k, hk, e with
  | 0, _, e =>
    rw [aDo0] at e
    unfold aS.doShip at e
    by_cases e1 : S.ns = 6
    · rw [if_pos e1] at e; cases e
    · rw [if_neg e1] at e
      cases e
      refine up ⟨?_, hh, q, fun j => if j = S.ns then 100 else cc j, fun j => if j = S.ns then 0 else ff j, v, d, hb, ?_⟩
      · obtain ⟨w1, w2, w3, w4, w5, w6⟩ := hW
        exact ⟨by show S.ns + 1 ≤ 6; omega, w2, w3, fun i hi => Nat.le_succ_of_le (w4 i hi), w5, w6⟩
      · obtain ⟨a1, a4, a5, a6, a7⟩ := H
        refine ⟨a1, fun j hj => ?_, fun i hi => ?_, a6, ?_⟩
        · show ((va_up S.sh S.ns _) j).1 = nI (if j = S.ns then 100 else cc j) ∧ ((va_up S.sh S.ns _) j).2.1 = nI (if j = S.ns then 0 else ff j) ∧ (if j = S.ns then 100 else cc j) + (if j = S.ns then 0 else ff j) ≤ 100
          by_cases e : j = S.ns
          · subst e
            rw [va_up_self, if_pos rfl, if_pos rfl]
            exact ⟨rfl, rfl, by decide⟩
          · rw [va_up_ne _ _ e, if_neg e, if_neg e]
            exact a4 j (by have hj' : j < S.ns + 1 := hj; omega)
        · obtain ⟨c1, c2, c3, c4⟩ := a5 i hi
          refine ⟨c1, c2, c3, fun hl => ?_⟩
          obtain ⟨c5, c6, c7⟩ := c4 hl
          refine ⟨c5, c6, ?_⟩
          show d i + (if (S.la i).le - 1 = S.ns then 100 else cc ((S.la i).le - 1)) ≤ 100
          have hl' : 0 < (S.la i).le := hl
          rw [if_neg (by have := hW.2.2.2.1 i hi; omega)]
          exact c7
        · have key : ∀ j, j ≤ S.ns → aS.coinTo ((S.ns + 1, va_up S.sh S.ns (nI 100, nI 0, nI 0)), S.2) j = S.coinTo j := by
            intro j
            induction j with
            | zero => intro _; rfl
            | succ j ih =>
              intro hj
              show aS.coinTo _ j + ((va_up S.sh S.ns _) j).1 = S.coinTo j + (S.sh j).1
              rw [ih (by omega), va_up_ne _ _ (by omega)]
          show aS.coinTo _ S.ns + ((va_up S.sh S.ns _) S.ns).1 = nI 100 * nI (S.ns + 1)
          rw [key S.ns (Nat.le_refl _), va_up_self, a7, ← nI_add, Int32.mul_add]
          rfl
  | 1, _, e =>
    rw [aDo1] at e
    unfold aS.doLamp at e
    cases hr : inR u.1 (nI 1) (nI 3) with
    | false => rw [hr] at e; cases e
    | true =>
      rw [hr] at e
      dsimp only [cond_true] at e
      by_cases e1 : S.nl = 8
      · rw [if_pos e1] at e; cases e
      · rw [if_neg e1] at e
        cases e
        obtain ⟨x, x1, x2, x3, -⟩ := inR_at (by decide) hr (by decide)
        obtain ⟨w1, w2, w3, w4, w5, w6⟩ := hW
        have hne : ∀ k, k < S.nr → (S.rq k).1 ≠ S.nl := fun k hk => by have := (w5 k hk).1; omega
        refine up ⟨⟨w1, by show S.nl + 1 ≤ 8; omega, w3, fun i hi => ?_, fun k hk => ?_, w6⟩, hh, q, cc, ff, fun i => if i = S.nl then x else v i, d, hb, ?_⟩
        · show ((va_up S.la S.nl _) i).le ≤ S.ns
          by_cases e : i = S.nl
          · subst e; rw [va_up_self]; exact Nat.zero_le _
          · rw [va_up_ne _ _ e]; exact w4 i (by have hi' : i < S.nl + 1 := hi; omega)
        · show (S.rq k).1 < S.nl + 1 ∧ 0 < ((va_up S.la S.nl _) (S.rq k).1).le
          rw [va_up_ne _ _ (hne k hk)]
          exact ⟨Nat.lt_succ_of_lt (w5 k hk).1, (w5 k hk).2⟩
        · obtain ⟨a1, a4, a5, a6, a7⟩ := H
          refine ⟨a1, a4, fun i hi => ?_, a6, (coinTo_same (S := S) (T := ((S.1, (S.nl + 1, va_up S.la S.nl (u.1, 0, nI 0, nI 0, false)), S.2.2) : aS)) rfl (fun _ => rfl) S.ns).trans a7⟩
          show ((va_up S.la S.nl _) i).lv = nI (if i = S.nl then x else v i) ∧ 1 ≤ (if i = S.nl then x else v i) ∧ (if i = S.nl then x else v i) ≤ 3 ∧ (0 < ((va_up S.la S.nl _) i).le → ((va_up S.la S.nl _) i).en = nI (hh + d i) ∧ (i < S.nl + 1 → 1 ≤ d i) ∧ d i + cc (((va_up S.la S.nl _) i).le - 1) ≤ 100)
          by_cases e : i = S.nl
          · subst e
            rw [va_up_self, if_pos rfl]
            exact ⟨x3, x1, x2, fun hl => absurd hl (Nat.lt_irrefl 0)⟩
          · rw [va_up_ne _ _ e, if_neg e]
            have hi' : i < S.nl := by have hi' : i < S.nl + 1 := hi; omega
            obtain ⟨c1, c2, c3, c4⟩ := a5 i hi'
            exact ⟨c1, c2, c3, fun hl => ⟨(c4 hl).1, fun _ => (c4 hl).2.1 hi', (c4 hl).2.2⟩⟩
  | 2, _, e =>
    rw [aDo2] at e
    unfold aS.doDrop at e
    cases hr : S.ixL u.1 with
    | false => rw [hr] at e; cases e
    | true =>
      rw [hr] at e
      dsimp only [cond_true] at e
      cases hl : Nat.blt 0 (S.la (tn u.1)).le with
      | false => rw [hl] at e; cases e
      | true =>
        rw [hl] at e
        cases e
        exact up ⟨hW.frees _, hh, q, cc, ff, v, d, hb, H.frees (Or.inl (frees_nl _ _))⟩
  | 3, _, e =>
    rw [aDo3] at e
    unfold aS.doOil at e
    cases hr : inR u.1 (nI 1) (nI 200) with
    | false => rw [hr] at e; cases e
    | true =>
      rw [hr] at e
      dsimp only [cond_true] at e
      by_cases e1 : nI 500 < S.oil + u.1
      · rw [if_pos e1] at e; cases e
      · rw [if_neg e1] at e
        cases e
        obtain ⟨x, x1, x2, x3, -⟩ := inR_at (by decide) hr (by decide)
        obtain ⟨⟨a1, a2, a3⟩, a4, a5, a6, a7⟩ := H
        rw [a2, x3, nI_add] at e1
        have e2 : q + x ≤ 500 := Nat.le_of_not_lt fun z => e1 ((nI_ltI (by decide) (by omega)).mpr z)
        refine up ⟨hW.same rfl rfl rfl rfl (fun _ => rfl), hh, q + x, cc, ff, v, d, hb, ⟨a1, ?_, e2⟩, a4, a5, a6, (coinTo_same (S := S) (T := S.wOil (S.oil + u.1)) rfl (fun _ => rfl) S.ns).trans a7⟩
        show S.oil + u.1 = _
        rw [a2, x3, nI_add]
  | 4, _, e =>
    rw [aDo4] at e
    unfold aS.doWait at e
    cases hr : inR u.1 (nI 1) (nI 48) with
    | false => rw [hr] at e; cases e
    | true =>
      rw [hr] at e
      cases e
      obtain ⟨x, x1, x2, x3, x4⟩ := inR_at (by decide) hr (by decide)
      rw [x4]
      obtain ⟨q', c', f', d', H'⟩ := H.passTo hW x (by omega)
      exact ⟨hW.passTo x, hh + x, q', c', f', v, d', by omega, H'⟩
  | 5, _, e =>
    rw [aDo5] at e
    unfold aS.doReq at e
    cases hr : S.ixL u.1 with
    | false => rw [hr] at e; cases e
    | true =>
      rw [hr] at e
      dsimp only [cond_true] at e
      cases hh2 : inR u.2.1 (nI 1) (nI 24) with
      | false => rw [hh2] at e; cases e
      | true =>
        rw [hh2] at e
        dsimp only [cond_true] at e
        cases hl : Nat.blt 0 (S.la (tn u.1)).le with
        | false => rw [hl] at e; cases e
        | true =>
          rw [hl] at e
          dsimp only [cond_true] at e
          cases hq : S.isReq (tn u.1) with
          | true => rw [hq] at e; cases e
          | false =>
            rw [hq] at e
            cases e
            obtain ⟨x, x1, x2, x3, -⟩ := inR_at (by decide) hh2 (by decide)
            obtain ⟨j, j1, j2, j3⟩ := hW.ixL hr
            have hne : ∀ k, k < S.nr → (S.rq k).1 ≠ tn u.1 := fun k hk q => by
              have := aAny_true (p := fun k => (S.rq k).1 == tn u.1) hk (by show ((S.rq k).1 == tn u.1) = true; rw [q]; exact beq_self_eq_true _)
              rw [show aAny (fun k => (S.rq k).1 == tn u.1) S.nr = false from hq] at this
              cases this
            have h8 : S.nr < 8 := hW.few (i := tn u.1) (by omega) hne
            obtain ⟨w1, w2, w3, w4, w5, w6⟩ := hW
            have hrq : ∀ k, k < S.nr + 1 → (k = S.nr ∧ (va_up S.rq S.nr (tn u.1, u.2.1)) k = (tn u.1, u.2.1)) ∨ (k < S.nr ∧ (va_up S.rq S.nr (tn u.1, u.2.1)) k = S.rq k) := by
              intro k hk
              by_cases e : k = S.nr
              · subst e; exact Or.inl ⟨rfl, va_up_self _ _ _⟩
              · exact Or.inr ⟨by omega, va_up_ne _ _ e⟩
            refine up ⟨⟨w1, w2, h8, w4, fun k hk => ?_, fun k k' hk hk' ee => ?_⟩, hh, q, cc, ff, v, d, hb, ?_⟩
            · show ((va_up S.rq S.nr _) k).1 < S.nl ∧ 0 < (S.la ((va_up S.rq S.nr _) k).1).le
              rcases hrq k hk with ⟨-, e1⟩ | ⟨e0, e1⟩
              · rw [e1]; exact ⟨by show tn u.1 < S.nl; omega, Nat.blt_eq.mp hl⟩
              · rw [e1]; exact w5 k e0
            · replace ee : ((va_up S.rq S.nr (tn u.1, u.2.1)) k).1 = ((va_up S.rq S.nr (tn u.1, u.2.1)) k').1 := ee
              rcases hrq k hk with ⟨e0, e1⟩ | ⟨e0, e1⟩ <;> rcases hrq k' hk' with ⟨g0, g1⟩ | ⟨g0, g1⟩
              · omega
              · rw [e1, g1] at ee; exact absurd ee.symm (hne k' g0)
              · rw [e1, g1] at ee; exact absurd ee (hne k e0)
              · rw [e1, g1] at ee; exact w6 k k' e0 g0 ee
            · obtain ⟨a1, a4, a5, a6, a7⟩ := H
              refine ⟨a1, a4, a5, fun k hk => ?_, (coinTo_same (S := S) (T := S.wRq (S.nr + 1) (va_up S.rq S.nr (tn u.1, u.2.1))) rfl (fun _ => rfl) S.ns).trans a7⟩
              show ∃ z, 1 ≤ z ∧ z ≤ 24 ∧ ((va_up S.rq S.nr _) k).2 = nI z
              rcases hrq k hk with ⟨-, e1⟩ | ⟨e0, e1⟩
              · rw [e1]; exact ⟨x, x1, x2, x3⟩
              · rw [e1]; exact a6 k e0
  | 6, _, e =>
    rw [aDo6 0] at e
    unfold aS.doLease at e
    cases hr : S.ixS u.1 && S.ixL u.2.1 with
    | false => rw [hr] at e; cases e
    | true =>
      rw [hr] at e
      dsimp only [cond_true] at e
      cases hh2 : inR u.2.2 (nI 1) (nI 24) with
      | false => rw [hh2] at e; cases e
      | true =>
        rw [hh2] at e
        dsimp only [cond_true] at e
        cases hl : Nat.blt 0 (S.la (tn u.2.1)).le with
        | true => rw [hl] at e; cases e
        | false =>
          rw [hl] at e
          dsimp only [cond_false] at e
          by_cases e1 : (S.sh (tn u.1)).1 < (S.la (tn u.2.1)).lv * u.2.2
          · rw [if_pos e1] at e; cases e
          · rw [if_neg e1] at e
            cases e
            rw [Bool.and_eq_true] at hr
            obtain ⟨z, z1, z2, z3, -⟩ := inR_at (by decide) hh2 (by decide)
            obtain ⟨i, i1, i2, i3⟩ := hW.ixS hr.1
            obtain ⟨j, j1, j2, j3⟩ := hW.ixL hr.2
            rw [i3, j3] at e1 ⊢
            rw [j3] at hl
            obtain ⟨b1, b2, b3⟩ := H.2.1 i i1
            obtain ⟨c1, c2, c3, -⟩ := H.2.2.1 j j1
            have hvz : v j * z ≤ 72 := Nat.mul_le_mul c3 z2
            have hvz2 : z ≤ v j * z := Nat.le_mul_of_pos_left z (by omega)
            have hc : (S.la j).lv * u.2.2 = nI (v j * z) := by rw [c1, z3]; exact wn_mul rfl rfl
            rw [hc] at e1 ⊢
            rw [b1] at e1
            have hle : v j * z ≤ cc i := Nat.le_of_not_lt fun q => e1 ((nI_ltI (by omega) (by omega)).mpr q)
            have H1 := H.coins (T := S.pays i (nI (v j * z))) i1 hle (Nat.zero_le _) rfl rfl rfl rfl rfl rfl rfl rfl ⟨by show ((va_up S.sh _ _) _).1 = _; rw [va_up_self], by show ((va_up S.sh _ _) _).2.1 = _; rw [va_up_self]; exact (show (S.sh i).2.1 = (S.sh i).2.1 + nI 0 by rw [b2]; exact (nI_add _ 0).symm)⟩ (fun i e => va_up_ne _ _ e)
            have hl0 : (S.la j).le = 0 := Nat.eq_zero_of_not_pos fun q => by rw [Nat.blt_eq.mpr q] at hl; cases hl
            obtain ⟨w1, w2, w3, w4, w5, w6⟩ := hW
            refine up ⟨⟨w1, w2, w3, fun k hk => ?_, fun k hk => ?_, w6⟩, hh, q, _, _, v, _, hb, H1.wLa (x := j) (dx := z) rfl (fun _ => ⟨?_, z1, ?_⟩)⟩
            · show ((va_up S.la j _) k).le ≤ S.ns
              by_cases e : k = j
              · subst e; rw [va_up_self]; exact i1
              · rw [va_up_ne _ _ e]; exact w4 k hk
            · show (S.rq k).1 < S.nl ∧ 0 < ((va_up S.la j _) (S.rq k).1).le
              have hne : (S.rq k).1 ≠ j := fun q => by have := (w5 k hk).2; rw [q, hl0] at this; exact Nat.lt_irrefl 0 this
              rw [va_up_ne _ _ hne]
              exact w5 k hk
            · show S.hour + u.2.2 = _
              rw [H.1.1, z3, nI_add]
            · show z + (if i + 1 - 1 = i then cc i - v j * z else cc (i + 1 - 1)) ≤ 100
              rw [if_pos (Nat.add_sub_cancel i 1)]
              omega
  | k + 7, hk, _ => omega
/-- all along a run of commands -/
theorem aInv.run : ∀ (cs : List (Nat × kV)) {B i : Nat} {S : aS}, (∀ c ∈ cs, c.1 ≤ 6) → B + 48 * cs.length < 2 ^ 30 → aInv B S → kWf cs S ∧ ∀ T, aRun cs i S = .inr T → aInv (B + 48 * cs.length) T
  | [], B, i, S, _, _, h => ⟨trivial, fun T e => by cases e; exact h⟩
  | c :: cs, B, i, S, hk, hB, h => by
    rw [List.length_cons] at hB
    refine ⟨⟨h.1, fun z hz => ?_⟩, fun T e => ?_⟩
    · exact (aInv.run cs (i := i) (fun c hc => hk c (List.mem_cons_of_mem _ hc)) (by omega) (h.do (hk c List.mem_cons_self) (by omega) hz)).1
    · unfold aRun at e
      cases hD : aDo c.1 c.2 S with
      | inl p => rw [hD] at e; cases e
      | inr z =>
        rw [hD] at e
        have := (aInv.run cs (i := i + 1) (fun c hc => hk c (List.mem_cons_of_mem _ hc)) (by omega) (h.do (hk c List.mem_cons_self) (by omega) hD)).2 T e
        rw [List.length_cons]
        exact this.mono (by omega)
/-- what a text of n signs holds: few commands, of the known kinds -/
theorem kRest_ok {ic : Nat → Int32} {n : Nat} : ∀ (f p : Nat) {cs : List (Nat × kV)}, p ≤ n → kRest ic n f p = .inr cs → 3 * cs.length + p ≤ n ∧ ∀ c ∈ cs, c.1 ≤ 6
  | 0, p, cs, _, e => by cases e
  | f + 1, p, cs, hp, e => by
    unfold kRest at e
    cases hb : Nat.blt p n with
    | false => rw [hb] at e; cases e; exact ⟨by simpa using hp, fun c hc => absurd hc List.not_mem_nil⟩
    | true =>
      rw [hb] at e
      dsimp only [cond_true] at e
      cases hc : kAt ic n p (nI 59) (nI 59) with
      | false => rw [hc] at e; cases e
      | true =>
        rw [hc] at e
        dsimp only [cond_true] at e
        cases hk : kCmd ic n (p + 1) with
        | inl x => rw [hk] at e; cases e
        | inr z =>
          obtain ⟨p2, k2, v2⟩ := z
          rw [hk] at e
          dsimp only at e
          obtain ⟨g1, g2⟩ := kCmd_end (Nat.blt_eq.mp hb) hk
          cases hr : kRest ic n f p2 with
          | inl x => rw [hr] at e; cases e
          | inr cs2 =>
            rw [hr] at e
            cases e
            obtain ⟨h1, h2⟩ := kRest_ok f p2 g2 hr
            refine ⟨by rw [List.length_cons]; omega, fun c hc => ?_⟩
            rcases List.mem_cons.mp hc with rfl | hc
            · exact kCmd_k hk
            · exact h2 c hc
theorem kAll_ok {ic : Nat → Int32} {n : Nat} {cs : List (Nat × kV)} (e : kAll ic n = .inr cs) : 3 * cs.length ≤ n ∧ ∀ c ∈ cs, c.1 ≤ 6 := by
  unfold kAll at e
  cases hk : kCmd ic n 0 with
  | inl x => rw [hk] at e; cases e
  | inr z =>
    obtain ⟨p2, k2, v2⟩ := z
    rw [hk] at e
    dsimp only at e
    obtain ⟨g1, g2⟩ := kCmd_end (Nat.zero_le _) hk
    cases hr : kRest ic n (n + 1) p2 with
    | inl x => rw [hr] at e; cases e
    | inr cs2 =>
      rw [hr] at e
      cases e
      obtain ⟨h1, h2⟩ := kRest_ok (n + 1) p2 g2 hr
      refine ⟨by rw [List.length_cons]; omega, fun c hc => ?_⟩
      rcases List.mem_cons.mp hc with rfl | hc
      · exact kCmd_k hk
      · exact h2 c hc
