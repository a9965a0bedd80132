set_option maxRecDepth 100000
/-! WHAT HOLDS OF EVERY STATE: the sizes of its numbers -/
theorem i_pay (a b c : Int32) : (a + c) + (b - c) = a + b := by
  rw [Int32.add_assoc, Int32.add_comm c, Int32.sub_add_cancel]
theorem i_push (a b c : Int32) : (a + c) + b = (a + b) + c := by
  rw [Int32.add_assoc, Int32.add_comm c, ← Int32.add_assoc]
/-- coins move from a ship to the office: together they stay -/
theorem coinTo_pay {S T : aS} {j : Nat} {c : Int32} (ho : T.office = S.office + c) (hj : (T.sh j).1 = (S.sh j).1 - c) (hs : ∀ i, i ≠ j → (T.sh i).1 = (S.sh i).1) : ∀ k, T.coinTo k = if k ≤ j then S.coinTo k + c else S.coinTo k
  | 0 => by rw [if_pos (Nat.zero_le _)]; exact ho
  | k + 1 => by
    have ih := coinTo_pay ho hj hs k
    show T.coinTo k + (T.sh k).1 = _
    rw [ih]
    rcases Nat.lt_trichotomy k j with e | e | e
    · rw [if_pos (Nat.le_of_lt e), if_pos (by omega), hs k (by omega)]
      show S.coinTo k + c + (S.sh k).1 = S.coinTo k + (S.sh k).1 + c
      exact i_push _ _ _
    · subst e
      rw [if_pos (Nat.le_refl _), if_neg (by omega), hj]
      exact i_pay _ _ _
    · rw [if_neg (by omega), if_neg (by omega), hs k (by omega)]
      rfl
theorem coinTo_same {S T : aS} (ho : T.office = S.office) (hs : ∀ i, (T.sh i).1 = (S.sh i).1) : ∀ k, T.coinTo k = S.coinTo k
  | 0 => ho
  | k + 1 => by show T.coinTo k + (T.sh k).1 = S.coinTo k + (S.sh k).1; rw [coinTo_same ho hs k, hs k]
/-- hour, oil; coins, fines; levels, hours to the end; the lamps below m are leased on -/
def aV (S : aS) (m h q : Nat) (cc ff v d : Nat → Nat) : Prop :=
  (S.hour = nI h ∧ S.oil = nI q ∧ q ≤ 500) ∧ (∀ j, j < S.ns → (S.sh j).1 = nI (cc j) ∧ (S.sh j).2.1 = nI (ff j) ∧ cc j + ff j ≤ 100) ∧
  (∀ i, i < S.nl → (S.la i).lv = nI (v i) ∧ 1 ≤ v i ∧ v i ≤ 3 ∧ (0 < (S.la i).le → (S.la i).en = nI (h + d i) ∧ (i < m → 1 ≤ d i) ∧ d i + cc ((S.la i).le - 1) ≤ 100)) ∧
  (∀ k, k < S.nr → ∃ z, 1 ≤ z ∧ z ≤ 24 ∧ (S.rq k).2 = nI z) ∧ S.coinTo S.ns = nI 100 * nI S.ns
def aInv (B : Nat) (S : aS) : Prop := aWf S ∧ ∃ h q cc ff v d, h ≤ B ∧ aV S S.nl h q cc ff v d
theorem aInv.mono {B B' : Nat} {S : aS} (h : aInv B S) (hb : B ≤ B') : aInv B' S := by
  obtain ⟨h1, x, q, cc, ff, v, d, h2, h3⟩ := h
  exact ⟨h1, x, q, cc, ff, v, d, Nat.le_trans h2 hb, h3⟩
theorem aInv0 : aInv 0 aS0 := by
  refine ⟨⟨Nat.zero_le _, Nat.zero_le _, Nat.zero_le _, fun i h => absurd h (Nat.not_lt_zero i), fun i h => absurd h (Nat.not_lt_zero i), fun i k h => absurd h (Nat.not_lt_zero i)⟩, 0, 0, fun _ => 0, fun _ => 0, fun _ => 0, fun _ => 0, Nat.le_refl _, ⟨rfl, rfl, by decide⟩, fun i h => absurd h (Nat.not_lt_zero i), fun i h => absurd h (Nat.not_lt_zero i), fun i h => absurd h (Nat.not_lt_zero i), ?_⟩
  show nI 0 = nI 100 * nI 0
  decide
section
variable {S : aS} {m h q : Nat} {cc ff v d : Nat → Nat}
/-- a lamp burns for an hour -/
theorem aV.burn1 (H : aV S m h q cc ff v d) {i : Nat} (hi : i < S.nl) : ∃ q', aV (S.burn1 i) m h q' cc ff v d := by
  obtain ⟨⟨a1, a2, a3⟩, a4, a5, a6, a7⟩ := H
  have hv := a5 i hi
  have hla : ∀ k, ((S.burn1 i).la k).lv = (S.la k).lv ∧ ((S.burn1 i).la k).le = (S.la k).le ∧ ((S.burn1 i).la k).en = (S.la k).en := by
    intro k
    show ((va_up S.la i _) k).lv = _ ∧ ((va_up S.la i _) k).le = _ ∧ ((va_up S.la i _) k).en = _
    by_cases e : k = i
    · subst e; rw [va_up_self]; exact ⟨rfl, rfl, rfl⟩
    · rw [va_up_ne _ _ e]; exact ⟨rfl, rfl, rfl⟩
  have ho : ∃ q', (S.burn1 i).oil = nI q' ∧ q' ≤ 500 := by
    show ∃ q', S.oil - (bif S.glow i then (S.la i).lv else nI 0) = nI q' ∧ q' ≤ 500
    cases hg : S.glow i with
    | false => exact ⟨q, by rw [a2]; exact wn_sub rfl rfl (Nat.zero_le _), a3⟩
    | true =>
      have h2 : (S.la i).lv ≤ S.oil := by
        unfold aS.glow at hg
        rw [Bool.and_eq_true] at hg
        exact of_decide_eq_true hg.2
      rw [hv.1, a2] at h2
      have h3 := (nI_leI (by omega) (by omega)).mp h2
      exact ⟨q - v i, by rw [cond_true, hv.1, a2]; exact wn_sub rfl rfl h3, by omega⟩
  obtain ⟨q', ho1, ho2⟩ := ho
  refine ⟨q', ⟨a1, ho1, ho2⟩, a4, fun k hk => ?_, a6, (coinTo_same (S := S) (T := S.burn1 i) rfl (fun _ => rfl) S.ns).trans a7⟩
  obtain ⟨e1, e2, e3⟩ := hla k
  rw [e1, e2, e3]
  exact a5 k hk
theorem burnTo_nl (S : aS) : ∀ i, (S.burnTo i).nl = S.nl
  | 0 => rfl
  | i + 1 => burnTo_nl S i
theorem aV.burnTo (H : aV S m h q cc ff v d) : ∀ i, i ≤ S.nl → ∃ q', aV (S.burnTo i) m h q' cc ff v d
  | 0, _ => ⟨q, H⟩
  | i + 1, hi => by
    obtain ⟨q1, H1⟩ := aV.burnTo H i (by omega)
    exact H1.burn1 (by rw [burnTo_nl]; omega)
theorem sum_bI (p : Nat → Bool) : ∀ k, ∃ c, c ≤ k ∧ aSum (fun i => bI (p i)) k = nI c
  | 0 => ⟨0, Nat.le_refl _, rfl⟩
  | k + 1 => by
    obtain ⟨c, h1, h2⟩ := sum_bI p k
    show ∃ c, c ≤ k + 1 ∧ aSum (fun i => bI (p i)) k + bI (p k) = nI c
    rw [h2]
    cases p k with
    | false => exact ⟨c, by omega, nI_add c 0⟩
    | true => exact ⟨c + 1, by omega, nI_add c 1⟩
theorem iMin_nI {a b : Nat} (ha : a < 2 ^ 31) (hb : b < 2 ^ 31) : iMin (nI a) (nI b) = nI (min a b) := by
  unfold iMin
  by_cases e : a ≤ b
  · rw [if_pos ((nI_leI ha hb).mpr e), Nat.min_eq_left e]
  · rw [if_neg (fun q => e ((nI_leI ha hb).mp q)), Nat.min_eq_right (by omega)]
/-- a ship gives up x coins, f of them as fines -/
theorem aV.coins (H : aV S m h q cc ff v d) {j x f : Nat} (hj : j < S.ns) (hx : x ≤ cc j) (hf : f ≤ x) {T : aS} (h1 : T.ns = S.ns) (h2 : T.nl = S.nl) (h3 : T.la = S.la) (h4 : T.nr = S.nr) (h5 : T.rq = S.rq) (h6 : T.oil = S.oil) (h7 : T.hour = S.hour) (h8 : T.office = S.office + nI x) (h9 : (T.sh j).1 = (S.sh j).1 - nI x ∧ (T.sh j).2.1 = (S.sh j).2.1 + nI f) (h10 : ∀ i, i ≠ j → T.sh i = S.sh i) :
    aV T m h q (fun i => if i = j then cc j - x else cc i) (fun i => if i = j then ff j + f else ff i) v d := by
  obtain ⟨⟨a1, a2, a3⟩, a4, a5, a6, a7⟩ := H
  obtain ⟨b1, b2, b3⟩ := a4 j hj
  refine ⟨⟨h7.trans a1, h6.trans a2, a3⟩, fun i hi => ?_, fun i hi => ?_, fun k hk => ?_, ?_⟩
  · rw [h1] at hi
    by_cases e : i = j
    · subst e
      dsimp only
      rw [if_pos rfl, if_pos rfl, h9.1, h9.2, b1, b2]
      exact ⟨wn_sub rfl rfl hx, nI_add _ _, by omega⟩
    · dsimp only
      rw [if_neg e, if_neg e, h10 i e]
      exact a4 i hi
  · rw [h2] at hi
    rw [h3]
    obtain ⟨c1, c2, c3, c4⟩ := a5 i hi
    refine ⟨c1, c2, c3, fun hl => ?_⟩
    obtain ⟨c5, c6, c7⟩ := c4 hl
    refine ⟨c5, c6, ?_⟩
    show d i + (if (S.la i).le - 1 = j then cc j - x else cc ((S.la i).le - 1)) ≤ 100
    by_cases e : (S.la i).le - 1 = j
    · rw [if_pos e]
      rw [e] at c7
      omega
    · rw [if_neg e]
      exact c7
  · rw [h4] at hk
    rw [h5]
    exact a6 k hk
  · rw [coinTo_pay h8 h9.1 (fun i e => by rw [h10 i e]) T.ns, h1, if_neg (by omega)]
    exact a7
theorem aV.fine1 (hW : aWf S) (H : aV S m h q cc ff v d) {j : Nat} (hj : j < S.ns) : ∃ cc' ff', aV (S.fine1 j) m h q cc' ff' v d := by
  unfold aS.fine1
  cases hb : decide (nI 0 < S.leasesOf j) && !(S.lit j) with
  | false => exact ⟨cc, ff, H⟩
  | true =>
    obtain ⟨b1, b2, b3⟩ := H.2.1 j hj
    obtain ⟨n, n1, n2⟩ := sum_bI (fun i => (S.la i).le == j + 1) S.nl
    have hn8 := hW.2.1
    have hx : iMin (S.sh j).1 (nI 2 * S.leasesOf j) = nI (min (cc j) (2 * n)) := by
      rw [show S.leasesOf j = nI n from n2, b1, show nI 2 * nI n = nI (2 * n) from wn_mul rfl rfl]
      exact iMin_nI (by omega) (by omega)
    dsimp only [cond_true]
    rw [hx]
    exact ⟨_, _, H.coins hj (Nat.min_le_left _ _) (Nat.le_refl _) rfl rfl rfl rfl rfl rfl rfl rfl ⟨by show ((va_up S.sh j _) j).1 = _; rw [va_up_self], by show ((va_up S.sh j _) j).2.1 = _; rw [va_up_self]⟩ (fun i e => va_up_ne _ _ e)⟩
theorem fine1_ns (S : aS) (j : Nat) : (S.fine1 j).ns = S.ns := by
  unfold aS.fine1
  cases decide (nI 0 < S.leasesOf j) && !(S.lit j) <;> rfl
theorem fineTo_ns (S : aS) : ∀ j, (S.fineTo j).ns = S.ns
  | 0 => rfl
  | j + 1 => (fine1_ns _ _).trans (fineTo_ns S j)
theorem aV.fineTo (hW : aWf S) (H : aV S m h q cc ff v d) : ∀ j, j ≤ S.ns → ∃ cc' ff', aV (S.fineTo j) m h q cc' ff' v d
  | 0, _ => ⟨cc, ff, H⟩
  | j + 1, hj => by
    obtain ⟨c1, f1, H1⟩ := aV.fineTo hW H j (by omega)
    exact H1.fine1 (hW.fineTo j) (by rw [fineTo_ns]; omega)
/-- an hour passes -/
theorem aV.tick (H : aV S S.nl h q cc ff v d) : aV S.tick 0 (h + 1) q cc ff v (fun i => d i - 1) := by
  obtain ⟨⟨a1, a2, a3⟩, a4, a5, a6, a7⟩ := H
  refine ⟨⟨by show S.hour + nI 1 = _; rw [a1]; exact nI_add _ _, a2, a3⟩, a4, fun i hi => ?_, a6, (coinTo_same (S := S) (T := S.tick) rfl (fun _ => rfl) S.ns).trans a7⟩
  obtain ⟨c1, c2, c3, c4⟩ := a5 i hi
  refine ⟨c1, c2, c3, fun hl => ?_⟩
  obtain ⟨c5, c6, c7⟩ := c4 hl
  have c6 := c6 hi
  exact ⟨by rw [show h + 1 + (d i - 1) = h + d i by omega]; exact c5, fun e => absurd e (Nat.not_lt_zero i), Nat.le_trans (Nat.add_le_add_right (Nat.sub_le _ _) _) c7⟩
theorem find_lt {S : aS} {x : Nat} : ∀ {n k : Nat}, S.find x n = some k → k < n
  | 0, _, e => by cases e
  | n + 1, k, e => by
    unfold aS.find at e
    cases hb : ((S.rq n).1 == x) with
    | true => rw [hb] at e; cases e; exact Nat.lt_succ_self _
    | false => rw [hb] at e; exact Nat.lt_succ_of_lt (find_lt e)
/-- a lease ends -/
theorem aV.frees (H : aV S m h q cc ff v d) {i m' : Nat} (hm : m' = m ∨ ∀ k, k < m' → k < m ∨ k = i) : aV (S.frees i) m' h q cc ff v d := by
  obtain ⟨⟨a1, a2, a3⟩, a4, a5, a6, a7⟩ := H
  have hla : ∀ k, (k = i → ((S.frees i).la k).lv = (S.la k).lv ∧ ((S.frees i).la k).le = 0) ∧ (k ≠ i → (S.frees i).la k = S.la k) := by
    intro k
    have e0 : (S.frees i).la = va_up S.la i ((S.la i).lv, 0, (S.la i).en, (S.la i).br, (S.la i).was) := by
      unfold aS.frees
      cases S.find i S.nr <;> rfl
    rw [e0]
    exact ⟨fun e => by subst e; rw [va_up_self]; exact ⟨rfl, rfl⟩, fun e => va_up_ne _ _ e⟩
  have hnl : (S.frees i).nl = S.nl := by unfold aS.frees; cases S.find i S.nr <;> rfl
  have hns : (S.frees i).1 = S.1 := by unfold aS.frees; cases S.find i S.nr <;> rfl
  have hh : (S.frees i).hour = S.hour ∧ (S.frees i).oil = S.oil ∧ (S.frees i).office = S.office := by unfold aS.frees; cases S.find i S.nr <;> exact ⟨rfl, rfl, rfl⟩
  have hrq : ∀ k, k < (S.frees i).nr → ∃ k', k' < S.nr ∧ (S.frees i).rq k = S.rq k' := by
    intro k hk
    unfold aS.frees at hk ⊢
    cases hf : S.find i S.nr with
    | none => rw [hf] at hk; exact ⟨k, hk, rfl⟩
    | some z =>
      rw [hf] at hk
      have hk : k < S.nr - 1 := hk
      have hz := find_lt hf
      show ∃ k', k' < S.nr ∧ (if k < z then S.rq k else S.rq (k + 1)) = S.rq k'
      by_cases e : k < z
      · rw [if_pos e]; exact ⟨k, by omega, rfl⟩
      · rw [if_neg e]; exact ⟨k + 1, by omega, rfl⟩
  refine ⟨⟨hh.1.trans a1, hh.2.1.trans a2, a3⟩, fun j hj => ?_, fun k hk => ?_, fun k hk => ?_, ?_⟩
  · rw [show (S.frees i).sh = S.sh from congrArg Prod.snd hns]
    exact a4 j (by rw [show (S.frees i).ns = S.ns from congrArg Prod.fst hns] at hj; exact hj)
  · rw [hnl] at hk
    obtain ⟨c1, c2, c3, c4⟩ := a5 k hk
    by_cases e : k = i
    · obtain ⟨e1, e2⟩ := (hla k).1 e
      rw [e1, e2]
      exact ⟨c1, c2, c3, fun q => absurd q (Nat.lt_irrefl 0)⟩
    · rw [(hla k).2 e]
      refine ⟨c1, c2, c3, fun hl => ?_⟩
      obtain ⟨c5, c6, c7⟩ := c4 hl
      refine ⟨c5, fun hkm => c6 ?_, c7⟩
      rcases hm with e' | e'
      · rw [e'] at hkm; exact hkm
      · exact (e' k hkm).resolve_right e
  · obtain ⟨k', h1, h2⟩ := hrq k hk
    rw [h2]
    exact a6 k' h1
  · rw [show (S.frees i).ns = S.ns from congrArg Prod.fst hns]
    exact (coinTo_same (S := S) (T := S.frees i) hh.2.2 (fun j => by rw [show (S.frees i).sh = S.sh from congrArg Prod.snd hns]) S.ns).trans a7
theorem frees_nl (S : aS) (i : Nat) : (S.frees i).nl = S.nl := by unfold aS.frees; cases S.find i S.nr <;> rfl
theorem end1_nl (S : aS) (i : Nat) : (S.end1 i).nl = S.nl := by
  unfold aS.end1
  cases S.over i with
  | false => rfl
  | true => exact frees_nl S i
theorem endTo_nl (S : aS) : ∀ i, (S.endTo i).nl = S.nl
  | 0 => rfl
  | i + 1 => (end1_nl _ _).trans (endTo_nl S i)
theorem aV.end1 (H : aV S m h q cc ff v d) (hh : h < 2 ^ 30) (hi : m < S.nl) : aV (S.end1 m) (m + 1) h q cc ff v d := by
  unfold aS.end1
  cases ho : S.over m with
  | true => exact H.frees (Or.inr (fun k hk => by omega))
  | false =>
    obtain ⟨⟨a1, a2, a3⟩, a4, a5, a6, a7⟩ := H
    refine ⟨⟨a1, a2, a3⟩, a4, fun k hk => ?_, a6, a7⟩
    obtain ⟨c1, c2, c3, c4⟩ := a5 k hk
    refine ⟨c1, c2, c3, fun hl => ?_⟩
    obtain ⟨c5, c6, c7⟩ := c4 hl
    refine ⟨c5, fun hkm => ?_, c7⟩
    rcases Nat.lt_or_ge k m with e | e
    · exact c6 e
    · obtain rfl : k = m := by omega
      unfold aS.over at ho
      rw [show Nat.blt 0 (S.la k).le = true from Nat.blt_eq.mpr hl, Bool.true_and] at ho
      have ho := of_decide_eq_false ho
      rw [c5, a1] at ho
      rcases Nat.eq_zero_or_pos (d k) with e0 | e0
      · rw [e0] at ho; exact absurd rfl ho
      · exact e0
theorem aV.endTo (H : aV S 0 h q cc ff v d) (hh : h < 2 ^ 30) : ∀ i, i ≤ S.nl → aV (S.endTo i) i h q cc ff v d
  | 0, _ => H
  | i + 1, hi => (aV.endTo H hh i (by omega)).end1 hh (by rw [endTo_nl]; omega)
/-- a lamp is leased anew, or longer -/
theorem aV.wLa (H : aV S m h q cc ff v d) {x dx : Nat} {L : aLa} (hlv : L.lv = (S.la x).lv) (hL : 0 < L.le → L.en = nI (h + dx) ∧ 1 ≤ dx ∧ dx + cc (L.le - 1) ≤ 100) : aV (S.wLa x L) m h q cc ff v (fun i => if i = x then dx else d i) := by
  obtain ⟨⟨a1, a2, a3⟩, a4, a5, a6, a7⟩ := H
  refine ⟨⟨a1, a2, a3⟩, a4, fun i hi => ?_, a6, (coinTo_same (S := S) (T := S.wLa x L) rfl (fun _ => rfl) S.ns).trans a7⟩
  obtain ⟨e1, e2, e3, e4⟩ := a5 i hi
  show ((va_up S.la x L) i).lv = nI (v i) ∧ 1 ≤ v i ∧ v i ≤ 3 ∧ (0 < ((va_up S.la x L) i).le → ((va_up S.la x L) i).en = nI (h + (if i = x then dx else d i)) ∧ (i < m → 1 ≤ (if i = x then dx else d i)) ∧ (if i = x then dx else d i) + cc (((va_up S.la x L) i).le - 1) ≤ 100)
  by_cases e : i = x
  · subst e
    rw [va_up_self, if_pos rfl]
    refine ⟨hlv.trans e1, e2, e3, fun hl => ?_⟩
    obtain ⟨g1, g2, g3⟩ := hL hl
    exact ⟨g1, fun _ => g2, g3⟩
  · rw [va_up_ne _ _ e, if_neg e]
    exact ⟨e1, e2, e3, e4⟩
/-- a lease is paid: n hours, z coins -/
theorem aV.renew1 (hW : aWf S) (H : aV S m h q cc ff v d) {k : Nat} (hk : k < S.nr) : ∃ cc' ff' d', aV (S.renew1 k) m h q cc' ff' v d' := by
  unfold aS.renew1
  dsimp only
  obtain ⟨z, z1, z2, z3⟩ := H.2.2.2.1 k hk
  obtain ⟨x1, x2⟩ := hW.2.2.2.2.1 k hk
  generalize hx : (S.rq k).1 = x at x1 x2
  obtain ⟨c1, c2, c3, c4⟩ := H.2.2.1 x x1
  obtain ⟨c5, c6, c7⟩ := c4 x2
  have hj : (S.la x).le - 1 < S.ns := by have := hW.2.2.2.1 x x1; omega
  obtain ⟨b1, b2, b3⟩ := H.2.1 _ hj
  have hc : (S.la x).lv * (S.rq k).2 = nI (v x * z) := by rw [c1, z3]; exact wn_mul rfl rfl
  have hvz : v x * z ≤ 72 := Nat.mul_le_mul c3 z2
  have hvz2 : z ≤ v x * z := Nat.le_mul_of_pos_left z (by omega)
  rw [hc]
  cases hb : decide (nI (v x * z) ≤ (S.sh ((S.la x).le - 1)).1) with
  | false =>
    obtain ⟨⟨a1, a2, a3⟩, a4, a5, a6, a7⟩ := H
    exact ⟨cc, ff, d, ⟨⟨a1, a2, a3⟩, a4, a5, a6, (coinTo_same (S := S) (T := S.wRef (S.refused + nI 1)) rfl (fun _ => rfl) S.ns).trans a7⟩⟩
  | true =>
    have hle : v x * z ≤ cc ((S.la x).le - 1) := by
      have := of_decide_eq_true hb
      rw [b1] at this
      exact (nI_leI (by omega) (by omega)).mp this
    have H1 := H.coins (T := S.pays ((S.la x).le - 1) (nI (v x * z))) hj hle (Nat.zero_le _) rfl rfl rfl rfl rfl rfl rfl rfl ⟨by show ((va_up S.sh _ _) _).1 = _; rw [va_up_self], by show ((va_up S.sh _ _) _).2.1 = _; rw [va_up_self]; exact (show (S.sh ((S.la x).le - 1)).2.1 = (S.sh ((S.la x).le - 1)).2.1 + nI 0 by rw [b2]; exact (nI_add _ 0).symm)⟩ (fun i e => va_up_ne _ _ e)
    dsimp only [cond_true]
    refine ⟨_, _, _, H1.wLa (dx := d x + z) rfl (fun _ => ⟨?_, by omega, ?_⟩)⟩
    · show (S.la x).en + (S.rq k).2 = _
      rw [c5, z3, nI_add, Nat.add_assoc]
    · show d x + z + (if (S.la x).le - 1 = (S.la x).le - 1 then cc ((S.la x).le - 1) - v x * z else _) ≤ 100
      rw [if_pos rfl]
      omega
end
