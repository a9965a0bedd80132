set_option maxRecDepth 100000
/-! WHAT IS WRITTEN OF THE LAMPS; the model's writing -/
theorem nI_div {a b : Nat} (ha : a < 2 ^ 31) (hb : b < 2 ^ 31) (h0 : 0 < b) : nI a / nI b = nI (a / b) := by
  have hlt : a / b < 2 ^ 31 := Nat.lt_of_le_of_lt (Nat.div_le_self a b) ha
  apply Int32.toInt_inj.mp
  rw [Int32.toInt_div, nI_toInt ha, nI_toInt hb, nI_toInt hlt, Int.tdiv_eq_ediv_of_nonneg (by omega), show ((a : Int) / (b : Int)) = ((a / b : Nat) : Int) from (Int.natCast_ediv a b).symm]
  generalize a / b = z at hlt
  exact Int.bmod_eq_of_le (by omega) (by omega)
theorem nI_mod {a b : Nat} (ha : a < 2 ^ 31) (hb : b < 2 ^ 31) (h0 : 0 < b) : nI a - nI a / nI b * nI b = nI (a % b) := by
  rw [nI_div ha hb h0, wn_mul rfl rfl, wn_sub rfl rfl (Nat.div_mul_le_self a b)]
  congr 1
  have := Nat.div_add_mod a b
  rw [Nat.mul_comm] at this
  omega
def aS.txtN (S : aS) (i : Nat) (t : tX) : tX :=
  let b := addN (if i = 0 then t else addC t 32) (tn (S.la i).lv)
  if (S.la i).le = 0 then b else
    let d := addN (addC (addN (addC b 115) ((S.la i).le - 1)) 101) (tn (S.la i).en)
    bif S.isReq i then addC d 114 else d
def aS.txt (S : aS) (g : Nat → Int32) : Nat → tX
  | 0 => (0, g)
  | i + 1 => S.txtN i (S.txt g i)
def aTx (S : aS) : Prop := ∀ i, i < S.nl → ∃ a b : Nat, a < 10 ∧ b < 100000 ∧ (S.la i).lv = nI a ∧ (0 < (S.la i).le → (S.la i).en = nI b)
/-- texts that agree as far as they go -/
def tEq (t t' : tX) : Prop := t.1 = t'.1 ∧ ∀ j, j < t.1 → t.2 j = t'.2 j
theorem tEq.cC {t t' : tX} (h : tEq t t') (c : Nat) : tEq (addC t c) (addC t' c) := by
  obtain ⟨h1, h2⟩ := h
  refine ⟨by show t.1 + 1 = t'.1 + 1; rw [h1], fun j hj => ?_⟩
  show va_up t.2 t.1 (nI c) j = va_up t'.2 t'.1 (nI c) j
  have hj' : j < t.1 + 1 := hj
  rw [h1]
  by_cases e : j = t'.1
  · rw [e, va_up_self, va_up_self]
  · rw [va_up_ne _ _ e, va_up_ne _ _ e]
    exact h2 j (by omega)
theorem tEq.cN {t t' : tX} (h : tEq t t') (v : Nat) : tEq (addN t v) (addN t' v) := by
  unfold addN
  repeat' split
  · exact h.cC _
  · exact (h.cC _).cC _
  · exact ((h.cC _).cC _).cC _
  · exact (((h.cC _).cC _).cC _).cC _
  · exact ((((h.cC _).cC _).cC _).cC _).cC _
theorem tEq.txtN {t t' : tX} (S : aS) (i : Nat) (h : tEq t t') : tEq (S.txtN i t) (S.txtN i t') := by
  have h1 : tEq (if i = 0 then t else addC t 32) (if i = 0 then t' else addC t' 32) := by
    by_cases e : i = 0
    · rw [if_pos e, if_pos e]; exact h
    · rw [if_neg e, if_neg e]; exact h.cC _
  unfold aS.txtN
  by_cases e : (S.la i).le = 0
  · simp only [if_pos e]
    exact h1.cN _
  · simp only [if_neg e]
    cases S.isReq i with
    | false => exact ((((h1.cN _).cC _).cN _).cC _).cN _
    | true => exact (((((h1.cN _).cC _).cN _).cC _).cN _).cC _
theorem txt_eq (S : aS) (g g' : Nat → Int32) : ∀ i, tEq (S.txt g i) (S.txt g' i)
  | 0 => ⟨rfl, fun j hj => absurd hj (Nat.not_lt_zero j)⟩
  | i + 1 => (txt_eq S g g' i).txtN S i
/-- signs are small -/
def tSm (t : tX) : Prop := ∀ j, j < t.1 → ∃ b, b < 128 ∧ t.2 j = nI b
theorem tSm.cC {t : tX} (h : tSm t) {c : Nat} (hc : c < 128) : tSm (addC t c) := by
  intro j hj
  have hj' : j < t.1 + 1 := hj
  show ∃ b, b < 128 ∧ va_up t.2 t.1 (nI c) j = nI b
  by_cases e : j = t.1
  · rw [e, va_up_self]; exact ⟨c, hc, rfl⟩
  · rw [va_up_ne _ _ e]; exact h j (by omega)
theorem tSm.cN {t : tX} (h : tSm t) {v : Nat} (hv : v < 100000) : tSm (addN t v) := by
  unfold addN
  repeat' split
  · exact h.cC (by omega)
  · exact (h.cC (by omega)).cC (by omega)
  · exact ((h.cC (by omega)).cC (by omega)).cC (by omega)
  · exact (((h.cC (by omega)).cC (by omega)).cC (by omega)).cC (by omega)
  · exact ((((h.cC (by omega)).cC (by omega)).cC (by omega)).cC (by omega)).cC (by omega)
theorem dg1 {v : Nat} (h : v < 10) : dg v = 1 := by
  unfold dg
  rw [if_pos h]
theorem addN_len1 (t : tX) {v : Nat} (h : v < 10) : (addN t v).1 = t.1 + 1 := by rw [addN_len, dg1 h]
theorem txt_fine {S : aS} (hW : aWf S) (hT : aTx S) (g : Nat → Int32) : ∀ i, i ≤ S.nl → (S.txt g i).1 ≤ 11 * i ∧ tSm (S.txt g i)
  | 0, _ => ⟨Nat.le_refl _, fun j hj => absurd hj (Nat.not_lt_zero j)⟩
  | i + 1, hi => by
    obtain ⟨h1, h2⟩ := txt_fine hW hT g i (by omega)
    obtain ⟨a, b, ha, hb, ea, eb⟩ := hT i (by omega)
    have hle := hW.2.2.2.1 i (by omega)
    have h6 := hW.1
    have ta : tn (S.la i).lv = a := by rw [ea]; exact nI_clamp (by omega)
    show (S.txtN i (S.txt g i)).1 ≤ 11 * (i + 1) ∧ tSm (S.txtN i (S.txt g i))
    generalize S.txt g i = t at h1 h2
    have k1 : (if i = 0 then t else addC t 32).1 ≤ t.1 + 1 ∧ tSm (if i = 0 then t else addC t 32) := by
      by_cases e : i = 0
      · rw [if_pos e]; exact ⟨by omega, h2⟩
      · rw [if_neg e]; exact ⟨Nat.le_refl _, h2.cC (by decide)⟩
    unfold aS.txtN
    rw [ta]
    generalize (if i = 0 then t else addC t 32) = t1 at k1
    obtain ⟨k1, k2⟩ := k1
    have l1 := addN_len1 t1 ha
    have s1 := k2.cN (show a < 100000 by omega)
    by_cases e : (S.la i).le = 0
    · simp only [if_pos e]
      exact ⟨by omega, s1⟩
    · simp only [if_neg e]
      have tb : tn (S.la i).en = b := by rw [eb (by omega)]; exact nI_clamp (by omega)
      rw [tb]
      generalize addN t1 a = t2 at l1 s1
      have s2 := (s1.cC (show 115 < 128 by decide)).cN (show (S.la i).le - 1 < 100000 by omega)
      have l2 := addN_len1 (addC t2 115) (show (S.la i).le - 1 < 10 by omega)
      have l2' : (addC t2 115).1 = t2.1 + 1 := rfl
      generalize addN (addC t2 115) ((S.la i).le - 1) = t3 at l2 s2
      have s3 := (s2.cC (show 101 < 128 by decide)).cN hb
      have l3 := addN_len (addC t3 101) b
      have l3' : (addC t3 101).1 = t3.1 + 1 := rfl
      have hd := dg_le b
      generalize addN (addC t3 101) b = t4 at l3 s3
      cases S.isReq i with
      | false => exact ⟨by show t4.1 ≤ _; omega, s3⟩
      | true => exact ⟨by show t4.1 + 1 ≤ _; omega, s3.cC (by decide)⟩
theorem addN_rec (t : tX) {v : Nat} (h1 : 10 ≤ v) (h2 : v < 100000) : addN t v = addC (addN t (v / 10)) (48 + v % 10) := by
  unfold addN
  by_cases c2 : v < 100
  · rw [if_neg (by omega), if_pos c2, if_pos (by omega)]
  by_cases c3 : v < 1000
  · rw [if_neg (by omega), if_neg c2, if_pos c3, if_neg (by omega), if_pos (by omega), show v / 10 / 10 = v / 100 by omega]
  by_cases c4 : v < 10000
  · rw [if_neg (by omega), if_neg c2, if_neg c3, if_pos c4, if_neg (by omega), if_neg (by omega), if_pos (by omega), show v / 10 / 10 = v / 100 by omega, show v / 10 / 100 = v / 1000 by omega]
  · rw [if_neg (by omega), if_neg c2, if_neg c3, if_neg c4, if_neg (by omega), if_neg (by omega), if_neg (by omega), if_pos (by omega), show v / 10 / 10 = v / 100 by omega, show v / 10 / 100 = v / 1000 by omega, show v / 10 / 1000 = v / 10000 by omega]
section
variable {l : Launch} {G : wdG} {w : wdW} {m : Nat} {A : Nat → Nat} {I : Nat → Int32} {F : Nat → Nat → Int32} {J : Nat → Int32} {cur S : aS} {hn : Nat} {hist : Nat → aS} {sv : Option aS} {n : Nat} {ic : Nat → Int32} {on : Nat} {oc : Nat → Int32} {t : Int32}
/-- the model has written the text t' -/
abbrev mW (w : wdW) (m : Nat) (A : Nat → Nat) (I : Nat → Int32) (F : Nat → Nat → Int32) (x : tX) : Prop := isM w m A (va_up I 3 (nI x.1)) (va_up F 5 x.2)
theorem sM_says {x : tX} (hM : mW w m A I F x) (hx : x.1 < 120) {c : Nat} (hc : c < 128) : Sp l G MX3_says 0 0 0 [.ref m, .int (nI c)] w (fun o w' => o = .inl none ∧ mW w' m A I F (addC x c) ∧ mFr m A w w') := by
  refine Sp.of rfl (by decide +kernel) kX3_says (wd_le rfl) ?_
  refine WW.run (pc' := 1) (lv' := [(0, .ref m), (1, .int (nI c))]) (st' := [.ref m]) 1 rfl ?_
  refine WW.get rfl fX3_25 hM.1 (show _ = some (.ref (A 5)) from rfl) ?_
  refine WW.run (pc' := 5) (lv' := [(0, .ref m), (1, .int (nI c))]) (st' := [.ref m, .ref (A 5)]) 1 rfl ?_
  refine WW.get rfl fX3_172 hM.1 (show _ = some (.int ((va_up I 3 (nI x.1)) 3)) from rfl) ?_
  refine WW.run (pc' := 9) (lv' := [(0, .ref m), (1, .int (nI c))]) (st' := [.int (nI c), .int ((va_up I 3 (nI x.1)) 3), .ref (A 5)]) 1 rfl ?_
  rw [show (va_up I 3 (nI x.1)) 3 = nI x.1 from rfl]
  refine WW.mcst 5 x.1 rfl hM (by decide) rfl rfl hx (by decide) (chr_narC hc) (fun w1 hM1 fr1 => ?_)
  refine WW.run (pc' := 12) (lv' := [(0, .ref m), (1, .int (nI c))]) (st' := [.ref m, .ref m]) 2 rfl ?_
  refine WW.get rfl fX3_172 hM1.1 (show _ = some (.int ((va_up I 3 (nI x.1)) 3)) from rfl) ?_
  refine WW.run (pc' := 17) (lv' := [(0, .ref m), (1, .int (nI c))]) (st' := [.int (((va_up I 3 (nI x.1)) 3) + (nI 1)), .ref m]) 2 rfl ?_
  rw [show (va_up I 3 (nI x.1)) 3 = nI x.1 from rfl, nI_add]
  refine WW.mputI 3 rfl pfX3_172 hM1 rfl rfl rfl rfl (fun w2 hM2 fr2 => ?_)
  have h9 := hM2
  rw [va_up_up, show (va_up F 5 x.2) 5 = x.2 from rfl, va_up_up] at h9
  exact WW.vret rfl rfl ⟨rfl, h9, (fr1.trans fr2)⟩
theorem sM_saysNumber : ∀ (k v : Nat) {w : wdW} {x : tX}, v < 10 ^ k → 1 ≤ k → k ≤ 5 → mW w m A I F x → x.1 + k ≤ 120 → Sp l G MX3_saysNumber k 0 0 [.ref m, .int (nI v)] w (fun o w' => o = .inl none ∧ mW w' m A I F (addN x v) ∧ mFr m A w w') := by
  intro k
  induction k with
  | zero => intro v w x _ h1; omega
  | succ k ih =>
    intro v w x hv h1 h5 hM hx
    have hv5 : v < 100000 := Nat.lt_of_lt_of_le hv (Nat.le_trans (Nat.pow_le_pow_right (by decide) h5) (by decide))
    refine Sp.of rfl (by decide +kernel) kX3_saysNumber (wd_le rfl) ?_
    refine WW.run (pc' := 3) (lv' := [(0, .ref m), (1, .int (nI v))]) (st' := [.int (nI 9), .int (nI v)]) 2 rfl ?_
    by_cases e : v < 10
    · skip
      refine WW.icmp_le (tgt := 14) rfl rfl (fun _ => ?_) (fun hno => absurd (nI_le (by omega) (by decide)) hno)
      refine WW.run (pc' := 20) (lv' := [(0, .ref m), (1, .int (nI v))]) (st' := [.int (nI 10), .int (nI v), .int (nI 48), .ref m]) 4 rfl ?_
      refine WW.irem rfl (by decide) (nI_mod (by omega) (by decide) (by decide)) ?_
      refine WW.run (pc' := 22) (lv' := [(0, .ref m), (1, .int (nI v))]) (st' := [.int ((nI 48) + (nI (v % 10))), .ref m]) 1 rfl ?_
      rw [nI_add]
      refine WW.run (pc' := 23) (lv' := [(0, .ref m), (1, .int (nI v))]) (st' := [.int (((nI (48 + v % 10)).toUInt32 % 65536).toInt32), .ref m]) 1 rfl ?_
      rw [chr_i2c (show 48 + v % 10 < 128 by omega)]
      refine WW.callV [.int (nI (48 + v % 10))] m [] rfl mX3_178 (sM_says hM (by omega) (by omega)) (wdRecv.obj hM.1 rfl) rfl rfl (wd_le rfl) (Nat.succ_le_succ (Nat.zero_le _)) (Nat.zero_le _) (Nat.zero_le _) (fun o w1 hq => ?_)
      obtain ⟨rfl, h2, h3⟩ := hq
      show WW _ _ _ 26 _ [] _
      have e2 : addN x v = addC x (48 + v % 10) := by
        unfold addN
        rw [if_pos e, show v % 10 = v by omega]
      rw [e2]
      exact WW.vret rfl rfl ⟨rfl, h2, h3⟩
    · skip
      refine WW.icmp_le (tgt := 14) rfl rfl (fun hno => absurd hno (fun q => e (by have := (nI_leI (by omega) (by decide)).mp q; omega))) (fun _ => ?_)
      have hk : 1 ≤ k := by
        cases k with
        | zero => exact absurd hv (by omega)
        | succ k => omega
      refine WW.run (pc' := 10) (lv' := [(0, .ref m), (1, .int (nI v))]) (st' := [.int (nI 10), .int (nI v), .ref m]) 3 rfl ?_
      refine WW.idiv rfl (by decide) ?_
      rw [nI_div (by omega) (by decide) (by decide)]
      have hv2 : v / 10 < 10 ^ k := by
        rw [Nat.pow_succ] at hv
        omega
      refine WW.callV [.int (nI (v / 10))] m [] rfl mX3_175 (ih (v / 10) hv2 hk (by omega) hM (by omega)) (wdRecv.obj hM.1 rfl) rfl rfl (wd_le rfl) (Nat.le_refl _) (Nat.zero_le _) (Nat.zero_le _) (fun o w1 hq => ?_)
      obtain ⟨rfl, h2, h3⟩ := hq
      show WW _ _ _ 14 _ [] _
      have hl : (addN x (v / 10)).1 + 1 ≤ 120 := by
        rw [addN_len]
        have : dg (v / 10) ≤ k := by
          have hkk : k = 1 ∨ k = 2 ∨ k = 3 ∨ k = 4 := by omega
          unfold dg
          rcases hkk with q | q | q | q <;> subst q <;> repeat' split
          all_goals omega
        omega
      have er := addN_rec x (show 10 ≤ v by omega) hv5
      rw [er]
      generalize addN x (v / 10) = y at h2 hl
      refine WW.run (pc' := 20) (lv' := [(0, .ref m), (1, .int (nI v))]) (st' := [.int (nI 10), .int (nI v), .int (nI 48), .ref m]) 4 rfl ?_
      refine WW.irem rfl (by decide) (nI_mod (by omega) (by decide) (by decide)) ?_
      refine WW.run (pc' := 22) (lv' := [(0, .ref m), (1, .int (nI v))]) (st' := [.int ((nI 48) + (nI (v % 10))), .ref m]) 1 rfl ?_
      rw [nI_add]
      refine WW.run (pc' := 23) (lv' := [(0, .ref m), (1, .int (nI v))]) (st' := [.int (((nI (48 + v % 10)).toUInt32 % 65536).toInt32), .ref m]) 1 rfl ?_
      rw [chr_i2c (show 48 + v % 10 < 128 by omega)]
      refine WW.callV [.int (nI (48 + v % 10))] m [] rfl mX3_178 (sM_says h2 (by omega) (by omega)) (wdRecv.obj h2.1 rfl) rfl rfl (wd_le rfl) (Nat.succ_le_succ (Nat.zero_le _)) (Nat.zero_le _) (Nat.zero_le _) (fun o w2 hq => ?_)
      obtain ⟨rfl, h4, h5⟩ := hq
      show WW _ _ _ 26 _ [] _
      exact WW.vret rfl rfl ⟨rfl, h4, h3.trans h5⟩
theorem mt_none {S : aS} (hW : aWf S) {i : Nat} (h0 : (S.la i).le = 0) : S.isReq i = false := by
  have key : ∀ k, k ≤ S.nr → aAny (fun k => (S.rq k).1 == i) k = false := by
    intro k
    induction k with
    | zero => intro _; rfl
    | succ k ih =>
      intro hk
      show (aAny (fun k => (S.rq k).1 == i) k || ((S.rq k).1 == i)) = false
      rw [ih (by omega)]
      have h1 := (hW.2.2.2.2.1 k (by omega)).2
      have : ((S.rq k).1 == i) = false := beq_eq_false_iff_ne.mpr (fun e => by rw [e, h0] at h1; exact absurd h1 (Nat.lt_irrefl 0))
      rw [this]; rfl
  exact key S.nr (Nat.le_refl _)
theorem mt_isReq (S : aS) (i : Nat) : ∀ k, (S.find i k).isSome = aAny (fun k => (S.rq k).1 == i) k
  | 0 => rfl
  | k + 1 => by
    show (bif (S.rq k).1 == i then some k else S.find i k).isSome = (aAny (fun k => (S.rq k).1 == i) k || ((S.rq k).1 == i))
    rw [← mt_isReq S i k]
    cases (S.rq k).1 == i <;> simp
theorem oI_neg {S : aS} (hW : aWf S) (i : Nat) : (oI (S.find i S.nr) < 0) = (S.isReq i = false) := by
  have e := mt_isReq S i S.nr
  unfold aS.isReq
  rw [← e]
  cases h : S.find i S.nr with
  | none => simp [oI]
  | some k =>
    have hk : ∀ n, n ≤ S.nr → ∀ k, S.find i n = some k → k < n := by
      intro n
      induction n with
      | zero => intro _ k hk; cases hk
      | succ n ih =>
        intro hn k hk
        have hk' : (bif (S.rq n).1 == i then some n else S.find i n) = some k := hk
        cases hb : (S.rq n).1 == i with
        | true => rw [hb] at hk'; cases hk'; omega
        | false => rw [hb] at hk'; have := ih (by omega) k hk'; omega
    have h8 := hW.2.2.1
    have := hk S.nr (Nat.le_refl _) k h
    simp [oI, nI_pos (show k < 2 ^ 31 by omega)]
def mWQ (m : Nat) (A : Nat → Nat) (J : Nat → Int32) (cur : aS) (hn : Nat) (hist : Nat → aS) (sv : Option aS) (n : Nat) (ic : Nat → Int32) (w : wdW) : wdO → wdW → Prop := fun o w' => o = .inl (some (.int (nI (cur.txt (fun _ => nI 0) cur.nl).1))) ∧ isMm w' m A (nI 0) J cur hn hist sv n ic (cur.txt (fun _ => nI 0) cur.nl).1 (cur.txt (fun _ => nI 0) cur.nl).2 ∧ mFr m A w w'
theorem mQ_writeLamps (h : isMm w m A t J cur hn hist sv n ic on oc) (hW : aWf cur) (hT : aTx cur) : Sp l G MX3_writeLamps 7 0 0 [.ref m] w (mWQ m A J cur hn hist sv n ic w) := by
  obtain ⟨I, F, hM, ht, hR⟩ := h
  have hS := hR.1
  have hnl := hW.2.1
  refine Sp.of rfl (by decide +kernel) kX3_writeLamps (wd_le rfl) ?_
  refine WW.run (pc' := 2) (lv' := [(0, .ref m)]) (st' := [.int (nI 0), .ref m]) 2 rfl ?_
  refine WW.mputI 2 rfl pfX3_42 hM rfl rfl rfl rfl (fun w3 hM3 fr3 => ?_)
  refine WW.run (pc' := 7) (lv' := [(0, .ref m)]) (st' := [.int (nI 0), .ref m]) 2 rfl ?_
  refine WW.mputI 3 rfl pfX3_172 hM3 rfl rfl rfl rfl (fun w4 hM4 fr4 => ?_)
  refine WW.run (pc' := 12) (lv' := [(1, .int (nI 0)), (0, .ref m)]) (st' := []) 2 rfl ?_
  have hM0 : mW w4 m A (va_up I 2 (nI 0)) F (0, F 5) := (by
    have h9 := hM4
    show isM _ m A (va_up (va_up I 2 (nI 0)) 3 (nI 0)) (va_up F 5 (F 5))
    rw [va_up_id]
    exact h9)
  have fr0 := (fr3.trans fr4)
  refine WW.upW cur.nl (fun _ => 0) (fun _ => 0) (fun i => [(1, .int (nI i)), (0, .ref m)]) (fun i u => mW u m A (va_up I 2 (nI 0)) F (cur.txt (F 5) i) ∧ mFr m A w u) (fun i u hi hI ih => ?_) (fun u hI => ?_) ⟨hM0, fr0⟩
  · skip
    obtain ⟨hU, fru⟩ := hI
    obtain ⟨a, b, ha, hb, ea, eb⟩ := hT i hi
    have hle := hW.2.2.2.1 i hi
    have h6 := hW.1
    have ta : tn (cur.la i).lv = a := by rw [ea]; exact nI_clamp (by omega)
    have hlen := (txt_fine hW hT (F 5) i (by omega)).1
    replace ih : ∀ u', mW u' m A (va_up I 2 (nI 0)) F (cur.txtN i (cur.txt (F 5) i)) → mFr m A w u' → WW _ 0 0 12 [(1, .int (nI (i + 1))), (0, .ref m)] [] u' := fun u' h1 h2 => ih u' ⟨h1, h2⟩
    generalize cur.txt (F 5) i = t0 at hU hlen ih
    obtain ⟨t1, e1⟩ : ∃ t1, t1 = (if i = 0 then t0 else addC t0 32) := ⟨_, rfl⟩
    have l1 : t1.1 ≤ 11 * i + 1 := by
      rw [e1]
      by_cases e : i = 0
      · rw [if_pos e]; omega
      · rw [if_neg e]; show t0.1 + 1 ≤ _; omega
    have eN : cur.txtN i t0 = (if (cur.la i).le = 0 then addN t1 a else bif cur.isReq i then addC (addN (addC (addN (addC (addN t1 a) 115) ((cur.la i).le - 1)) 101) (tn (cur.la i).en)) 114 else addN (addC (addN (addC (addN t1 a) 115) ((cur.la i).le - 1)) 101) (tn (cur.la i).en)) := by
      unfold aS.txtN
      rw [ta, ← e1]
    rw [eN] at ih
    have tail98 : ∀ (u' : wdW) (t9 : tX), mW u' m A (va_up I 2 (nI 0)) F t9 → mFr m A w u' → t9 = (if (cur.la i).le = 0 then addN t1 a else bif cur.isReq i then addC (addN (addC (addN (addC (addN t1 a) 115) ((cur.la i).le - 1)) 101) (tn (cur.la i).en)) 114 else addN (addC (addN (addC (addN t1 a) 115) ((cur.la i).le - 1)) 101) (tn (cur.la i).en)) → WW (l, G, MX3_writeLamps, 7, 0, 0, mWQ m A J cur hn hist sv n ic w) 0 0 98 [(1, .int (nI i)), (0, .ref m)] [] u' := (by
      intro u' t9 h1 h2 h3
      subst h3
      refine WW.run (pc' := 12) (lv' := [(1, .int ((nI i) + nI 1)), (0, .ref m)]) (st' := []) 2 rfl ?_
      rw [nI_add]
      exact ih u' h1 h2)
    clear ih
    have la1 := addN_len1 t1 ha
    have main32 : ∀ u' : wdW, mW u' m A (va_up I 2 (nI 0)) F t1 → mFr m A w u' → WW (l, G, MX3_writeLamps, 7, 0, 0, mWQ m A J cur hn hist sv n ic w) 0 0 32 [(1, .int (nI i)), (0, .ref m)] [] u' := (by
      intro u1 hU1 fr1
      have hlv := sM_lv (l := l) (G := G) hU1 hS hW hi
      rw [ea] at hlv
      refine WW.run (pc' := 36) (lv' := [(1, .int (nI i)), (0, .ref m)]) (st' := [.int (nI 0), .int (nI i), .ref m, .ref m]) 4 rfl ?_
      refine WW.callV [.int (nI i), .int (nI 0)] m [.ref m] rfl mX3_58 hlv (wdRecv.obj hU1.1 rfl) rfl rfl (wd_le rfl) (wd_le rfl) (wd_le rfl) (wd_le rfl) (fun o w' hq => ?_)
      obtain ⟨rfl, hw9⟩ := hq
      show WW _ _ _ 39 _ [.int (nI a), .ref m] _
      rw [hw9]
      clear hw9 w'
      refine WW.callV [.int (nI a)] m [] rfl mX3_175 (sM_saysNumber 1 a (by omega) (by decide) (by decide) hU1 (by omega)) (wdRecv.obj hU1.1 rfl) rfl rfl (wd_le rfl) (wd_le rfl) (wd_le rfl) (wd_le rfl) (fun o u2 hq => ?_)
      obtain ⟨rfl, hU2, fr2⟩ := hq
      show WW _ _ _ 42 _ [] _
      generalize addN t1 a = t2 at hU2 la1 tail98
      refine WW.run (pc' := 44) (lv' := [(1, .int (nI i)), (0, .ref m)]) (st' := [.int (nI i), .ref m]) 2 rfl ?_
      refine WW.callV [.int (nI i)] m [] rfl mX3_96 (sM_isOut hU2 hS hW hi) (wdRecv.obj hU2.1 rfl) rfl rfl (wd_le rfl) (wd_le rfl) (wd_le rfl) (wd_le rfl) (fun o w' hq => ?_)
      obtain ⟨rfl, hw9⟩ := hq
      show WW _ _ _ 47 _ [.int (bI (Nat.blt 0 (cur.la i).le))] _
      rw [hw9]
      clear hw9 w'
      cases hb0 : Nat.blt 0 (cur.la i).le with
      | false =>
        have e0 : (cur.la i).le = 0 := by
          have : ¬ 0 < (cur.la i).le := fun q => by rw [show Nat.blt 0 (cur.la i).le = true from Nat.ble_eq_true_of_le q] at hb0; cases hb0
          omega
        refine WW.if_eq (tgt := 84) rfl rfl (fun _ => ?_) (fun hno => absurd rfl hno)
        refine WW.run (pc' := 86) (lv' := [(1, .int (nI i)), (0, .ref m)]) (st' := [.int (nI i), .ref m]) 2 rfl ?_
        refine WW.callV [.int (nI i)] m [] rfl mX3_62 (sM_requestFor hU2 hS hW (show i < 2 ^ 31 by omega)) (wdRecv.obj hU2.1 rfl) rfl rfl (wd_le rfl) (wd_le rfl) (wd_le rfl) (wd_le rfl) (fun o w' hq => ?_)
        obtain ⟨rfl, hw9⟩ := hq
        show WW _ _ _ 89 _ [.int (oI (cur.find i cur.nr))] _
        rw [hw9]
        clear hw9 w'
        refine WW.if_lt (tgt := 98) rfl rfl (fun _ => ?_) (fun hno => absurd (by rw [oI_neg hW]; exact mt_none hW e0) hno)
        exact tail98 u2 t2 hU2 (fr1.trans fr2) (by rw [if_pos e0])
      | true =>
        have e0 : 0 < (cur.la i).le := Nat.le_of_ble_eq_true hb0
        have ee := eb e0
        have tb : tn (cur.la i).en = b := by rw [ee]; exact nI_clamp (by omega)
        have ne0 : ¬ (cur.la i).le = 0 := by omega
        rw [tb, if_neg ne0] at tail98
        refine WW.if_eq (tgt := 84) rfl rfl (fun hno => absurd hno (by decide)) (fun _ => ?_)
        refine WW.run (pc' := 53) (lv' := [(1, .int (nI i)), (0, .ref m)]) (st' := [.int (nI 115), .ref m]) 2 rfl ?_
        refine WW.callV [.int (nI 115)] m [] rfl mX3_178 (sM_says hU2 (by omega) (show 115 < 128 by decide)) (wdRecv.obj hU2.1 rfl) rfl rfl (wd_le rfl) (wd_le rfl) (wd_le rfl) (wd_le rfl) (fun o u3 hq => ?_)
        obtain ⟨rfl, hU3, fr3⟩ := hq
        show WW _ _ _ 56 _ [] _
        have la3 : (addC t2 115).1 = t2.1 + 1 := rfl
        generalize addC t2 115 = t3 at hU3 la3 tail98
        refine WW.run (pc' := 60) (lv' := [(1, .int (nI i)), (0, .ref m)]) (st' := [.int (nI 1), .int (nI i), .ref m, .ref m]) 4 rfl ?_
        refine WW.callV [.int (nI i), .int (nI 1)] m [.ref m] rfl mX3_58 (sM_le hU3 hS hW hi) (wdRecv.obj hU3.1 rfl) rfl rfl (wd_le rfl) (wd_le rfl) (wd_le rfl) (wd_le rfl) (fun o w' hq => ?_)
        obtain ⟨rfl, hw9⟩ := hq
        show WW _ _ _ 63 _ [.int (nI ((cur.la i).le)), .ref m] _
        rw [hw9]
        clear hw9 w'
        refine WW.run (pc' := 65) (lv' := [(1, .int (nI i)), (0, .ref m)]) (st' := [.int ((nI ((cur.la i).le)) - (nI 1)), .ref m]) 2 rfl ?_
        rw [wn_sub rfl rfl e0]
        have la4 := addN_len1 t3 (show (cur.la i).le - 1 < 10 by omega)
        refine WW.callV [.int (nI ((cur.la i).le - 1))] m [] rfl mX3_175 (sM_saysNumber 1 ((cur.la i).le - 1) (by omega) (by decide) (by decide) hU3 (by omega)) (wdRecv.obj hU3.1 rfl) rfl rfl (wd_le rfl) (wd_le rfl) (wd_le rfl) (wd_le rfl) (fun o u4 hq => ?_)
        obtain ⟨rfl, hU4, fr4⟩ := hq
        show WW _ _ _ 68 _ [] _
        generalize addN t3 ((cur.la i).le - 1) = t4 at hU4 la4 tail98
        refine WW.run (pc' := 71) (lv' := [(1, .int (nI i)), (0, .ref m)]) (st' := [.int (nI 101), .ref m]) 2 rfl ?_
        refine WW.callV [.int (nI 101)] m [] rfl mX3_178 (sM_says hU4 (by omega) (show 101 < 128 by decide)) (wdRecv.obj hU4.1 rfl) rfl rfl (wd_le rfl) (wd_le rfl) (wd_le rfl) (wd_le rfl) (fun o u5 hq => ?_)
        obtain ⟨rfl, hU5, fr5⟩ := hq
        show WW _ _ _ 74 _ [] _
        have la5 : (addC t4 101).1 = t4.1 + 1 := rfl
        generalize addC t4 101 = t5 at hU5 la5 tail98
        have hen := sM_en (l := l) (G := G) hU5 hS hW hi
        rw [if_neg ne0, ee] at hen
        refine WW.run (pc' := 78) (lv' := [(1, .int (nI i)), (0, .ref m)]) (st' := [.int (nI 2), .int (nI i), .ref m, .ref m]) 4 rfl ?_
        refine WW.callV [.int (nI i), .int (nI 2)] m [.ref m] rfl mX3_58 hen (wdRecv.obj hU5.1 rfl) rfl rfl (wd_le rfl) (wd_le rfl) (wd_le rfl) (wd_le rfl) (fun o w' hq => ?_)
        obtain ⟨rfl, hw9⟩ := hq
        show WW _ _ _ 81 _ [.int (nI b), .ref m] _
        rw [hw9]
        clear hw9 w'
        have la6 := addN_len t5 b
        have hd := dg_le b
        refine WW.callV [.int (nI b)] m [] rfl mX3_175 (sM_saysNumber 5 b (by omega) (by decide) (by decide) hU5 (by omega)) (wdRecv.obj hU5.1 rfl) rfl rfl (wd_le rfl) (wd_le rfl) (wd_le rfl) (wd_le rfl) (fun o u6 hq => ?_)
        obtain ⟨rfl, hU6, fr6⟩ := hq
        show WW _ _ _ 84 _ [] _
        generalize addN t5 b = t6 at hU6 la6 tail98
        have frT := fr1.trans (fr2.trans (fr3.trans (fr4.trans (fr5.trans fr6))))
        refine WW.run (pc' := 86) (lv' := [(1, .int (nI i)), (0, .ref m)]) (st' := [.int (nI i), .ref m]) 2 rfl ?_
        refine WW.callV [.int (nI i)] m [] rfl mX3_62 (sM_requestFor hU6 hS hW (show i < 2 ^ 31 by omega)) (wdRecv.obj hU6.1 rfl) rfl rfl (wd_le rfl) (wd_le rfl) (wd_le rfl) (wd_le rfl) (fun o w' hq => ?_)
        obtain ⟨rfl, hw9⟩ := hq
        show WW _ _ _ 89 _ [.int (oI (cur.find i cur.nr))] _
        rw [hw9]
        clear hw9 w'
        cases hr : cur.isReq i with
        | false =>
          refine WW.if_lt (tgt := 98) rfl rfl (fun _ => ?_) (fun hno => absurd (by rw [oI_neg hW]; exact hr) hno)
          rw [hr] at tail98
          exact tail98 u6 t6 hU6 frT rfl
        | true =>
          refine WW.if_lt (tgt := 98) rfl rfl (fun hno => absurd hno (by rw [oI_neg hW, hr]; exact fun q => nomatch q)) (fun _ => ?_)
          rw [hr] at tail98
          refine WW.run (pc' := 95) (lv' := [(1, .int (nI i)), (0, .ref m)]) (st' := [.int (nI 114), .ref m]) 2 rfl ?_
          refine WW.callV [.int (nI 114)] m [] rfl mX3_178 (sM_says hU6 (by omega) (show 114 < 128 by decide)) (wdRecv.obj hU6.1 rfl) rfl rfl (wd_le rfl) (wd_le rfl) (wd_le rfl) (wd_le rfl) (fun o u7 hq => ?_)
          obtain ⟨rfl, hU7, fr7⟩ := hq
          show WW _ _ _ 98 _ [] _
          exact tail98 u7 (addC t6 114) hU7 (frT.trans fr7) rfl)
    clear tail98
    refine WW.run (pc' := 14) (lv' := [(1, .int (nI i)), (0, .ref m)]) (st' := [.ref m, .int (nI i)]) 2 rfl ?_
    refine WW.get rfl fX3_9 hU.1 (show _ = some (.ref (A 0)) from rfl) ?_
    refine WW.run (pc' := 18) (lv' := [(1, .int (nI i)), (0, .ref m)]) (st' := [.int (nI 1), .ref (A 0), .int (nI i)]) 1 rfl ?_
    refine WW.mald 0 1 rfl hU (by decide) rfl rfl (by decide) (by decide) (show ((va_up F 5 t0.2) 0) 1 = nI cur.nl from hS.1.2.1) ?_
    refine WW.icmp_ge (tgt := 104) rfl rfl (fun hno => absurd hno (nI_ge hi (by omega))) (fun _ => ?_)
    refine WW.run (pc' := 23) (lv' := [(1, .int (nI i)), (0, .ref m)]) (st' := [.int (nI i)]) 1 rfl ?_
    by_cases e : i = 0
    · skip
      rw [if_pos e] at e1
      subst e1
      refine WW.if_le (tgt := 32) rfl rfl (fun _ => ?_) (fun hno => absurd (by rw [e]; exact nI_le0) hno)
      exact main32 u hU fru
    · skip
      rw [if_neg e] at e1
      subst e1
      refine WW.if_le (tgt := 32) rfl rfl (fun hno => absurd hno (nI_nle (Nat.pos_of_ne_zero e) (by omega))) (fun _ => ?_)
      refine WW.run (pc' := 29) (lv' := [(1, .int (nI i)), (0, .ref m)]) (st' := [.int (nI 32), .ref m]) 2 rfl ?_
      refine WW.callV [.int (nI 32)] m [] rfl mX3_178 (sM_says hU (by omega) (show 32 < 128 by decide)) (wdRecv.obj hU.1 rfl) rfl rfl (wd_le rfl) (wd_le rfl) (wd_le rfl) (wd_le rfl) (fun o u1 hq => ?_)
      obtain ⟨rfl, hU1, fr1⟩ := hq
      show WW _ _ _ 32 _ [] _
      exact main32 u1 hU1 (fru.trans fr1)
  · skip
    obtain ⟨hU, fru⟩ := hI
    have q := txt_eq cur (F 5) (fun _ => nI 0) cur.nl
    have hlen := (txt_fine hW hT (F 5) cur.nl (Nat.le_refl _)).1
    generalize cur.txt (F 5) cur.nl = t0 at hU q hlen
    refine WW.run (pc' := 14) (lv' := [(1, .int (nI cur.nl)), (0, .ref m)]) (st' := [.ref m, .int (nI cur.nl)]) 2 rfl ?_
    refine WW.get rfl fX3_9 hU.1 (show _ = some (.ref (A 0)) from rfl) ?_
    refine WW.run (pc' := 18) (lv' := [(1, .int (nI cur.nl)), (0, .ref m)]) (st' := [.int (nI 1), .ref (A 0), .int (nI cur.nl)]) 1 rfl ?_
    refine WW.mald 0 1 rfl hU (by decide) rfl rfl (by decide) (by decide) (show ((va_up F 5 t0.2) 0) 1 = nI cur.nl from hS.1.2.1) ?_
    refine WW.icmp_ge (tgt := 104) rfl rfl (fun _ => ?_) (fun hno => absurd (nI_le (Nat.le_refl _) (by omega)) hno)
    refine WW.run (pc' := 105) (lv' := [(1, .int (nI cur.nl)), (0, .ref m)]) (st' := [.ref m]) 1 rfl ?_
    refine WW.get rfl fX3_172 hU.1 (show _ = some (.int ((va_up (va_up I 2 (nI 0)) 3 (nI t0.1)) 3)) from rfl) ?_
    obtain ⟨q1, q2⟩ := q
    refine WW.iret rfl rfl rfl ⟨(show (Sum.inl (some (Value.int (nI t0.1))) : wdO) = _ from by rw [q1]), ⟨_, _, hU, rfl, ?_⟩, fru⟩
    obtain ⟨g0, g1, g2, g3, g4, g5⟩ := hR
    exact ⟨g0, g1, g2, ⟨congrArg nI q1, by omega, fun j hj => q2 j (by omega)⟩, g4, g5⟩
end
