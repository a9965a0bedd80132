set_option maxRecDepth 100000
/-! THE LAW'S LOOP -/
theorem and63 (x : Int32) : ∃ k, k < 64 ∧ x &&& nI 63 = nI k := by
  refine ⟨x.toBitVec.toNat % 64, Nat.mod_lt _ (by decide), ?_⟩
  apply Int32.toBitVec_inj.mp
  apply BitVec.eq_of_toNat_eq
  rw [Int32.toBitVec_and, BitVec.toNat_and]
  rw [show (nI 63).toBitVec.toNat = 2 ^ 6 - 1 from rfl, Nat.and_two_pow_sub_one_eq_mod]
  show _ = (BitVec.ofNat 32 _).toNat
  rw [BitVec.toNat_ofNat]
  exact (Nat.mod_eq_of_lt (Nat.lt_trans (Nat.mod_lt _ (by decide)) (by decide))).symm
theorem len4 {len j : Nat} (hl : len < 2 ^ 30) (hj : j < 2 ^ 30) : (nI len - nI 4 < nI j) ↔ len < j + 4 := by
  rcases Nat.lt_or_ge len 4 with e | e
  · have h1 : nI len - nI 4 < 0 := by
      have : ∀ z, z < 4 → nI z - nI 4 < 0 := by decide
      exact this len e
    exact ⟨fun _ => by omega, fun _ => Int32.lt_of_lt_of_le h1 (Int32.not_lt.mp (nI_pos (by omega)))⟩
  · rw [show nI len - nI 4 = nI (len - 4) from wn_sub rfl rfl e, nI_ltI (by omega) (by omega)]
    omega
abbrev lChr (x : Int32) : Int32 := (x.toUInt32 % 65536).toInt32
theorem lChr_nar (x : Int32) : vp_nar .char (lChr x) = lChr x := by
  show ((x.toUInt32 % 65536).toInt32).toUInt32.toUInt16.toUInt32.toInt32 = (x.toUInt32 % 65536).toInt32
  congr 1
  rw [UInt32.toUInt32_toInt32]
  apply UInt32.toNat_inj.mp
  rw [UInt16.toNat_toUInt32, UInt32.toNat_toUInt16, UInt32.toNat_mod]
  show x.toUInt32.toNat % 65536 % 65536 = x.toUInt32.toNat % 65536
  omega
abbrev lPr : Type := Nat → aS → Nat → (Nat → aS) → Option aS → Nat → (Nat → Int32) → Nat → (Nat → Int32) → (Nat → Int32) → Prop
/-- P holds of the states in turn, and tells what the law asks -/
def lCl (P : lPr) : Prop := ∀ c cur hn hist sv n ic on oc J, c < 25 → P c cur hn hist sv n ic on oc J → lG cur hn hist sv n ic on oc J ∧ P (c + 1) cur hn hist sv n ic on oc J ∧
  (∀ k v z, k ≤ 6 → aDo k v cur = .inr z → P (c + 1) z.2 (tRec hn hist cur).1 (tRec hn hist cur).2 sv n ic on oc J) ∧
  (∀ x, n < 60 → P (c + 1) cur hn hist sv (n + 1) (va_up ic n (lChr x)) on oc (va_up J 0 (nI (n + 1)))) ∧
  (∀ e, kAll ic n = .inl e → P (c + 1) cur hn hist sv 0 ic on oc (va_up (va_up J 1 (nI e)) 0 (nI 0))) ∧
  (∀ cs z, kAll ic n = .inr cs → aRun cs 0 cur = .inl z → P (c + 1) cur hn hist sv 0 ic on oc (va_up (va_up (va_up J 2 (nI z.1)) 3 (rsN z.2)) 0 (nI 0))) ∧
  (∀ cs T, kAll ic n = .inr cs → aRun cs 0 cur = .inr T → P (c + 1) T (tRec hn hist cur).1 (tRec hn hist cur).2 sv 0 ic on oc (va_up J 0 (nI 0))) ∧
  P (c + 1) cur hn hist sv n ic (cur.txt (fun _ => nI 0) cur.nl).1 (cur.txt (fun _ => nI 0) cur.nl).2 J ∧
  (hn ≠ 0 → P (c + 1) (hist (hn - 1)) (hn - 1) hist sv n ic on oc J) ∧ P (c + 1) cur hn hist (some cur) n ic on oc J ∧ ∀ S, sv = some S → P (c + 1) S 0 hist sv n ic on oc J
section
variable {l : Launch} {G : wdG} {w : wdW} {o hl inp sb m : Nat} {A : Nat → Nat} {ou od : Nat} {cur : aS} {hn : Nat} {hist : Nat → aS} {sv : Option aS} {n : Nat} {ic : Nat → Int32} {on : Nat} {oc : Nat → Int32} {J : Nat → Int32} {mc ms kc ks i c : Nat} {P : lPr}
theorem mQ_restN {t : Int32} (hm : isMm w m A t J cur hn hist none n ic on oc) : Sp l G MX3_restore 6 0 0 [.ref m] w (fun o w' => mFr m A w w' ∧ o = .inl (some (.int (nI 0))) ∧ isMm w' m A (nI 1) J cur hn hist none n ic on oc) := mQ_restore hm (fun _ h => nomatch h)
theorem mQ_restS {t : Int32} {T : aS} (hm : isMm w m A t J cur hn hist (some T) n ic on oc) (hT : aWf T) : Sp l G MX3_restore 6 0 0 [.ref m] w (fun o w' => mFr m A w w' ∧ o = .inl (some (.int (nI T.nl))) ∧ isMm w' m A (nI 0) J T 0 hist (some T) n ic on oc) := mQ_restore hm (fun _ h => by cases h; exact hT)
theorem rOk_oR {N : Nat} (hN : 1 ≤ N) {q : Option Nat} : rOk N (oR q) := by
  cases q with
  | none => exact ⟨Nat.le_refl 1, hN⟩
  | some h => exact ⟨_, rfl⟩
theorem rOk_bb {p q : Bool} {y : Int32} : rOk 2 (bif p then (bif q then .inr (.int y) else .inl 2) else .inl 1) := by
  cases p with
  | false => exact ⟨by decide, by decide⟩
  | true => cases q with
    | false => exact ⟨by decide, by decide⟩
    | true => exact ⟨y, rfl⟩
theorem rOk_nb {b : Bool} {y : Int32} : rOk 1 (bif b then .inl 1 else .inr (.int y)) := by
  cases b with
  | true => exact ⟨Nat.le_refl 1, Nat.le_refl 1⟩
  | false => exact ⟨y, rfl⟩
theorem qD {b : Bool} {v : UInt64} : (bif b then (.inr (.double v) : Nat ⊕ Value) else .inl 1) = rD (bif b then (.inr v : Nat ⊕ UInt64) else .inl 1) := by cases b <;> rfl
theorem qF {b : Bool} {v : UInt32} : (bif b then (.inr (.float v) : Nat ⊕ Value) else .inl 1) = rF (bif b then (.inr v : Nat ⊕ UInt32) else .inl 1) := by cases b <;> rfl
theorem qP {α : Type} {b : Bool} {v : α} {p : Nat} (h : (bif b then (.inr v : Nat ⊕ α) else .inl 1) = .inl p) : p = 1 := by
  cases b with
  | true => cases h
  | false => cases h; rfl
theorem qV2 {cur : aS} (hn2 : 0 < cur.nl → vf_n32 (FP.fdiv (FP.i2f cur.leased) (FP.i2f (nI cur.nl))) ∧ vf_n64 (FP.f2d (FP.fdiv (FP.i2f cur.leased) (FP.i2f (nI cur.nl)))) ∧ Op.cmpValue (FP.dcmp (FP.f2d (FP.fdiv (FP.i2f cur.leased) (FP.i2f (nI cur.nl)))) (FP.f2d (FP.fdiv (FP.i2f cur.leased) (FP.i2f (nI cur.nl))))) .l = 0) {v : UInt32} (h : (bif Nat.blt 0 cur.nl then (.inr (FP.fdiv (FP.i2f cur.leased) (FP.i2f (nI cur.nl))) : Nat ⊕ UInt32) else .inl 1) = .inr v) : vf_n64 (FP.f2d v) ∧ Op.cmpValue (FP.dcmp (FP.f2d v) (FP.f2d v)) .l = 0 := by
  cases hb : Nat.blt 0 cur.nl with
  | false => rw [hb] at h; cases h
  | true =>
    rw [hb] at h
    cases h
    exact (hn2 (Nat.blt_eq.mp hb)).2
theorem shq {S : aS} {L : Nat} (hW : aWf S) (h : ∀ k, k < S.ns → shG S.ns L S.quo S.rem k = S.byRank k) {x : Int32} : (bif S.ixS x then (.inr (.int (shG S.ns L S.quo S.rem (tn x))) : Nat ⊕ Value) else .inl 1) = (bif S.ixS x then .inr (.int (S.byRank (tn x))) else .inl 1) := by
  cases hb : S.ixS x with
  | false => rfl
  | true =>
    show (.inr (.int _) : Nat ⊕ Value) = .inr (.int _)
    obtain ⟨j, hj, -, e⟩ := hW.ixS hb
    rw [h (tn x) (by omega)]
theorem lBody (hC : lCl P) (hc25 : c < 25) (hP : P c cur hn hist sv n ic on oc J) (hL : lI G w o hl inp sb m A ou od cur hn hist sv n ic on oc J) (hi : i + 3 < G.2.2.2.2.2.2.1) (hlen : G.2.2.2.2.2.2.1 < 2 ^ 31) (hkc : 40000 ≤ kc) (hks : 200000 ≤ ks) (nx : ∀ cur hn hist sv n ic on oc J, P (c + 1) cur hn hist sv n ic on oc J → lNx l G mc ms kc ks i o hl inp sb m A ou od cur hn hist sv n ic on oc J) : WW (lX l G mc ms) kc ks 37 (lLV G i o m ou od) [] w := by
  obtain ⟨hg, hsame, hcmd, hfeed, hrun1, hrun2, hrun3, hwr, hun, hsv, hre⟩ := hC _ _ _ _ _ _ _ _ _ _ hc25 hP
  obtain ⟨⟨hWf, hE, hQr, hSB, hLB, hTx, hlv, ⟨L, hSL, hSL2, hSL3, hSh⟩, hA1, mm, hB1, hm1⟩, ⟨b1, b2, b3, b4, b5, b6, b7⟩, ⟨hn1, hn2⟩, ⟨hj1, hj2, hj3⟩, ⟨hsm, hon⟩, ⟨h60, hch⟩, ⟨h8, hWh⟩, hWs, hkw⟩ := hg
  have hO := hL.1
  have hJ0 := hL.2.1
  refine WW.run (pc' := 40) (lv' := [(5, .int (nI i)), (4, .ref od), (3, .ref ou), (2, .ref m), (1, .ref o), (0, .ref (G.2.2.2.1 3))]) (st' := [.int (nI i), .ref (G.2.2.2.1 3)]) 2 rfl ?_
  refine WW.scr i rfl rfl (by show _ < G.2.2.2.2.2.2.1; omega) hlen ?_
  refine WW.run (pc' := 44) (lv' := [(5, .int (nI i)), (4, .ref od), (3, .ref ou), (2, .ref m), (1, .ref o), (0, .ref (G.2.2.2.1 3))]) (st' := [.int ((G.2.2.2.2.2.2.2 i) &&& (nI 63))]) 2 rfl ?_
  obtain ⟨k, hk, ek⟩ := and63 (G.2.2.2.2.2.2.2 i)
  rw [ek]
  rcases Nat.lt_or_ge k 1 with e0 | e0
  · obtain rfl : k = 0 := by omega
    refine WW.tableIn (tgt := 268) (off := 224) rfl (by decide +kernel) (by decide +kernel) (by decide +kernel) rfl ?_
    exact lK0 hL hi hlen hkc hks (cO_addShip hO hWf h8) (rLe0 cur) (fun w1 t hm => mC_addShip hm hWf hWh) (nx _ _ _ _ _ _ _ _ _ hsame) (fun z hz => nx _ _ _ _ _ _ _ _ _ (hcmd 0 (nI 0, nI 0, nI 0) z (by decide) ((aDo0 (nI 0, nI 0, nI 0) cur).trans hz)))
  rcases Nat.lt_or_ge k 2 with e1 | e1
  · obtain rfl : k = 1 := by omega
    refine WW.tableIn (tgt := 312) (off := 268) rfl (by decide +kernel) (by decide +kernel) (by decide +kernel) rfl ?_
    exact lK1 hL hi hlen hkc hks (cO_addLamp hO hWf h8 (G.2.2.2.2.2.2.2 (i + 1))) (rLe1 cur (G.2.2.2.2.2.2.2 (i + 1))) (fun w1 t hm => mC_addLamp hm hWf hWh (G.2.2.2.2.2.2.2 (i + 1))) (nx _ _ _ _ _ _ _ _ _ hsame) (fun z hz => nx _ _ _ _ _ _ _ _ _ (hcmd 1 ((G.2.2.2.2.2.2.2 (i + 1)), nI 0, nI 0) z (by decide) ((aDo1 ((G.2.2.2.2.2.2.2 (i + 1)), nI 0, nI 0) cur).trans hz)))
  rcases Nat.lt_or_ge k 3 with e2 | e2
  · obtain rfl : k = 2 := by omega
    refine WW.tableIn (tgt := 368) (off := 324) rfl (by decide +kernel) (by decide +kernel) (by decide +kernel) rfl ?_
    exact lK2 hL hi hlen hkc hks (cO_addOil hO hWf h8 (G.2.2.2.2.2.2.2 (i + 1))) (rLe3 cur (G.2.2.2.2.2.2.2 (i + 1))) (fun w1 t hm => mC_addOil hm hWf hWh (G.2.2.2.2.2.2.2 (i + 1))) (nx _ _ _ _ _ _ _ _ _ hsame) (fun z hz => nx _ _ _ _ _ _ _ _ _ (hcmd 3 ((G.2.2.2.2.2.2.2 (i + 1)), nI 0, nI 0) z (by decide) ((aDo3 ((G.2.2.2.2.2.2.2 (i + 1)), nI 0, nI 0) cur).trans hz)))
  rcases Nat.lt_or_ge k 4 with e3 | e3
  · obtain rfl : k = 3 := by omega
    refine WW.tableIn (tgt := 424) (off := 380) rfl (by decide +kernel) (by decide +kernel) (by decide +kernel) rfl ?_
    exact lK3 hL hi hlen hkc hks (cO_lease hO hWf h8 (G.2.2.2.2.2.2.2 (i + 1)) (G.2.2.2.2.2.2.2 (i + 2)) (G.2.2.2.2.2.2.2 (i + 3))) (rLe6 cur (G.2.2.2.2.2.2.2 (i + 1)) (G.2.2.2.2.2.2.2 (i + 2)) (G.2.2.2.2.2.2.2 (i + 3))) (fun w1 t hm => mC_lease hm hWf hWh (G.2.2.2.2.2.2.2 (i + 1)) (G.2.2.2.2.2.2.2 (i + 2)) (G.2.2.2.2.2.2.2 (i + 3))) (nx _ _ _ _ _ _ _ _ _ hsame) (fun z hz => nx _ _ _ _ _ _ _ _ _ (hcmd 6 ((G.2.2.2.2.2.2.2 (i + 1)), (G.2.2.2.2.2.2.2 (i + 2)), (G.2.2.2.2.2.2.2 (i + 3))) z (by decide) ((aDo6 0 ((G.2.2.2.2.2.2.2 (i + 1)), (G.2.2.2.2.2.2.2 (i + 2)), (G.2.2.2.2.2.2.2 (i + 3))) cur).trans hz)))
  rcases Nat.lt_or_ge k 5 with e4 | e4
  · obtain rfl : k = 4 := by omega
    refine WW.tableIn (tgt := 504) (off := 460) rfl (by decide +kernel) (by decide +kernel) (by decide +kernel) rfl ?_
    exact lK4 hL hi hlen hkc hks (cO_requestRenewal hO hWf h8 (G.2.2.2.2.2.2.2 (i + 1)) (G.2.2.2.2.2.2.2 (i + 2))) (rLe5 cur (G.2.2.2.2.2.2.2 (i + 1)) (G.2.2.2.2.2.2.2 (i + 2))) (fun w1 t hm => mC_requestRenewal hm hWf hWh (G.2.2.2.2.2.2.2 (i + 1)) (G.2.2.2.2.2.2.2 (i + 2))) (nx _ _ _ _ _ _ _ _ _ hsame) (fun z hz => nx _ _ _ _ _ _ _ _ _ (hcmd 5 ((G.2.2.2.2.2.2.2 (i + 1)), (G.2.2.2.2.2.2.2 (i + 2)), nI 0) z (by decide) ((aDo5 ((G.2.2.2.2.2.2.2 (i + 1)), (G.2.2.2.2.2.2.2 (i + 2)), nI 0) cur).trans hz)))
  rcases Nat.lt_or_ge k 6 with e5 | e5
  · obtain rfl : k = 5 := by omega
    refine WW.tableIn (tgt := 572) (off := 528) rfl (by decide +kernel) (by decide +kernel) (by decide +kernel) rfl ?_
    exact lK5 hL hi hlen hkc hks (cO_giveUp hO hWf h8 (G.2.2.2.2.2.2.2 (i + 1))) (rLe2 cur (G.2.2.2.2.2.2.2 (i + 1))) (fun w1 t hm => mC_giveUp hm hWf hWh (G.2.2.2.2.2.2.2 (i + 1))) (nx _ _ _ _ _ _ _ _ _ hsame) (fun z hz => nx _ _ _ _ _ _ _ _ _ (hcmd 2 ((G.2.2.2.2.2.2.2 (i + 1)), nI 0, nI 0) z (by decide) ((aDo2 ((G.2.2.2.2.2.2.2 (i + 1)), nI 0, nI 0) cur).trans hz)))
  rcases Nat.lt_or_ge k 7 with e6 | e6
  · obtain rfl : k = 6 := by omega
    refine WW.tableIn (tgt := 628) (off := 584) rfl (by decide +kernel) (by decide +kernel) (by decide +kernel) rfl ?_
    exact lK6 hL hi hlen hkc hks (cO_passHours hO hWf h8 (G.2.2.2.2.2.2.2 (i + 1))) (rLe4 cur (G.2.2.2.2.2.2.2 (i + 1))) (fun w1 t hm => mC_passHours hm hWf hWh (G.2.2.2.2.2.2.2 (i + 1))) (nx _ _ _ _ _ _ _ _ _ hsame) (fun z hz => nx _ _ _ _ _ _ _ _ _ (hcmd 4 ((G.2.2.2.2.2.2.2 (i + 1)), nI 0, nI 0) z (by decide) ((aDo4 ((G.2.2.2.2.2.2.2 (i + 1)), nI 0, nI 0) cur).trans hz)))
  rcases Nat.lt_or_ge k 8 with e7 | e7
  · obtain rfl : k = 7 := by omega
    refine WW.tableIn (tgt := 684) (off := 640) rfl (by decide +kernel) (by decide +kernel) (by decide +kernel) rfl ?_
    exact lK7 hL hi hlen hkc hks (cO_hour hO hWf) (fun w1 t hm => mQ_hour hm hWf) (nx _ _ _ _ _ _ _ _ _ hsame)
  rcases Nat.lt_or_ge k 9 with e8 | e8
  · obtain rfl : k = 8 := by omega
    refine WW.tableIn (tgt := 697) (off := 653) rfl (by decide +kernel) (by decide +kernel) (by decide +kernel) rfl ?_
    exact lK8 hL hi hlen hkc hks (cO_shipCount hO hWf) (fun w1 t hm => mQ_shipCount hm hWf) (nx _ _ _ _ _ _ _ _ _ hsame)
  rcases Nat.lt_or_ge k 10 with e9 | e9
  · obtain rfl : k = 9 := by omega
    refine WW.tableIn (tgt := 710) (off := 666) rfl (by decide +kernel) (by decide +kernel) (by decide +kernel) rfl ?_
    exact lK9 hL hi hlen hkc hks (cO_coins hO hWf (G.2.2.2.2.2.2.2 (i + 1))) (rOk_b (by decide)) (fun w1 t hm => mQ_coins hm hWf (G.2.2.2.2.2.2.2 (i + 1))) (nx _ _ _ _ _ _ _ _ _ hsame)
  rcases Nat.lt_or_ge k 11 with e10 | e10
  · obtain rfl : k = 10 := by omega
    refine WW.tableIn (tgt := 766) (off := 722) rfl (by decide +kernel) (by decide +kernel) (by decide +kernel) rfl ?_
    exact lK10 hL hi hlen hkc hks (cO_finesPaid hO hWf (G.2.2.2.2.2.2.2 (i + 1))) (rOk_b (by decide)) (fun w1 t hm => mQ_finesPaid hm hWf (G.2.2.2.2.2.2.2 (i + 1))) (nx _ _ _ _ _ _ _ _ _ hsame)
  rcases Nat.lt_or_ge k 12 with e11 | e11
  · obtain rfl : k = 11 := by omega
    refine WW.tableIn (tgt := 822) (off := 778) rfl (by decide +kernel) (by decide +kernel) (by decide +kernel) rfl ?_
    exact lK11 hL hi hlen hkc hks (cO_darkHours hO hWf (G.2.2.2.2.2.2.2 (i + 1))) (rOk_b (by decide)) (fun w1 t hm => mQ_darkHours hm hWf (G.2.2.2.2.2.2.2 (i + 1))) (nx _ _ _ _ _ _ _ _ _ hsame)
  rcases Nat.lt_or_ge k 13 with e12 | e12
  · obtain rfl : k = 12 := by omega
    refine WW.tableIn (tgt := 878) (off := 834) rfl (by decide +kernel) (by decide +kernel) (by decide +kernel) rfl ?_
    exact lK12 hL hi hlen hkc hks (cO_demand hO hWf (G.2.2.2.2.2.2.2 (i + 1))) (rOk_b (by decide)) (fun w1 t hm => mQ_demand hm hWf (G.2.2.2.2.2.2.2 (i + 1))) (nx _ _ _ _ _ _ _ _ _ hsame)
  rcases Nat.lt_or_ge k 14 with e13 | e13
  · obtain rfl : k = 13 := by omega
    refine WW.tableIn (tgt := 934) (off := 890) rfl (by decide +kernel) (by decide +kernel) (by decide +kernel) rfl ?_
    exact lK13 hL hi hlen hkc hks (cO_leasesOf hO hWf (G.2.2.2.2.2.2.2 (i + 1))) (rOk_b (by decide)) (fun w1 t hm => mQ_leasesOf hm hWf (G.2.2.2.2.2.2.2 (i + 1))) (nx _ _ _ _ _ _ _ _ _ hsame)
  rcases Nat.lt_or_ge k 15 with e14 | e14
  · obtain rfl : k = 14 := by omega
    refine WW.tableIn (tgt := 990) (off := 946) rfl (by decide +kernel) (by decide +kernel) (by decide +kernel) rfl ?_
    exact lK14 hL hi hlen hkc hks (cO_lampCount hO hWf) (fun w1 t hm => mQ_lampCount hm hWf) (nx _ _ _ _ _ _ _ _ _ hsame)
  rcases Nat.lt_or_ge k 16 with e15 | e15
  · obtain rfl : k = 15 := by omega
    refine WW.tableIn (tgt := 1003) (off := 959) rfl (by decide +kernel) (by decide +kernel) (by decide +kernel) rfl ?_
    exact lK15 hL hi hlen hkc hks (cO_level hO hWf (G.2.2.2.2.2.2.2 (i + 1))) (rOk_b (by decide)) (fun w1 t hm => mQ_level hm hWf (G.2.2.2.2.2.2.2 (i + 1))) (nx _ _ _ _ _ _ _ _ _ hsame)
  rcases Nat.lt_or_ge k 17 with e16 | e16
  · obtain rfl : k = 16 := by omega
    refine WW.tableIn (tgt := 1059) (off := 1015) rfl (by decide +kernel) (by decide +kernel) (by decide +kernel) rfl ?_
    exact lK16 hL hi hlen hkc hks (cO_isLeased hO hWf (G.2.2.2.2.2.2.2 (i + 1))) (fun w1 t hm => mQ_isLeased hm hWf (G.2.2.2.2.2.2.2 (i + 1))) (nx _ _ _ _ _ _ _ _ _ hsame)
  rcases Nat.lt_or_ge k 18 with e17 | e17
  · obtain rfl : k = 17 := by omega
    refine WW.tableIn (tgt := 1122) (off := 1078) rfl (by decide +kernel) (by decide +kernel) (by decide +kernel) rfl ?_
    exact lK17 hL hi hlen hkc hks (cO_lessee hO hWf (G.2.2.2.2.2.2.2 (i + 1))) rOk_bb (fun w1 t hm => mQ_lessee hm hWf (G.2.2.2.2.2.2.2 (i + 1))) (nx _ _ _ _ _ _ _ _ _ hsame)
  rcases Nat.lt_or_ge k 19 with e18 | e18
  · obtain rfl : k = 18 := by omega
    refine WW.tableIn (tgt := 1178) (off := 1134) rfl (by decide +kernel) (by decide +kernel) (by decide +kernel) rfl ?_
    exact lK18 hL hi hlen hkc hks (cO_endHour hO hWf (G.2.2.2.2.2.2.2 (i + 1))) rOk_bb (fun w1 t hm => mQ_endHour hm hWf (G.2.2.2.2.2.2.2 (i + 1))) (nx _ _ _ _ _ _ _ _ _ hsame)
  rcases Nat.lt_or_ge k 20 with e19 | e19
  · obtain rfl : k = 19 := by omega
    refine WW.tableIn (tgt := 1234) (off := 1190) rfl (by decide +kernel) (by decide +kernel) (by decide +kernel) rfl ?_
    exact lK19 hL hi hlen hkc hks (cO_brightHours hO hWf (G.2.2.2.2.2.2.2 (i + 1))) (rOk_b (by decide)) (fun w1 t hm => mQ_brightHours hm hWf (G.2.2.2.2.2.2.2 (i + 1))) (nx _ _ _ _ _ _ _ _ _ hsame)
  rcases Nat.lt_or_ge k 21 with e20 | e20
  · obtain rfl : k = 20 := by omega
    refine WW.tableIn (tgt := 1290) (off := 1246) rfl (by decide +kernel) (by decide +kernel) (by decide +kernel) rfl ?_
    exact lK20 hL hi hlen hkc hks (cO_wasBright hO hWf (G.2.2.2.2.2.2.2 (i + 1))) (fun w1 t hm => mQ_wasBright hm hWf (G.2.2.2.2.2.2.2 (i + 1))) (nx _ _ _ _ _ _ _ _ _ hsame)
  rcases Nat.lt_or_ge k 22 with e21 | e21
  · obtain rfl : k = 21 := by omega
    refine WW.tableIn (tgt := 1353) (off := 1309) rfl (by decide +kernel) (by decide +kernel) (by decide +kernel) rfl ?_
    exact lK21 hL hi hlen hkc hks (cO_leasedLamps hO hWf) (fun w1 t hm => mQ_leasedLamps hm hWf) (nx _ _ _ _ _ _ _ _ _ hsame)
  rcases Nat.lt_or_ge k 23 with e22 | e22
  · obtain rfl : k = 22 := by omega
    refine WW.tableIn (tgt := 1366) (off := 1322) rfl (by decide +kernel) (by decide +kernel) (by decide +kernel) rfl ?_
    exact lK22 hL hi hlen hkc hks (cO_oil hO hWf) (fun w1 t hm => mQ_oil hm hWf) (nx _ _ _ _ _ _ _ _ _ hsame)
  rcases Nat.lt_or_ge k 24 with e23 | e23
  · obtain rfl : k = 23 := by omega
    refine WW.tableIn (tgt := 1379) (off := 1335) rfl (by decide +kernel) (by decide +kernel) (by decide +kernel) rfl ?_
    exact lK23 hL hi hlen hkc hks (cO_consumption hO hWf) (fun w1 t hm => mQ_consumption hm hWf) (nx _ _ _ _ _ _ _ _ _ hsame)
  rcases Nat.lt_or_ge k 25 with e24 | e24
  · obtain rfl : k = 24 := by omega
    refine WW.tableIn (tgt := 1392) (off := 1348) rfl (by decide +kernel) (by decide +kernel) (by decide +kernel) rfl ?_
    exact lK24 hL hi hlen hkc hks (r := oR (cur.darkM 600 0)) (by rw [← b1]; exact cO_hoursOfOil hO hWf hE) (rOk_oR (by decide)) (fun w1 t hm => mQ_hoursOfOil hm hWf hE) (nx _ _ _ _ _ _ _ _ _ hsame)
  rcases Nat.lt_or_ge k 26 with e25 | e25
  · obtain rfl : k = 25 := by omega
    refine WW.tableIn (tgt := 1436) (off := 1392) rfl (by decide +kernel) (by decide +kernel) (by decide +kernel) rfl ?_
    exact lK25 hL hi hlen hkc hks (r := oR (cur.darkM 600 0)) (by rw [← b2]; exact cO_byEnds hO hWf hA1 mm hB1 hm1) (rOk_oR (by decide)) (fun w1 t hm => mQ_hoursOfOilByEnds hm hWf hE) (nx _ _ _ _ _ _ _ _ _ hsame)
  rcases Nat.lt_or_ge k 27 with e26 | e26
  · obtain rfl : k = 26 := by omega
    refine WW.tableIn (tgt := 1480) (off := 1436) rfl (by decide +kernel) (by decide +kernel) (by decide +kernel) rfl ?_
    exact lK26 hL hi hlen hkc hks (cO_brightNext hO hWf) (fun w1 t hm => mQ_brightNext hm hWf) (nx _ _ _ _ _ _ _ _ _ hsame)
  rcases Nat.lt_or_ge k 28 with e27 | e27
  · obtain rfl : k = 27 := by omega
    refine WW.tableIn (tgt := 1493) (off := 1449) rfl (by decide +kernel) (by decide +kernel) (by decide +kernel) rfl ?_
    exact lK27 hL hi hlen hkc hks (cO_most hO hWf) (fun w1 t hm => mQ_mostBright hm hWf) (nx _ _ _ _ _ _ _ _ _ hsame)
  rcases Nat.lt_or_ge k 29 with e28 | e28
  · obtain rfl : k = 28 := by omega
    refine WW.tableIn (tgt := 1506) (off := 1462) rfl (by decide +kernel) (by decide +kernel) (by decide +kernel) rfl ?_
    exact lK28 hL hi hlen hkc hks (cO_sums hO hWf hlv) (fun w1 t hm => by rw [b3]; exact mQ_mostBrightBySums hm hWf) (nx _ _ _ _ _ _ _ _ _ hsame)
  rcases Nat.lt_or_ge k 30 with e29 | e29
  · obtain rfl : k = 29 := by omega
    refine WW.tableIn (tgt := 1519) (off := 1475) rfl (by decide +kernel) (by decide +kernel) (by decide +kernel) rfl ?_
    exact lK29 hL hi hlen hkc hks (by have h := cO_share (l := l) hO hWf (G.2.2.2.2.2.2.2 (i + 1)) hSL hSL2 hSL3; rw [shq hWf hSh] at h; exact h) (rOk_b (by decide)) (fun w1 t hm => mQ_share hm hWf hQr (G.2.2.2.2.2.2.2 (i + 1))) (nx _ _ _ _ _ _ _ _ _ hsame)
  rcases Nat.lt_or_ge k 31 with e30 | e30
  · obtain rfl : k = 30 := by omega
    refine WW.tableIn (tgt := 1575) (off := 1531) rfl (by decide +kernel) (by decide +kernel) (by decide +kernel) rfl ?_
    exact lK30 hL hi hlen hkc hks (cO_byRank hO hWf (G.2.2.2.2.2.2.2 (i + 1))) (rOk_b (by decide)) (fun w1 t hm => mQ_shareByRank hm hWf hQr (G.2.2.2.2.2.2.2 (i + 1))) (nx _ _ _ _ _ _ _ _ _ hsame)
  rcases Nat.lt_or_ge k 32 with e31 | e31
  · obtain rfl : k = 31 := by omega
    refine WW.tableIn (tgt := 1631) (off := 1587) rfl (by decide +kernel) (by decide +kernel) (by decide +kernel) rfl ?_
    exact lK31 hL hi hlen hkc hks (cO_requestCount hO hWf) (fun w1 t hm => mQ_requestCount hm hWf) (nx _ _ _ _ _ _ _ _ _ hsame)
  rcases Nat.lt_or_ge k 33 with e32 | e32
  · obtain rfl : k = 32 := by omega
    refine WW.tableIn (tgt := 1644) (off := 1600) rfl (by decide +kernel) (by decide +kernel) (by decide +kernel) rfl ?_
    exact lK32 hL hi hlen hkc hks (cO_requestedLamp hO hWf (G.2.2.2.2.2.2.2 (i + 1))) (rOk_b (by decide)) (fun w1 t hm => mQ_requestedLamp hm hWf (G.2.2.2.2.2.2.2 (i + 1))) (nx _ _ _ _ _ _ _ _ _ hsame)
  rcases Nat.lt_or_ge k 34 with e33 | e33
  · obtain rfl : k = 33 := by omega
    refine WW.tableIn (tgt := 1700) (off := 1656) rfl (by decide +kernel) (by decide +kernel) (by decide +kernel) rfl ?_
    exact lK33 hL hi hlen hkc hks (cO_requestedHours hO hWf (G.2.2.2.2.2.2.2 (i + 1))) (rOk_b (by decide)) (fun w1 t hm => mQ_requestedHours hm hWf (G.2.2.2.2.2.2.2 (i + 1))) (nx _ _ _ _ _ _ _ _ _ hsame)
  rcases Nat.lt_or_ge k 35 with e34 | e34
  · obtain rfl : k = 34 := by omega
    refine WW.tableIn (tgt := 1756) (off := 1712) rfl (by decide +kernel) (by decide +kernel) (by decide +kernel) rfl ?_
    exact lK34 hL hi hlen hkc hks (cO_refusedRenewals hO hWf) (fun w1 t hm => mQ_refusedRenewals hm hWf) (nx _ _ _ _ _ _ _ _ _ hsame)
  rcases Nat.lt_or_ge k 36 with e35 | e35
  · obtain rfl : k = 35 := by omega
    refine WW.tableIn (tgt := 1769) (off := 1725) rfl (by decide +kernel) (by decide +kernel) (by decide +kernel) rfl ?_
    exact lK35 hL hi hlen hkc hks (cO_officeCoins hO hWf) (fun w1 t hm => mQ_officeCoins hm hWf) (nx _ _ _ _ _ _ _ _ _ hsame)
  rcases Nat.lt_or_ge k 37 with e36 | e36
  · obtain rfl : k = 36 := by omega
    refine WW.tableIn (tgt := 1782) (off := 1738) rfl (by decide +kernel) (by decide +kernel) (by decide +kernel) rfl ?_
    exact lK36 hL hi hlen hkc hks (r := bif cur.ixS (G.2.2.2.2.2.2.2 (i + 1)) then .inr (.int (cur.lastF (G.2.2.2.2.2.2.2 (i + 1)))) else .inl 1) (by rw [← b4]; exact cO_byFines hO hWf (G.2.2.2.2.2.2.2 (i + 1))) (rOk_b (by decide)) (fun w1 t hm => mQ_shipByFines hm hWf hSB (G.2.2.2.2.2.2.2 (i + 1))) (nx _ _ _ _ _ _ _ _ _ hsame)
  rcases Nat.lt_or_ge k 38 with e37 | e37
  · obtain rfl : k = 37 := by omega
    refine WW.tableIn (tgt := 1838) (off := 1794) rfl (by decide +kernel) (by decide +kernel) (by decide +kernel) rfl ?_
    exact lK37 hL hi hlen hkc hks (r := bif inR (G.2.2.2.2.2.2.2 (i + 1)) (nI 0) (cur.leased - nI 1) then .inr (.int (cur.lastL (G.2.2.2.2.2.2.2 (i + 1)))) else .inl 1) (by rw [← b5]; exact cO_byEnd hO hWf (G.2.2.2.2.2.2.2 (i + 1))) (rOk_b (by decide)) (fun w1 t hm => mQ_lampByEnd hm hWf hLB (G.2.2.2.2.2.2.2 (i + 1))) (nx _ _ _ _ _ _ _ _ _ hsame)
  rcases Nat.lt_or_ge k 39 with e38 | e38
  · obtain rfl : k = 38 := by omega
    refine WW.tableIn (tgt := 1894) (off := 1850) rfl (by decide +kernel) (by decide +kernel) (by decide +kernel) rfl ?_
    exact lK38 hL hi hlen hkc hks (r := bif Nat.blt 0 cur.ns then .inr (FP.ddiv (FP.i2d cur.coins) (FP.i2d (nI cur.ns))) else .inl 1) (by have h := cO_meanCoins (l := l) hO hWf hn1; rw [qD] at h; exact h) (fun p h => qP h) (fun w1 t hm => by have h := mQ_meanCoins (l := l) (G := G) hm hWf hn1; rw [qD] at h; exact h) (nx _ _ _ _ _ _ _ _ _ hsame)
  rcases Nat.lt_or_ge k 40 with e39 | e39
  · obtain rfl : k = 39 := by omega
    refine WW.tableIn (tgt := 1959) (off := 1915) rfl (by decide +kernel) (by decide +kernel) (by decide +kernel) rfl ?_
    exact lK39 hL hi hlen hkc hks (r := bif Nat.blt 0 cur.nl then .inr (FP.fdiv (FP.i2f cur.leased) (FP.i2f (nI cur.nl))) else .inl 1) (by have h := cO_leasedShare (l := l) hO hWf (fun q => (hn2 q).1); rw [qF] at h; exact h) (fun p h => qP h) (fun v h => qV2 hn2 h) (fun w1 t hm => by have h := mQ_leasedShare (l := l) (G := G) hm hWf (fun q => (hn2 q).1); rw [qF] at h; exact h) (nx _ _ _ _ _ _ _ _ _ hsame)
  rcases Nat.lt_or_ge k 41 with e40 | e40
  · obtain rfl : k = 40 := by omega
    refine WW.tableIn (tgt := 2025) (off := 1981) rfl (by decide +kernel) (by decide +kernel) (by decide +kernel) rfl ?_
    exact lK40 hL hi hlen hkc hks (cO_consistent hO hWf hlv hSL hSL2 hSL3 b3.symm hSh b6 b7) (fun w1 t hm => mQ_isConsistent hm hWf) (nx _ _ _ _ _ _ _ _ _ hsame)
  rcases Nat.lt_or_ge k 42 with e41 | e41
  · obtain rfl : k = 41 := by omega
    refine WW.tableIn (tgt := 2038) (off := 1994) rfl (by decide +kernel) (by decide +kernel) (by decide +kernel) rfl ?_
    by_cases e : n < 60
    · exact lK41 hL hi hlen hkc hks (rs := .inr (nI (n + 1))) (fun p h => nomatch h) (cur' := cur) (hn' := hn) (hist' := hist) (sv' := sv) (n' := n + 1) (ic' := va_up ic n (lChr (G.2.2.2.2.2.2.2 (i + 1)))) (J' := va_up J 0 (nI (n + 1))) (cO_feed hO hJ0 h60 _ (lChr_nar _)) (fun q w1 h => by obtain ⟨f, h⟩ := h; rw [if_pos e] at h; exact ⟨f, h.2, Or.inr ⟨_, h.1, rfl⟩⟩) rfl (fun w1 t hm => mQ_feed hm _ (lChr_nar _)) (fun w1 q w2 h => by obtain ⟨f, h⟩ := h; rw [if_pos e] at h; exact ⟨f, h.1, J, h.2, rfl, rfl, rfl⟩) (nx _ _ _ _ _ _ _ _ _ (hfeed _ e))
    · exact lK41 hL hi hlen hkc hks (rs := .inl 1) (fun p h => by cases h; decide) (cur' := cur) (hn' := hn) (hist' := hist) (sv' := sv) (n' := n) (ic' := ic) (J' := J) (cO_feed hO hJ0 h60 _ (lChr_nar _)) (fun q w1 h => by obtain ⟨f, h⟩ := h; rw [if_neg e] at h; exact ⟨f, h.1, Or.inl ⟨h.2, rfl⟩⟩) hJ0 (fun w1 t hm => mQ_feed hm _ (lChr_nar _)) (fun w1 q w2 h => by obtain ⟨f, h⟩ := h; rw [if_neg e] at h; exact ⟨f, h.1, J, h.2, rfl, rfl, rfl⟩) (nx _ _ _ _ _ _ _ _ _ hsame)
  rcases Nat.lt_or_ge k 43 with e42 | e42
  · obtain rfl : k = 42 := by omega
    refine WW.tableIn (tgt := 2096) (off := 2052) rfl (by decide +kernel) (by decide +kernel) (by decide +kernel) rfl ?_
    cases hk : kAll ic n with
    | inl e =>
      exact lK42 hL hi hlen hkc hks (rs := .inl 1) (fun p h => by cases h; decide) (cur' := cur) (hn' := hn) (hist' := hist) (sv' := sv) (n' := 0) (ic' := ic) (J' := va_up (va_up J 1 (nI e)) 0 (nI 0)) (cO_runCommands hO h8 h60 hJ0 hch hWf hkw) (fun q w1 h => by unfold oU at h; rw [hk] at h; exact ⟨h.1, h.2.2, Or.inl ⟨h.2.1, rfl⟩⟩) rfl (fun w1 t hm => mQ_runCommands hm hWf hWh hkw) (fun w1 q w2 h => by unfold mT mTK at h; rw [hk] at h; exact ⟨h.2.2, h.1, va_up J 1 (nI e), h.2.1, rfl, rfl, rfl⟩) (nx _ _ _ _ _ _ _ _ _ (hrun1 e hk))
    | inr cs =>
      cases hr : aRun cs 0 cur with
      | inl z =>
        exact lK42 hL hi hlen hkc hks (rs := .inl 2) (fun p h => by cases h; decide) (cur' := cur) (hn' := hn) (hist' := hist) (sv' := sv) (n' := 0) (ic' := ic) (J' := va_up (va_up (va_up J 2 (nI z.1)) 3 (rsN z.2)) 0 (nI 0)) (cO_runCommands hO h8 h60 hJ0 hch hWf hkw) (fun q w1 h => by unfold oU at h; rw [hk] at h; dsimp only at h; rw [hr] at h; exact ⟨h.1, h.2.2, Or.inr (Or.inl ⟨h.2.1, rfl⟩)⟩) rfl (fun w1 t hm => mQ_runCommands hm hWf hWh hkw) (fun w1 q w2 h => by unfold mT mTK at h; rw [hk] at h; dsimp only at h; unfold mE at h; rw [hr] at h; exact ⟨h.1, h.2.1, va_up (va_up J 2 (nI z.1)) 3 (rsN z.2), h.2.2, rfl, rfl, rfl⟩) (nx _ _ _ _ _ _ _ _ _ (hrun2 cs z hk hr))
      | inr T =>
        exact lK42 hL hi hlen hkc hks (rs := .inr (nI cs.length)) (fun p h => nomatch h) (cur' := T) (hn' := (tRec hn hist cur).1) (hist' := (tRec hn hist cur).2) (sv' := sv) (n' := 0) (ic' := ic) (J' := va_up J 0 (nI 0)) (cO_runCommands hO h8 h60 hJ0 hch hWf hkw) (fun q w1 h => by unfold oU at h; rw [hk] at h; dsimp only at h; rw [hr] at h; exact ⟨h.1, h.2.2, Or.inr (Or.inr ⟨_, h.2.1, rfl⟩)⟩) rfl (fun w1 t hm => mQ_runCommands hm hWf hWh hkw) (fun w1 q w2 h => by unfold mT mTK at h; rw [hk] at h; dsimp only at h; unfold mE at h; rw [hr] at h; exact ⟨h.1, h.2.1, J, h.2.2, rfl, rfl, rfl⟩) (nx _ _ _ _ _ _ _ _ _ (hrun3 cs T hk hr))
  rcases Nat.lt_or_ge k 44 with e43 | e43
  · obtain rfl : k = 43 := by omega
    refine WW.tableIn (tgt := 2140) (off := 2096) rfl (by decide +kernel) (by decide +kernel) (by decide +kernel) rfl ?_
    exact lK43 hL hi hlen hkc hks (cO_errorPosition hO) rOk_nb (fun w1 t hm => mQ_errorPosition hm hWf hj1) (nx _ _ _ _ _ _ _ _ _ hsame)
  rcases Nat.lt_or_ge k 45 with e44 | e44
  · obtain rfl : k = 44 := by omega
    refine WW.tableIn (tgt := 2184) (off := 2140) rfl (by decide +kernel) (by decide +kernel) (by decide +kernel) rfl ?_
    exact lK44 hL hi hlen hkc hks (cO_failedCommand hO) rOk_nb (fun w1 t hm => mQ_failedCommand hm hWf hj2) (nx _ _ _ _ _ _ _ _ _ hsame)
  rcases Nat.lt_or_ge k 46 with e45 | e45
  · obtain rfl : k = 45 := by omega
    refine WW.tableIn (tgt := 2228) (off := 2184) rfl (by decide +kernel) (by decide +kernel) (by decide +kernel) rfl ?_
    exact lK45 hL hi hlen hkc hks (cO_failureReason hO hj3) rOk_nb (fun w1 t hm => mQ_failureReason hm hWf hj2 hj3) (nx _ _ _ _ _ _ _ _ _ hsame)
  rcases Nat.lt_or_ge k 47 with e46 | e46
  · obtain rfl : k = 46 := by omega
    refine WW.tableIn (tgt := 2272) (off := 2228) rfl (by decide +kernel) (by decide +kernel) (by decide +kernel) rfl ?_
    exact lK46 hL hi hlen hkc hks (cO_writeLamps hO hWf hTx) (fun w1 t hm => mQ_writeLamps hm hWf hTx) (nx _ _ _ _ _ _ _ _ _ hwr)
  rcases Nat.lt_or_ge k 48 with e47 | e47
  · obtain rfl : k = 47 := by omega
    refine WW.tableIn (tgt := 2285) (off := 2241) rfl (by decide +kernel) (by decide +kernel) (by decide +kernel) rfl ?_
    exact lK47 hL hi hlen hkc hks (cO_outputChar hO hsm (by omega) (G.2.2.2.2.2.2.2 (i + 1))) (rOk_b (by decide)) (fun w1 t hm => mQ_outputChar hm (fun j hj => by obtain ⟨b, hb, e⟩ := hsm j hj; rw [show oc j = nI b from e]; exact chr_nar hb) (G.2.2.2.2.2.2.2 (i + 1))) (nx _ _ _ _ _ _ _ _ _ hsame)
  rcases Nat.lt_or_ge k 49 with e48 | e48
  · obtain rfl : k = 48 := by omega
    refine WW.tableIn (tgt := 2341) (off := 2297) rfl (by decide +kernel) (by decide +kernel) (by decide +kernel) rfl ?_
    exact lK48 hL hi hlen hkc hks (cO_undoCount hO) (fun w1 t hm => mQ_undoCount hm hWf) (nx _ _ _ _ _ _ _ _ _ hsame)
  rcases Nat.lt_or_ge k 50 with e49 | e49
  · obtain rfl : k = 49 := by omega
    refine WW.tableIn (tgt := 2354) (off := 2310) rfl (by decide +kernel) (by decide +kernel) (by decide +kernel) rfl ?_
    by_cases e : hn = 0
    · exact lK49 hL hi hlen hkc hks (rs := .inl 1) (fun p h => by cases h; decide) (cur' := cur) (hn' := hn) (hist' := hist) (sv' := sv) (n' := n) (ic' := ic) (J' := J) (cO_undo hO h8) (fun q w1 h => by obtain ⟨f, h⟩ := h; rw [if_pos e] at h; exact ⟨f, h.1, Or.inl ⟨h.2, rfl⟩⟩) hJ0 (fun w1 t hm => mQ_undo hm hWh) (fun w1 q w2 h => by obtain ⟨f, h⟩ := h; rw [if_pos e] at h; exact ⟨f, h.1, J, h.2, rfl, rfl, rfl⟩) (nx _ _ _ _ _ _ _ _ _ hsame)
    · exact lK49 hL hi hlen hkc hks (rs := .inr (nI (hn - 1))) (fun p h => nomatch h) (cur' := hist (hn - 1)) (hn' := hn - 1) (hist' := hist) (sv' := sv) (n' := n) (ic' := ic) (J' := J) (cO_undo hO h8) (fun q w1 h => by obtain ⟨f, h⟩ := h; rw [if_neg e] at h; exact ⟨f, h.2, Or.inr ⟨_, h.1, rfl⟩⟩) hJ0 (fun w1 t hm => mQ_undo hm hWh) (fun w1 q w2 h => by obtain ⟨f, h⟩ := h; rw [if_neg e] at h; exact ⟨f, h.1, J, h.2, rfl, rfl, rfl⟩) (nx _ _ _ _ _ _ _ _ _ (hun e))
  rcases Nat.lt_or_ge k 51 with e50 | e50
  · obtain rfl : k = 50 := by omega
    refine WW.tableIn (tgt := 2398) (off := 2354) rfl (by decide +kernel) (by decide +kernel) (by decide +kernel) rfl ?_
    exact lK50 hL hi hlen hkc hks (cO_save hO hWf) (fun w1 t hm => mQ_save hm hWf) (nx _ _ _ _ _ _ _ _ _ hsv)
  rcases Nat.lt_or_ge k 52 with e51 | e51
  · obtain rfl : k = 51 := by omega
    refine WW.tableIn (tgt := 2411) (off := 2367) rfl (by decide +kernel) (by decide +kernel) (by decide +kernel) rfl ?_
    cases sv with
    | none =>
      exact lK51 hL hi hlen hkc hks (rs := .inl 1) (fun p h => by cases h; decide) (cur' := cur) (hn' := hn) (hist' := hist) (sv' := none) (n' := n) (ic' := ic) (J' := J) (cO_restore hO hWs) (fun q w1 h => by obtain ⟨f, h⟩ := h; exact ⟨f, h.1, Or.inl ⟨h.2, rfl⟩⟩) hJ0 (fun w1 t hm => mQ_restN hm) (fun w1 q w2 h => by obtain ⟨f, h⟩ := h; exact ⟨f, h.1, J, h.2, rfl, rfl, rfl⟩) (nx _ _ _ _ _ _ _ _ _ hsame)
    | some T =>
      exact lK51 hL hi hlen hkc hks (rs := .inr (nI T.nl)) (fun p h => nomatch h) (cur' := T) (hn' := 0) (hist' := hist) (sv' := some T) (n' := n) (ic' := ic) (J' := J) (cO_restore hO hWs) (fun q w1 h => by obtain ⟨f, h⟩ := h; exact ⟨f, h.2, Or.inr ⟨_, h.1, rfl⟩⟩) hJ0 (fun w1 t hm => mQ_restS hm (hWs T rfl)) (fun w1 q w2 h => by obtain ⟨f, h⟩ := h; exact ⟨f, h.1, J, h.2, rfl, rfl, rfl⟩) (nx _ _ _ _ _ _ _ _ _ (hre T rfl))
  have hout : (nI k).toInt < 0 ∨ 51 < (nI k).toInt := Or.inr (by rw [nI_toInt (by omega)]; omega)
  refine WW.tableOut (tgt := 2455) rfl hout rfl ?_
  exact WW.less (by omega) (by omega) (nx _ _ _ _ _ _ _ _ _ hsame w hL)
end
