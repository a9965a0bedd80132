set_option maxRecDepth 100000
/-! ONE COMMAND -/
theorem yRows : tableOf MX8_command.hh = [⟨45, 55, 58, 126⟩, ⟨45, 55, 58, 128⟩, ⟨45, 55, 58, 130⟩, ⟨45, 55, 58, 132⟩, ⟨45, 55, 58, 134⟩] := rfl
theorem yOut30 : ∀ z ∈ tableOf MX8_command.hh, covers z 30 = false := by rw [yRows]; decide
theorem yOut42 : ∀ z ∈ tableOf MX8_command.hh, covers z 42 = false := by rw [yRows]; decide
theorem yOut70 : ∀ z ∈ tableOf MX8_command.hh, covers z 70 = false := by rw [yRows]; decide
section
variable {l : Launch} {G : wdG} {d mc ms : Nat} {Q : wdO → wdW → Prop}
theorem yCatch13 {kc ks q : Nat} {lv : List (Nat × Value)} {st : List Value} {w : wdW} (k : WW (l, G, MX8_command, d, mc, ms, Q) kc ks 58 lv [.ref q] w) : WX (l, G, MX8_command, d, mc, ms, Q) kc ks 52 lv st w (eN 13) q := by
  refine WX.catch_ [] ⟨45, 55, 58, 126⟩ [⟨45, 55, 58, 128⟩, ⟨45, 55, 58, 130⟩, ⟨45, 55, 58, 132⟩, ⟨45, 55, 58, 134⟩] "java/lang/IndexOutOfBoundsException" rfl (fun z hz => ?_) rfl (by decide) q1482 nq1062 k
  ·
    exact absurd hz List.not_mem_nil
theorem yCatch14 {kc ks q : Nat} {lv : List (Nat × Value)} {st : List Value} {w : wdW} (k : WW (l, G, MX8_command, d, mc, ms, Q) kc ks 58 lv [.ref q] w) : WX (l, G, MX8_command, d, mc, ms, Q) kc ks 52 lv st w (eN 14) q := by
  refine WX.catch_ [⟨45, 55, 58, 126⟩] ⟨45, 55, 58, 128⟩ [⟨45, 55, 58, 130⟩, ⟨45, 55, 58, 132⟩, ⟨45, 55, 58, 134⟩] "java/lang/IllegalArgumentException" rfl (fun z hz => ?_) rfl (by decide) q1483 nq816 k
  ·
    rcases List.mem_cons.mp hz with rfl | hz
    · exact Or.inr ⟨by decide, _, q1482, List.mem_of_getElem? (i := 18) rfl⟩
    exact absurd hz List.not_mem_nil
theorem yCatch15 {kc ks q : Nat} {lv : List (Nat × Value)} {st : List Value} {w : wdW} (k : WW (l, G, MX8_command, d, mc, ms, Q) kc ks 58 lv [.ref q] w) : WX (l, G, MX8_command, d, mc, ms, Q) kc ks 52 lv st w (eN 15) q := by
  refine WX.catch_ [⟨45, 55, 58, 126⟩, ⟨45, 55, 58, 128⟩] ⟨45, 55, 58, 130⟩ [⟨45, 55, 58, 132⟩, ⟨45, 55, 58, 134⟩] "java/lang/IllegalStateException" rfl (fun z hz => ?_) rfl (by decide) q1484 nq974 k
  ·
    rcases List.mem_cons.mp hz with rfl | hz
    · exact Or.inr ⟨by decide, _, q1482, List.mem_of_getElem? (i := 17) rfl⟩
    rcases List.mem_cons.mp hz with rfl | hz
    · exact Or.inr ⟨by decide, _, q1483, List.mem_of_getElem? (i := 9) rfl⟩
    exact absurd hz List.not_mem_nil
theorem yCatch16 {kc ks q : Nat} {lv : List (Nat × Value)} {st : List Value} {w : wdW} (k : WW (l, G, MX8_command, d, mc, ms, Q) kc ks 58 lv [.ref q] w) : WX (l, G, MX8_command, d, mc, ms, Q) kc ks 52 lv st w (eN 16) q := by
  refine WX.catch_ [⟨45, 55, 58, 126⟩, ⟨45, 55, 58, 128⟩, ⟨45, 55, 58, 130⟩] ⟨45, 55, 58, 132⟩ [⟨45, 55, 58, 134⟩] "java/util/NoSuchElementException" rfl (fun z hz => ?_) rfl (by decide) q1485 nq314 k
  ·
    rcases List.mem_cons.mp hz with rfl | hz
    · exact Or.inr ⟨by decide, _, q1482, List.mem_of_getElem? (i := 16) rfl⟩
    rcases List.mem_cons.mp hz with rfl | hz
    · exact Or.inr ⟨by decide, _, q1483, List.mem_of_getElem? (i := 8) rfl⟩
    rcases List.mem_cons.mp hz with rfl | hz
    · exact Or.inr ⟨by decide, _, q1484, List.mem_of_getElem? (i := 0) rfl⟩
    exact absurd hz List.not_mem_nil
theorem yCatch17 {kc ks q : Nat} {lv : List (Nat × Value)} {st : List Value} {w : wdW} (k : WW (l, G, MX8_command, d, mc, ms, Q) kc ks 58 lv [.ref q] w) : WX (l, G, MX8_command, d, mc, ms, Q) kc ks 52 lv st w (eN 17) q := by
  refine WX.catch_ [⟨45, 55, 58, 126⟩, ⟨45, 55, 58, 128⟩, ⟨45, 55, 58, 130⟩, ⟨45, 55, 58, 132⟩] ⟨45, 55, 58, 134⟩ [] "java/lang/UnsupportedOperationException" rfl (fun z hz => ?_) rfl (by decide) q1486 nq1110 k
  ·
    rcases List.mem_cons.mp hz with rfl | hz
    · exact Or.inr ⟨by decide, _, q1482, List.mem_of_getElem? (i := 20) rfl⟩
    rcases List.mem_cons.mp hz with rfl | hz
    · exact Or.inr ⟨by decide, _, q1483, List.mem_of_getElem? (i := 12) rfl⟩
    rcases List.mem_cons.mp hz with rfl | hz
    · exact Or.inr ⟨by decide, _, q1484, List.mem_of_getElem? (i := 4) rfl⟩
    rcases List.mem_cons.mp hz with rfl | hz
    · exact Or.inr ⟨by decide, _, q1485, List.mem_of_getElem? (i := 44) rfl⟩
    exact absurd hz List.not_mem_nil
theorem yCatch {ci : Nat} (h : 13 ≤ ci ∧ ci ≤ 17) {kc ks q : Nat} {lv : List (Nat × Value)} {st : List Value} {w : wdW} (k : WW (l, G, MX8_command, d, mc, ms, Q) kc ks 58 lv [.ref q] w) : WX (l, G, MX8_command, d, mc, ms, Q) kc ks 52 lv st w (eN ci) q := by
  obtain ⟨h1, h2⟩ := h
  rcases Nat.lt_or_ge ci 14 with e | e
  · obtain rfl : ci = 13 := by omega
    exact yCatch13 k
  rcases Nat.lt_or_ge ci 15 with e | e
  · obtain rfl : ci = 14 := by omega
    exact yCatch14 k
  rcases Nat.lt_or_ge ci 16 with e | e
  · obtain rfl : ci = 15 := by omega
    exact yCatch15 k
  rcases Nat.lt_or_ge ci 17 with e | e
  · obtain rfl : ci = 16 := by omega
    exact yCatch16 k
  obtain rfl : ci = 17 := by omega
  exact yCatch17 k
end
theorem kSkip_cons {ic : Nat → Int32} {n c p : Nat} {cs : List Nat} : kSkip ic n (c :: cs) p = bif kAt ic n p (nI c) (nI c) then kSkip ic n cs (p + 1) else .inl p := rfl
theorem kKw_le {ic : Nat → Int32} {n p : Nat} : kKw ic n p ≤ 6 := by
  unfold kKw
  repeat' split
  all_goals decide
theorem kEs_in {k p ci : Nat} (h : (kEs k)[p - 1]? = some ci) : 13 ≤ ci ∧ ci ≤ 17 := by
  have hm := List.mem_of_getElem? h
  have key : ∀ x ∈ kEs k, 13 ≤ x ∧ x ≤ 17 := by
    match k with
    | 0 => decide
    | 1 => decide
    | 2 => decide
    | 3 => decide
    | 4 => decide
    | 5 => decide
    | k + 6 => exact (by decide : ∀ x ∈ [13, 14, 15, 17], 13 ≤ x ∧ x ≤ 17)
  exact key _ hm
/-- the text of the command word k -/
theorem kSt {k : Nat} (h : k ≤ 6) : ∃ q : String × Nat × String × Int32 × Int32 × List Nat, wdSt[kSi k]? = some q ∧ q.2.2.2.2.2 = kB k := by
  match k, h with
  | 0, _ => exact ⟨_, rfl, rfl⟩
  | 1, _ => exact ⟨_, rfl, rfl⟩
  | 2, _ => exact ⟨_, rfl, rfl⟩
  | 3, _ => exact ⟨_, rfl, rfl⟩
  | 4, _ => exact ⟨_, rfl, rfl⟩
  | 5, _ => exact ⟨_, rfl, rfl⟩
  | 6, _ => exact ⟨_, rfl, rfl⟩
  | k + 7, h => omega
theorem kB_ok {k : Nat} (h : k ≤ 6) : (kB k).length ≤ 5 ∧ ∀ j, j < (kB k).length → (kB k).getD j 0 < 128 := by
  match k, h with
  | 0, _ => decide
  | 1, _ => decide
  | 2, _ => decide
  | 3, _ => decide
  | 4, _ => decide
  | 5, _ => decide
  | 6, _ => decide
  | k + 7, h => omega
section
variable {l : Launch} {G : wdG} {w : wdW} {o inp n pa p : Nat} {ic : Nat → Int32} {v u : kV} {lo a : Nat} {Z gs gl gr : Nat → Nat} {S : aS}
theorem sY_readNumbers (h : yI w o inp n ic) (hP : w.1 7 pa = some (.inl (yO o p v))) (hp : p ≤ 60) {k : Nat} (hk : k ≤ 6) : Sp l G MX8_readNumbers 10 6 72 [.ref pa, .ref (wdSa G (kSi k))] w (yA G o pa k (kArg ic n k p) w) := by
  match k, hk with
  | 0, _ => exact sY_readNumbers0 h hP hp
  | 1, _ => exact sY_readNumbers1 h hP hp
  | 2, _ => exact sY_readNumbers2 h hP hp
  | 3, _ => exact sY_readNumbers3 h hP hp
  | 4, _ => exact sY_readNumbers4 h hP hp
  | 5, _ => exact sY_readNumbers5 h hP hp
  | 6, _ => exact sY_readNumbers6 h hP hp
  | k + 7, h => omega
theorem sY_carryOut (hP : w.1 7 pa = some (.inl (yO o p u))) (hS : isS G w lo a Z gs gl gr S) (hW : aWf S) (hlw : lo ≤ w.2) {k : Nat} (hk : k ≤ 6) : Sp l G MX8_carryOut 10 1057 4998 [.ref pa, .ref a, .ref (wdSa G (kSi k))] w (yC G lo a (kEs k) (aDo k u S) w) := by
  match k, hk with
  | 0, _ => exact sY_carryOut0 hP hS hW hlw
  | 1, _ => exact sY_carryOut1 hP hS hW hlw
  | 2, _ => exact sY_carryOut2 hP hS hW hlw
  | 3, _ => exact sY_carryOut3 hP hS hW hlw
  | 4, _ => exact sY_carryOut4 hP hS hW hlw
  | 5, _ => exact sY_carryOut5 hP hS hW hlw
  | 6, _ => exact sY_carryOut6 hP hS hW hlw
  | k + 7, h => omega
/-- one command's end, with no state -/
def yK (G : wdG) (o pa : Nat) (r : Nat ⊕ (Nat × Nat × kV)) (w : wdW) : wdO → wdW → Prop := fun q w' => match r with
  | .inl e => yE G pa e w q w'
  | .inr z => q = .inl none ∧ ∃ u, kEq z.2.1 u z.2.2 ∧ w' = wPut w 7 pa (.inl (yO o z.1 u))
/-- .. with a state -/
def yL (G : wdG) (o pa lo a i : Nat) (z : Nat × Nat × kV) (S : aS) (w : wdW) : wdO → wdW → Prop := fun q w' => ((∀ b, b < lo → ∀ k, w'.1 k b = w.1 k b) ∧ w.2 ≤ w'.2) ∧ match aDo z.2.1 z.2.2 S with
  | .inl e => ∃ ci x b, (kEs z.2.1)[e - 1]? = some ci ∧ q = .inr (RX11, x) ∧ w'.1 9 x = some (.inl (wdEp11 G b (nI i))) ∧ w'.1 ci b = some (.inl []) ∧ x ≠ b
  | .inr y => q = .inl none ∧ (∃ u, w'.1 7 pa = some (.inl (yO o z.1 u))) ∧ ∃ Z gs gl gr, isS G w' lo a Z gs gl gr y.2

theorem sY_command0 (h : yI w o inp n ic) (hP : w.1 7 pa = some (.inl (yO o p v))) (hp : p ≤ n) (i : Int32) : Sp l G MX8_command 11 11 132 [.ref pa, .null, .int i] w (yK G o pa (kCmd ic n p) w) := by
  have hn60 := h.1.1
  have hkw : kKw ic n p ≤ 6 := kKw_le
  obtain ⟨q, hst, hqB⟩ := kSt hkw
  obtain ⟨hl5, hb8⟩ := kB_ok hkw
  obtain ⟨K, hK⟩ : ∃ z, z = kKw ic n p := ⟨_, rfl⟩
  have hKc : kCmd ic n p = (match kSkip ic n (kB K) p with
      | .inl e => .inl e
      | .inr p1 => match kArg ic n K p1 with
        | .inl e => .inl e
        | .inr (p2, v) => .inr (p2, K, v)) := by rw [hK]; rfl
  rw [← hK] at hkw hst hqB hl5 hb8
  rw [← hqB] at hl5 hb8
  refine Sp.ofH rfl (by decide +kernel) kX8_command (wd_le rfl) ?_
  refine WW.ok fun ok => ?_
  replace ok : wdOk G w := ok
  refine WW.run (pc' := 1) (lv' := [(0, .ref pa), (1, .null), (2, .int i)]) (st' := [.ref pa]) 1 rfl ?_
  refine WW.callV [] pa [] rfl mX8_108 (sY_keyword h hP (Nat.le_trans hp hn60)) (wdRecv.obj hP rfl) rfl rfl (wd_le rfl) (wd_le rfl) (wd_le rfl) (wd_le rfl) (fun o w' hq => ?_)
  obtain ⟨rfl, hw9⟩ := hq
  show WW _ _ _ 4 _ [.ref (wdSa G (kSi (kKw ic n p)))] _
  rw [hw9]
  clear hw9 w'
  rw [← hK]
  refine WW.run (pc' := 8) (lv' := [(4, .int (nI 0)), (3, .ref (wdSa G (kSi K))), (0, .ref pa), (1, .null), (2, .int i)]) (st' := []) 3 rfl ?_
  refine WW.pick (lv' := [(4, .int (nI 0)), (3, .ref (wdSa G (kSi K))), (0, .ref pa), (1, .null), (2, .int i)]) [0, 1, 2, 3, 4] rfl ?_
  refine WW.upW q.2.2.2.2.2.length (fun j => 11 - j) (fun j => 132 - 12 * j) (fun j => [(4, .int (nI j)), (3, .ref (wdSa G (kSi K))), (0, .ref pa), (1, .null), (2, .int i)]) (fun j x => x = wPut w 7 pa (.inl (yO o (p + j) v)) ∧ p + j ≤ n ∧ kSkip ic n ((kB K).drop j) (p + j) = kSkip ic n (kB K) p) (fun j x hj hI ih => ?_) (fun x hI => ?_) ⟨(wPut_self hP).symm, hp, rfl⟩
  · obtain ⟨rfl, hpj, hsk⟩ := hI
    have e1 : (wPut w 7 pa (.inl (yO o (p + j) v))).1 7 pa = some (.inl (yO o (p + j) v)) := wPut_same _ _ _ _
    have hI1 := h.put (pa := pa) (p := .inl (yO o (p + j) v))
    have hc8 := hb8 j hj
    refine WW.run (pc' := 11) (lv' := [(4, .int (nI j)), (3, .ref (wdSa G (kSi K))), (0, .ref pa), (1, .null), (2, .int i)]) (st' := [.ref (wdSa G (kSi K)), .int (nI j)]) 2 rfl ?_
    refine WW.callV [] (wdSa G (kSi K)) [.int (nI j)] rfl mX8_112 (sG_length hst) (wdRecv.str hst) rfl rfl (wd_le rfl) (wd_le rfl) (by omega) (by omega) (fun o w' hq => ?_)
    obtain ⟨rfl, hw9⟩ := hq
    show WW _ _ _ 14 _ [.int (nI q.2.2.2.2.2.length), .int (nI j)] _
    rw [hw9]
    clear hw9 w'
    refine WW.icmp_ge (tgt := 40) rfl rfl (fun hno => absurd hno (nI_ge hj (by omega))) (fun _ => ?_)
    refine WW.run (pc' := 21) (lv' := [(4, .int (nI j)), (3, .ref (wdSa G (kSi K))), (0, .ref pa), (1, .null), (2, .int i)]) (st' := [.int (nI j), .ref (wdSa G (kSi K)), .ref pa]) 3 rfl ?_
    refine WW.callV [.int (nI j)] (wdSa G (kSi K)) [.ref pa] rfl mX8_115 (sG_charAt hst hj (by omega) hc8) (wdRecv.str hst) rfl rfl (wd_le rfl) (wd_le rfl) (by omega) (by omega) (fun o w' hq => ?_)
    obtain ⟨rfl, hw9⟩ := hq
    show WW _ _ _ 24 _ [.int (nI (q.2.2.2.2.2.getD j 0)), .ref pa] _
    rw [hw9]
    clear hw9 w'
    refine WW.run (pc' := 27) (lv' := [(4, .int (nI j)), (3, .ref (wdSa G (kSi K))), (0, .ref pa), (1, .null), (2, .int i)]) (st' := [.int (nI j), .ref (wdSa G (kSi K)), .int (nI (q.2.2.2.2.2.getD j 0)), .ref pa]) 2 rfl ?_
    refine WW.callV [.int (nI j)] (wdSa G (kSi K)) [.int (nI (q.2.2.2.2.2.getD j 0)), .ref pa] rfl mX8_115 (sG_charAt hst hj (by omega) hc8) (wdRecv.str hst) rfl rfl (wd_le rfl) (wd_le rfl) (by omega) (by omega) (fun o w' hq => ?_)
    obtain ⟨rfl, hw9⟩ := hq
    show WW _ _ _ 30 _ [.int (nI (q.2.2.2.2.2.getD j 0)), .int (nI (q.2.2.2.2.2.getD j 0)), .ref pa] _
    rw [hw9]
    clear hw9 w'
    refine WW.callV [.int (nI (q.2.2.2.2.2.getD j 0)), .int (nI (q.2.2.2.2.2.getD j 0))] pa [] rfl mX8_39 (sY_next hI1 e1 (by omega) (nI (q.2.2.2.2.2.getD j 0)) (nI (q.2.2.2.2.2.getD j 0))) (wdRecv.obj e1 rfl) rfl rfl (wd_le rfl) (wd_le rfl) (by omega) (by omega) (fun o w' hq => ?_)
    have hdr : (kB K).drop j = q.2.2.2.2.2.getD j 0 :: (kB K).drop (j + 1) := by
      rw [← hqB, List.drop_eq_getElem_cons hj, List.getD_eq_getElem?_getD, List.getElem?_eq_getElem hj]; rfl
    rw [hdr] at hsk
    rw [kSkip_cons] at hsk
    cases hc : kAt ic n (p + j) (nI (q.2.2.2.2.2.getD j 0)) (nI (q.2.2.2.2.2.getD j 0)) with
    | false =>
      rw [hc] at hq hsk
      obtain ⟨x, g1, rfl, g3, g4⟩ := yE.put hq
      have er : kCmd ic n p = .inl (p + j) := by rw [hKc, ← hsk]; rfl
      show WX _ _ _ 30 _ [] _ _ _
      rw [er]
      exact WX.out yOut30 ⟨x, g1, rfl, g3, g4⟩
    | true =>
      rw [hc] at hq hsk
      obtain ⟨rfl, hw9⟩ := hq
      rw [wPut_put] at hw9
      show WW _ _ _ 33 _ [.int (ic (p + j))] _
      rw [hw9]
      clear hw9 w'
      have hlt := kAt_lt hc
      refine WW.run (pc' := 8) (lv' := [(4, .int ((nI j) + nI 1)), (3, .ref (wdSa G (kSi K))), (0, .ref pa), (1, .null), (2, .int i)]) (st' := []) 3 rfl ?_
      refine WW.pick (lv' := [(4, .int ((nI j) + nI 1)), (3, .ref (wdSa G (kSi K))), (0, .ref pa), (1, .null), (2, .int i)]) [0, 1, 2, 3, 4] rfl ?_
      rw [nI_add]
      exact WW.less (by omega) (by omega) (ih _ ⟨rfl, hlt, hsk⟩)
  obtain ⟨rfl, hpj, hsk⟩ := hI
  have hdr : (kB K).drop q.2.2.2.2.2.length = [] := by rw [← hqB]; exact List.drop_eq_nil_of_le (Nat.le_refl _)
  rw [hdr] at hsk
  have hsk : kSkip ic n (kB K) p = .inr (p + q.2.2.2.2.2.length) := hsk.symm
  rw [hsk] at hKc
  dsimp only at hKc
  obtain ⟨p1, hp1⟩ : ∃ z, z = p + q.2.2.2.2.2.length := ⟨_, rfl⟩
  rw [← hp1] at hKc hpj ⊢
  have e1 : (wPut w 7 pa (.inl (yO o p1 v))).1 7 pa = some (.inl (yO o p1 v)) := wPut_same _ _ _ _
  have hI1 := h.put (pa := pa) (p := .inl (yO o p1 v))
  refine WW.run (pc' := 11) (lv' := [(4, .int (nI q.2.2.2.2.2.length)), (3, .ref (wdSa G (kSi K))), (0, .ref pa), (1, .null), (2, .int i)]) (st' := [.ref (wdSa G (kSi K)), .int (nI q.2.2.2.2.2.length)]) 2 rfl ?_
  refine WW.callV [] (wdSa G (kSi K)) [.int (nI q.2.2.2.2.2.length)] rfl mX8_112 (sG_length hst) (wdRecv.str hst) rfl rfl (wd_le rfl) (wd_le rfl) (by omega) (by omega) (fun o w' hq => ?_)
  obtain ⟨rfl, hw9⟩ := hq
  show WW _ _ _ 14 _ [.int (nI q.2.2.2.2.2.length), .int (nI q.2.2.2.2.2.length)] _
  rw [hw9]
  clear hw9 w'
  refine WW.icmp_ge (tgt := 40) rfl rfl (fun _ => ?_) (fun hno => absurd (nI_le (Nat.le_refl _) (by omega)) hno)
  refine WW.run (pc' := 42) (lv' := [(4, .int (nI q.2.2.2.2.2.length)), (3, .ref (wdSa G (kSi K))), (0, .ref pa), (1, .null), (2, .int i)]) (st' := [.ref (wdSa G (kSi K)), .ref pa]) 2 rfl ?_
  refine WW.callV [.ref (wdSa G (kSi K))] pa [] rfl mX8_118 (sY_readNumbers hI1 e1 (by omega) hkw) (wdRecv.obj e1 rfl) rfl rfl (wd_le rfl) (wd_le rfl) (by omega) (by omega) (fun o w' hq => ?_)
  cases hr : kArg ic n K p1 with
  | inl e =>
    rw [hr] at hq hKc
    obtain ⟨x, g1, rfl, g3, g4⟩ := yE.put hq
    show WX _ _ _ 42 _ [] _ _ _
    rw [hKc]
    exact WX.out yOut42 ⟨x, g1, rfl, g3, g4⟩
  | inr z2 =>
    obtain ⟨p2, v2⟩ := z2
    rw [hr] at hq hKc
    obtain ⟨rfl, u, hu, hw9⟩ := hq
    rw [wPut_put] at hw9
    dsimp only at hw9 hu hKc
    show WW _ _ _ 45 _ [] _
    rw [hw9]
    clear hw9 w'
    refine WW.aloadN 1 rfl ⟨rfl, rfl⟩ ?_
    refine WW.ifnullN (tgt := 55) rfl rfl ?_
    refine WW.run (pc' := 71) (lv' := [(4, .int (nI q.2.2.2.2.2.length)), (3, .ref (wdSa G (kSi K))), (0, .ref pa), (1, .null), (2, .int i)]) (st' := []) 1 rfl ?_
    rw [hKc]
    exact WW.vret rfl rfl ⟨rfl, u, hu, rfl⟩
theorem sY_commandS (h : yI w o inp n ic) (hP : w.1 7 pa = some (.inl (yO o p v))) (hp : p ≤ n) {z : Nat × Nat × kV} (hz : kCmd ic n p = .inr z) (hS : isS G w lo a Z gs gl gr S) (hW : aWf S) (hlw : lo ≤ w.2) (hpa : lo ≤ pa) (i : Nat) : Sp l G MX8_command 11 1069 5142 [.ref pa, .ref a, .int (nI i)] w (yL G o pa lo a i z S w) := by
  have hn60 := h.1.1
  have hkw : kKw ic n p ≤ 6 := kKw_le
  obtain ⟨q, hst, hqB⟩ := kSt hkw
  obtain ⟨hl5, hb8⟩ := kB_ok hkw
  obtain ⟨K, hK⟩ : ∃ z, z = kKw ic n p := ⟨_, rfl⟩
  have hKc : kCmd ic n p = (match kSkip ic n (kB K) p with
      | .inl e => .inl e
      | .inr p1 => match kArg ic n K p1 with
        | .inl e => .inl e
        | .inr (p2, v) => .inr (p2, K, v)) := by rw [hK]; rfl
  rw [← hK] at hkw hst hqB hl5 hb8
  rw [← hqB] at hl5 hb8
  refine Sp.ofH rfl (by decide +kernel) kX8_command (wd_le rfl) ?_
  refine WW.ok fun ok => ?_
  replace ok : wdOk G w := ok
  refine WW.run (pc' := 1) (lv' := [(0, .ref pa), (1, .ref a), (2, .int (nI i))]) (st' := [.ref pa]) 1 rfl ?_
  refine WW.callV [] pa [] rfl mX8_108 (sY_keyword h hP (Nat.le_trans hp hn60)) (wdRecv.obj hP rfl) rfl rfl (wd_le rfl) (wd_le rfl) (wd_le rfl) (wd_le rfl) (fun o w' hq => ?_)
  obtain ⟨rfl, hw9⟩ := hq
  show WW _ _ _ 4 _ [.ref (wdSa G (kSi (kKw ic n p)))] _
  rw [hw9]
  clear hw9 w'
  rw [← hK]
  refine WW.run (pc' := 8) (lv' := [(4, .int (nI 0)), (3, .ref (wdSa G (kSi K))), (0, .ref pa), (1, .ref a), (2, .int (nI i))]) (st' := []) 3 rfl ?_
  refine WW.pick (lv' := [(4, .int (nI 0)), (3, .ref (wdSa G (kSi K))), (0, .ref pa), (1, .ref a), (2, .int (nI i))]) [0, 1, 2, 3, 4] rfl ?_
  refine WW.upW q.2.2.2.2.2.length (fun j => 1069 - j) (fun j => 5142 - 12 * j) (fun j => [(4, .int (nI j)), (3, .ref (wdSa G (kSi K))), (0, .ref pa), (1, .ref a), (2, .int (nI i))]) (fun j x => x = wPut w 7 pa (.inl (yO o (p + j) v)) ∧ p + j ≤ n ∧ kSkip ic n ((kB K).drop j) (p + j) = kSkip ic n (kB K) p) (fun j x hj hI ih => ?_) (fun x hI => ?_) ⟨(wPut_self hP).symm, hp, rfl⟩
  · obtain ⟨rfl, hpj, hsk⟩ := hI
    have e1 : (wPut w 7 pa (.inl (yO o (p + j) v))).1 7 pa = some (.inl (yO o (p + j) v)) := wPut_same _ _ _ _
    have hI1 := h.put (pa := pa) (p := .inl (yO o (p + j) v))
    have hc8 := hb8 j hj
    refine WW.run (pc' := 11) (lv' := [(4, .int (nI j)), (3, .ref (wdSa G (kSi K))), (0, .ref pa), (1, .ref a), (2, .int (nI i))]) (st' := [.ref (wdSa G (kSi K)), .int (nI j)]) 2 rfl ?_
    refine WW.callV [] (wdSa G (kSi K)) [.int (nI j)] rfl mX8_112 (sG_length hst) (wdRecv.str hst) rfl rfl (wd_le rfl) (wd_le rfl) (by omega) (by omega) (fun o w' hq => ?_)
    obtain ⟨rfl, hw9⟩ := hq
    show WW _ _ _ 14 _ [.int (nI q.2.2.2.2.2.length), .int (nI j)] _
    rw [hw9]
    clear hw9 w'
    refine WW.icmp_ge (tgt := 40) rfl rfl (fun hno => absurd hno (nI_ge hj (by omega))) (fun _ => ?_)
    refine WW.run (pc' := 21) (lv' := [(4, .int (nI j)), (3, .ref (wdSa G (kSi K))), (0, .ref pa), (1, .ref a), (2, .int (nI i))]) (st' := [.int (nI j), .ref (wdSa G (kSi K)), .ref pa]) 3 rfl ?_
    refine WW.callV [.int (nI j)] (wdSa G (kSi K)) [.ref pa] rfl mX8_115 (sG_charAt hst hj (by omega) hc8) (wdRecv.str hst) rfl rfl (wd_le rfl) (wd_le rfl) (by omega) (by omega) (fun o w' hq => ?_)
    obtain ⟨rfl, hw9⟩ := hq
    show WW _ _ _ 24 _ [.int (nI (q.2.2.2.2.2.getD j 0)), .ref pa] _
    rw [hw9]
    clear hw9 w'
    refine WW.run (pc' := 27) (lv' := [(4, .int (nI j)), (3, .ref (wdSa G (kSi K))), (0, .ref pa), (1, .ref a), (2, .int (nI i))]) (st' := [.int (nI j), .ref (wdSa G (kSi K)), .int (nI (q.2.2.2.2.2.getD j 0)), .ref pa]) 2 rfl ?_
    refine WW.callV [.int (nI j)] (wdSa G (kSi K)) [.int (nI (q.2.2.2.2.2.getD j 0)), .ref pa] rfl mX8_115 (sG_charAt hst hj (by omega) hc8) (wdRecv.str hst) rfl rfl (wd_le rfl) (wd_le rfl) (by omega) (by omega) (fun o w' hq => ?_)
    obtain ⟨rfl, hw9⟩ := hq
    show WW _ _ _ 30 _ [.int (nI (q.2.2.2.2.2.getD j 0)), .int (nI (q.2.2.2.2.2.getD j 0)), .ref pa] _
    rw [hw9]
    clear hw9 w'
    refine WW.callV [.int (nI (q.2.2.2.2.2.getD j 0)), .int (nI (q.2.2.2.2.2.getD j 0))] pa [] rfl mX8_39 (sY_next hI1 e1 (by omega) (nI (q.2.2.2.2.2.getD j 0)) (nI (q.2.2.2.2.2.getD j 0))) (wdRecv.obj e1 rfl) rfl rfl (wd_le rfl) (wd_le rfl) (by omega) (by omega) (fun o w' hq => ?_)
    have hdr : (kB K).drop j = q.2.2.2.2.2.getD j 0 :: (kB K).drop (j + 1) := by
      rw [← hqB, List.drop_eq_getElem_cons hj, List.getD_eq_getElem?_getD, List.getElem?_eq_getElem hj]; rfl
    rw [hdr] at hsk
    rw [kSkip_cons] at hsk
    cases hc : kAt ic n (p + j) (nI (q.2.2.2.2.2.getD j 0)) (nI (q.2.2.2.2.2.getD j 0)) with
    | false =>
      rw [hc] at hq hsk
      obtain ⟨x, g1, rfl, g3, g4⟩ := yE.put hq
      have er : kCmd ic n p = .inl (p + j) := by rw [hKc, ← hsk]; rfl
      rw [er] at hz
      cases hz
    | true =>
      rw [hc] at hq hsk
      obtain ⟨rfl, hw9⟩ := hq
      rw [wPut_put] at hw9
      show WW _ _ _ 33 _ [.int (ic (p + j))] _
      rw [hw9]
      clear hw9 w'
      have hlt := kAt_lt hc
      refine WW.run (pc' := 8) (lv' := [(4, .int ((nI j) + nI 1)), (3, .ref (wdSa G (kSi K))), (0, .ref pa), (1, .ref a), (2, .int (nI i))]) (st' := []) 3 rfl ?_
      refine WW.pick (lv' := [(4, .int ((nI j) + nI 1)), (3, .ref (wdSa G (kSi K))), (0, .ref pa), (1, .ref a), (2, .int (nI i))]) [0, 1, 2, 3, 4] rfl ?_
      rw [nI_add]
      exact WW.less (by omega) (by omega) (ih _ ⟨rfl, hlt, hsk⟩)
  obtain ⟨rfl, hpj, hsk⟩ := hI
  have hdr : (kB K).drop q.2.2.2.2.2.length = [] := by rw [← hqB]; exact List.drop_eq_nil_of_le (Nat.le_refl _)
  rw [hdr] at hsk
  have hsk : kSkip ic n (kB K) p = .inr (p + q.2.2.2.2.2.length) := hsk.symm
  rw [hsk] at hKc
  dsimp only at hKc
  obtain ⟨p1, hp1⟩ : ∃ z, z = p + q.2.2.2.2.2.length := ⟨_, rfl⟩
  rw [← hp1] at hKc hpj ⊢
  have e1 : (wPut w 7 pa (.inl (yO o p1 v))).1 7 pa = some (.inl (yO o p1 v)) := wPut_same _ _ _ _
  have hI1 := h.put (pa := pa) (p := .inl (yO o p1 v))
  refine WW.run (pc' := 11) (lv' := [(4, .int (nI q.2.2.2.2.2.length)), (3, .ref (wdSa G (kSi K))), (0, .ref pa), (1, .ref a), (2, .int (nI i))]) (st' := [.ref (wdSa G (kSi K)), .int (nI q.2.2.2.2.2.length)]) 2 rfl ?_
  refine WW.callV [] (wdSa G (kSi K)) [.int (nI q.2.2.2.2.2.length)] rfl mX8_112 (sG_length hst) (wdRecv.str hst) rfl rfl (wd_le rfl) (wd_le rfl) (by omega) (by omega) (fun o w' hq => ?_)
  obtain ⟨rfl, hw9⟩ := hq
  show WW _ _ _ 14 _ [.int (nI q.2.2.2.2.2.length), .int (nI q.2.2.2.2.2.length)] _
  rw [hw9]
  clear hw9 w'
  refine WW.icmp_ge (tgt := 40) rfl rfl (fun _ => ?_) (fun hno => absurd (nI_le (Nat.le_refl _) (by omega)) hno)
  refine WW.run (pc' := 42) (lv' := [(4, .int (nI q.2.2.2.2.2.length)), (3, .ref (wdSa G (kSi K))), (0, .ref pa), (1, .ref a), (2, .int (nI i))]) (st' := [.ref (wdSa G (kSi K)), .ref pa]) 2 rfl ?_
  refine WW.callV [.ref (wdSa G (kSi K))] pa [] rfl mX8_118 (sY_readNumbers hI1 e1 (by omega) hkw) (wdRecv.obj e1 rfl) rfl rfl (wd_le rfl) (wd_le rfl) (by omega) (by omega) (fun o w' hq => ?_)
  cases hr : kArg ic n K p1 with
  | inl e =>
    rw [hr] at hq hKc
    obtain ⟨x, g1, rfl, g3, g4⟩ := yE.put hq
    rw [hKc] at hz
    cases hz
  | inr z2 =>
    obtain ⟨p2, v2⟩ := z2
    rw [hr] at hq hKc
    obtain ⟨rfl, u, hu, hw9⟩ := hq
    rw [wPut_put] at hw9
    dsimp only at hw9 hu hKc
    show WW _ _ _ 45 _ [] _
    rw [hw9]
    clear hw9 w'
    rw [hKc] at hz
    cases hz
    obtain ⟨w1, hw1⟩ : ∃ z, z = wPut w 7 pa (.inl (yO o p2 u)) := ⟨_, rfl⟩
    have fr1 : wFq pa w w1 := by rw [hw1]; exact (wFq.refl _ _).put
    have e2 : w1.1 7 pa = some (.inl (yO o p2 u)) := by rw [hw1]; exact wPut_same _ _ _ _
    have hS1 : isS G w1 lo a Z gs gl gr S := by rw [hw1]; exact hS.keepK (fun k b p hp hk => (wPut_k (by rcases hk with e | e | e | e | ⟨e, -⟩ | ⟨e, -⟩ <;> omega)).trans hp)
    rw [← hw1]
    refine WW.run (pc' := 46) (lv' := [(4, .int (nI q.2.2.2.2.2.length)), (3, .ref (wdSa G (kSi K))), (0, .ref pa), (1, .ref a), (2, .int (nI i))]) (st' := [.ref a]) 1 rfl ?_
    refine WW.ifnull rfl ?_
    refine WW.run (pc' := 52) (lv' := [(4, .int (nI q.2.2.2.2.2.length)), (3, .ref (wdSa G (kSi K))), (0, .ref pa), (1, .ref a), (2, .int (nI i))]) (st' := [.ref (wdSa G (kSi K)), .ref a, .ref pa]) 3 rfl ?_
    refine WW.callV [.ref a, .ref (wdSa G (kSi K))] pa [] rfl mX8_122 (sY_carryOut e2 hS1 hW (Nat.le_trans hlw fr1.2) hkw) (wdRecv.obj e2 rfl) rfl rfl (wd_le rfl) (wd_le rfl) (by omega) (by omega) (fun o w2 hq => ?_)
    rw [hu.do S] at hq
    have key : ∀ {w2 : wdW}, w1.2 ≤ w2.2 → (∀ b, b < w1.2 → ¬ lo ≤ b → ∀ k, w2.1 k b = w1.1 k b) → (∀ b, b < lo → ∀ k, w2.1 k b = w.1 k b) ∧ w.2 ≤ w2.2 := fun {w2} hz2 hf => ⟨fun b hb k => (hf b (Nat.lt_of_lt_of_le hb (Nat.le_trans hlw fr1.2)) (Nat.not_le_of_lt hb) k).trans (fr1.1 b (Nat.lt_of_lt_of_le hb hlw) (by omega) k), Nat.le_trans fr1.2 hz2⟩
    unfold yL
    dsimp only
    cases hD : aDo K v2 S with
    | inr y =>
      rw [hD] at hq
      obtain ⟨rfl, h5, h6⟩ := hq
      show WW _ _ _ 55 _ [] _
      refine WW.run (pc' := 71) (lv' := [(4, .int (nI q.2.2.2.2.2.length)), (3, .ref (wdSa G (kSi K))), (0, .ref pa), (1, .ref a), (2, .int (nI i))]) (st' := []) 1 rfl ?_
      exact WW.vret rfl rfl ⟨key h6.2 h6.1.1, rfl, ⟨u, by rw [h6.1.2]; exact e2⟩, h5⟩
    | inl e =>
      rw [hD] at hq
      obtain ⟨ci, h5, b, h6, rfl, h7, h8⟩ := hq
      show WX _ _ _ 52 _ [] _ _ _
      refine yCatch (kEs_in h5) ?_
      refine WW.ok fun ok => ?_
      replace ok : wdOk G w2 := ok
      refine WW.run (pc' := 60) (lv' := [(4, .ref b), (3, .ref (wdSa G (kSi K))), (0, .ref pa), (1, .ref a), (2, .int (nI i))]) (st' := []) 1 rfl ?_
      refine WW.new (fs := [.null, .null, .null, .null, .null, .int 0, .int 0]) rfl kX8_136 wdBl9 (by omega) (by omega) (fun x hx => ?_)
      have hb : (wNew w2 9 x (.inl [.null, .null, .null, .null, .null, .int 0, .int 0])).1 9 x = some (.inl [.null, .null, .null, .null, .null, .int 0, .int 0]) := wNew_same _ _ _ _
      refine WW.run (pc' := 67) (lv' := [(4, .ref b), (3, .ref (wdSa G (kSi K))), (0, .ref pa), (1, .ref a), (2, .int (nI i))]) (st' := [.ref b, .int (nI i), .ref x, .ref x]) 3 rfl ?_
      refine WW.callI [.int (nI i), .ref b] x [.ref x] rfl mX8_138 (sF_init11 hb (nI i)) rfl rfl (wd_le rfl) (wd_le rfl) (by omega) (by omega) (fun o w' hq => ?_)
      obtain ⟨rfl, hw9⟩ := hq
      show WW _ _ _ 70 _ [.ref x] _
      rw [hw9]
      clear hw9 w'
      rw [wNew_put]
      have h9 : (wNew w2 9 x (.inl (wdEp11 G b (nI i)))).1 9 x = some (.inl (wdEp11 G b (nI i))) := wNew_same _ _ _ _
      have hbx : b < w2.2 := (ok.1 _ _ _ h8).2
      refine WW.athrow rfl h9 rfl ?_
      refine WX.out yOut70 ⟨⟨fun b' hb' k => (wNew_ne (by have := h7.2; have := fr1.2; omega)).trans ((key h7.2 h7.1.1).1 b' hb' k), Nat.le_trans (key h7.2 h7.1.1).2 (by show w2.2 ≤ x + 1; omega)⟩, ?_⟩
      exact ⟨ci, x, b, h5, rfl, h9, (wNew_ne (by omega)).trans h8, by omega⟩
end
