set_option maxRecDepth 100000
/-! THE BUILDER -/
abbrev sbF (arr : Nat) (ml : Int32) (n : Nat) : List Value := [.ref arr, .int 0, .int ml, .int (nI n)]
abbrev bP (sb arr : Nat) : Nat → Prop := fun b => b = sb ∨ b = arr
/-- what a change of the builder's leaves: n signs oc -/
def bQ (sb arr n : Nat) (oc : Nat → Int32) (w w' : wdW) : Prop := ∃ arr', isB w' sb arr' n oc ∧ (arr' = arr ∨ w.2 ≤ arr') ∧ wFr (bP sb arr) w w'
section
variable {l : Launch} {G : wdG} {w : wdW} {sb arr n cap : Nat} {ml : Int32} {f oc : Nat → Int32}
theorem sB_isLatin1 (h : w.1 12 sb = some (.inl (sbF arr ml n))) : SpR l G MJ3_isLatin1 0 [.ref sb] w (.int (nI 1)) := by
  refine Sp.of rfl (by decide +kernel) kJ3_isLatin1 (wd_le rfl) ?_
  refine WW.gets rfl (List.mem_of_getElem? (i := 0) rfl) q187 ?_
  refine WW.if_eq (tgt := 17) rfl rfl (fun hno => absurd hno (by decide)) (fun _ => ?_)
  refine WW.run (pc' := 7) (lv' := [(0, .ref sb)]) (st' := [.ref sb]) 1 rfl ?_
  refine WW.get rfl fJ3_22_J4 h (show _ = some (.int 0) from rfl) ?_
  refine WW.if_ne (tgt := 17) rfl rfl (fun hno => absurd rfl hno) (fun _ => ?_)
  refine WW.run (pc' := 18) (lv' := [(0, .ref sb)]) (st' := [.int (nI 1)]) 2 rfl ?_
  exact WW.iret rfl rfl rfl ⟨rfl, rfl⟩
theorem sB_newCap (h : w.1 12 sb = some (.inl (sbF arr ml n))) (hA : w.1 34 arr = some (.inr (cap, .inl f))) (hc : cap < 2 ^ 18) {mn : Nat} (hm : mn < 2 ^ 18) (hlt : cap < mn) : SpR l G MJ3_newCapacity 2 [.ref sb, .int (nI mn)] w (.int (nI (cap + max (mn - cap) (cap + 2)))) := by
  refine Sp.of rfl (by decide +kernel) kJ3_newCapacity (wd_le rfl) ?_
  refine WW.run (pc' := 1) (lv' := [(0, .ref sb), (1, .int (nI mn))]) (st' := [.ref sb]) 1 rfl ?_
  refine WW.get rfl fJ3_15_J4 h (show _ = some (.ref arr) from rfl) ?_
  refine WW.alen (v := nI cap) 34 2 rfl rfl hA rfl ?_
  refine WW.run (pc' := 8) (lv' := [(2, .int (nI cap)), (0, .ref sb), (1, .int (nI mn))]) (st' := [.ref sb, .int (nI mn)]) 3 rfl ?_
  refine WW.get rfl fJ3_22_J4 h (show _ = some (.int 0) from rfl) ?_
  refine WW.run (pc' := 24) (lv' := [(4, .int (((nI mn) <<< (0 &&& 31)) - (nI cap))), (3, .int ((nI mn) <<< (0 &&& 31))), (2, .int (nI cap)), (0, .ref sb), (1, .int (nI mn))]) (st' := [.ref sb, .int (nI 2), .int (nI cap), .int (((nI mn) <<< (0 &&& 31)) - (nI cap)), .int (nI cap)]) 11 rfl ?_
  refine WW.get rfl fJ3_22_J4 h (show _ = some (.int 0) from rfl) ?_
  refine WW.run (pc' := 29) (lv' := [(4, .int (((nI mn) <<< (0 &&& 31)) - (nI cap))), (3, .int ((nI mn) <<< (0 &&& 31))), (2, .int (nI cap)), (0, .ref sb), (1, .int (nI mn))]) (st' := [.int ((nI cap) + ((nI 2) <<< (0 &&& 31))), .int (((nI mn) <<< (0 &&& 31)) - (nI cap)), .int (nI cap)]) 2 rfl ?_
  rw [i_shl0, (wn_sub rfl rfl (by omega) : nI mn - nI cap = nI (mn - cap)), show (nI 2 <<< ((0 : Int32) &&& 31)) = nI 2 from rfl, nI_add]
  refine WW.callS [.int (nI cap), .int (nI (mn - cap)), .int (nI (cap + 2))] [] rfl mJ3_114 (sK_newLength (show cap < 2 ^ 20 by omega) (show mn - cap < 2 ^ 20 by omega) (show cap + 2 < 2 ^ 20 by omega) (by omega)) rfl rfl (wd_le rfl) (wd_le rfl) (wd_le rfl) (wd_le rfl) (fun o w' hq => ?_)
  obtain ⟨rfl, hw9⟩ := hq
  show WW _ _ _ 32 _ [.int (nI (cap + max (mn - cap) (cap + 2)))] _
  rw [hw9]
  clear hw9 w'
  refine WW.run (pc' := 36) (lv' := [(5, .int (nI (cap + max (mn - cap) (cap + 2)))), (4, .int (nI (mn - cap))), (3, .int (nI mn)), (2, .int (nI cap)), (0, .ref sb), (1, .int (nI mn))]) (st' := [.int (nI (cap + max (mn - cap) (cap + 2)))]) 2 rfl ?_
  refine WW.ldcI rfl q668 ?_
  refine WW.icmp_ne (tgt := 51) rfl rfl (fun _ => ?_) (fun hno => absurd hno (by rw [show (2147483647 : Int32) = nI 2147483647 from rfl, nI_eq (by omega) (by decide)]; omega))
  refine WW.run (pc' := 54) (lv' := [(5, .int (nI (cap + max (mn - cap) (cap + 2)))), (4, .int (nI (mn - cap))), (3, .int (nI mn)), (2, .int (nI cap)), (0, .ref sb), (1, .int (nI mn))]) (st' := [.ref sb, .int (nI (cap + max (mn - cap) (cap + 2)))]) 2 rfl ?_
  refine WW.get rfl fJ3_22_J4 h (show _ = some (.int 0) from rfl) ?_
  refine WW.run (pc' := 58) (lv' := [(5, .int (nI (cap + max (mn - cap) (cap + 2)))), (4, .int (nI (mn - cap))), (3, .int (nI mn)), (2, .int (nI cap)), (0, .ref sb), (1, .int (nI mn))]) (st' := [.int ((nI (cap + max (mn - cap) (cap + 2))) >>> (0 &&& 31))]) 1 rfl ?_
  rw [i_shr0]
  exact WW.iret rfl rfl rfl ⟨rfl, rfl⟩
theorem sB_ensure (h : w.1 12 sb = some (.inl (sbF arr ml n))) (hA : w.1 34 arr = some (.inr (cap, .inl f))) (hn : n ≤ cap) (hc : cap < 400) (hb : ∀ j, j < cap → fits .byte (.int (f j)) = true) {mn : Nat} (hm : mn < 200) : Sp l G MJ3_ensureCapacityInternal 3 1 420 [.ref sb, .int (nI mn)] w (fun o w' => o = .inl none ∧ ∃ (arr' cap' : Nat) (f' : Nat → Int32), w'.1 12 sb = some (.inl (sbF arr' ml n)) ∧ w'.1 34 arr' = some (.inr (cap', .inl f')) ∧ mn ≤ cap' ∧ n ≤ cap' ∧ cap' < 400 ∧ (∀ j, j < cap' → fits .byte (.int (f' j)) = true) ∧ (∀ i, i < n → f' i = f i) ∧ (arr' = arr ∨ w.2 ≤ arr') ∧ wFr (bP sb arr) w w') := by
  refine Sp.of rfl (by decide +kernel) kJ3_ensureCapacityInternal (wd_le rfl) ?_
  refine WW.ok fun ok => ?_
  replace ok : wdOk G w := ok
  refine WW.run (pc' := 1) (lv' := [(0, .ref sb), (1, .int (nI mn))]) (st' := [.ref sb]) 1 rfl ?_
  refine WW.get rfl fJ3_15_J4 h (show _ = some (.ref arr) from rfl) ?_
  refine WW.alen (v := nI cap) 34 2 rfl rfl hA rfl ?_
  refine WW.run (pc' := 6) (lv' := [(0, .ref sb), (1, .int (nI mn))]) (st' := [.ref sb, .int (nI cap)]) 1 rfl ?_
  refine WW.get rfl fJ3_22_J4 h (show _ = some (.int 0) from rfl) ?_
  refine WW.run (pc' := 14) (lv' := [(2, .int ((nI cap) >>> (0 &&& 31))), (0, .ref sb), (1, .int (nI mn))]) (st' := [.int ((nI mn) - ((nI cap) >>> (0 &&& 31)))]) 5 rfl ?_
  rw [i_shr0]
  by_cases e : mn ≤ cap
  · skip
    refine WW.if_le (tgt := 38) rfl rfl (fun _ => ?_) (fun hno => absurd ((sub_le0 (by omega) (by omega)).mpr e) hno)
    exact WW.vret rfl rfl ⟨rfl, arr, cap, f, h, hA, e, hn, hc, hb, fun _ _ => rfl, Or.inl rfl, wFr.refl _ _⟩
  · skip
    have e2 : cap < mn := by omega
    refine WW.if_le (tgt := 38) rfl rfl (fun hno => absurd hno (fun q => e ((sub_le0 (by omega) (by omega)).mp q))) (fun _ => ?_)
    refine WW.run (pc' := 19) (lv' := [(2, .int (nI cap)), (0, .ref sb), (1, .int (nI mn))]) (st' := [.ref sb, .ref sb]) 2 rfl ?_
    refine WW.get rfl fJ3_15_J4 h (show _ = some (.ref arr) from rfl) ?_
    refine WW.run (pc' := 24) (lv' := [(2, .int (nI cap)), (0, .ref sb), (1, .int (nI mn))]) (st' := [.int (nI mn), .ref sb, .ref arr, .ref sb]) 2 rfl ?_
    have hcap : cap + max (mn - cap) (cap + 2) < 400 := by omega
    have hcap2 : cap < cap + max (mn - cap) (cap + 2) := by omega
    have hcap3 : mn ≤ cap + max (mn - cap) (cap + 2) := by omega
    refine WW.callP [.int (nI mn)] sb [.ref arr, .ref sb] rfl mJ3_104 (sB_newCap h hA (by omega) (mn := mn) (by omega) e2) (Or.inl ⟨12, _, _, h, rfl, rfl⟩) rfl rfl (wd_le rfl) (wd_le rfl) (wd_le rfl) (wd_le rfl) (fun o w' hq => ?_)
    obtain ⟨rfl, hw9⟩ := hq
    show WW _ _ _ 27 _ [.int (nI (cap + max (mn - cap) (cap + 2))), .ref arr, .ref sb] _
    rw [hw9]
    clear hw9 w'
    generalize cap + max (mn - cap) (cap + 2) = c2 at hcap hcap2 hcap3
    refine WW.run (pc' := 28) (lv' := [(2, .int (nI cap)), (0, .ref sb), (1, .int (nI mn))]) (st' := [.ref sb, .int (nI c2), .ref arr, .ref sb]) 1 rfl ?_
    refine WW.get rfl fJ3_22_J4 h (show _ = some (.int 0) from rfl) ?_
    refine WW.run (pc' := 32) (lv' := [(2, .int (nI cap)), (0, .ref sb), (1, .int (nI mn))]) (st' := [.int ((nI c2) <<< (0 &&& 31)), .ref arr, .ref sb]) 1 rfl ?_
    rw [i_shl0]
    refine WW.less (kc' := 1) (ks' := c2) (by omega) (by omega) ?_
    refine WW.callS [.ref arr, .int (nI c2)] [.ref sb] rfl mJ3_108 (sK_copyOf hA hcap2 (by omega) hb) rfl rfl (wd_le rfl) (wd_le rfl) (by omega) (by omega) (fun o w1 hq => ?_)
    obtain ⟨r, hr, rfl, hB, fr⟩ := hq
    show WW _ _ _ 35 _ [.ref r, .ref sb] _
    have h2 := fr.at ok h (fun z => z)
    have hne : r ≠ sb := by
      have := (ok.1 _ _ _ h).2
      omega
    refine WW.put [.ref r, .int 0, .int ml, .int (nI n)] rfl pfJ3_15_J4 h2 (wd_le rfl) rfl rfl rfl ?_
    have h3 : (wPut w1 12 sb (.inl [.ref r, .int 0, .int ml, .int (nI n)])).1 12 sb = some (.inl [.ref r, .int 0, .int ml, .int (nI n)]) := wPut_same _ _ _ _
    refine WW.vret rfl rfl ⟨rfl, r, c2, _, h3, (wPut_ne hne).trans hB, hcap3, by omega, hcap, fun j hj => ?_, fun j hj => ?_, Or.inr hr, ((fr.mono (fun _ _ z => z.elim)).put (Or.inl (Or.inl rfl)))⟩
    · by_cases q : j < cap
      · have := cpy_in f (fun _ => nI 0) (sp := 0) (dp := 0) q
        rw [Nat.zero_add] at this
        rw [this]
        exact hb j q
      · rw [cpy_out _ _ (Or.inr (by omega))]
        rfl
    · have := cpy_in f (fun _ => nI 0) (sp := 0) (dp := 0) (show j < cap by omega)
      rw [Nat.zero_add] at this
      exact this
end
