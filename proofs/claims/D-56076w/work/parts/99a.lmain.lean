set_option maxRecDepth 100000
theorem WW.newL {X : wdX} {kc ks pc : Nat} {lv : List (Nat × Value)} {rest : List Value} {w : wdW} (ht : X.M.tab pc = some (.newarray .long, 2)) (hc1 : 1 ≤ kc) (hs1 : 1 ≤ ks)
    (kk : ∀ q : Nat, w.2 ≤ q → WW X (kc - 1) (ks - 1) (pc + 2) lv (.ref q :: rest) (wNew w 35 q (.inr (1, .inr (.inl (fun _ => 0)))))) : WW X kc ks pc lv (.int (nI 1) :: rest) w :=
  WW.newa 35 3 .long (1, .inr (.inl (fun _ => 0))) ht rfl rfl (fun U cA h => h) q2184 (fun cA => rfl) (by decide) (nI_clamp (by decide)) (by decide) hc1 hs1 kk
theorem WW.newD {X : wdX} {kc ks pc : Nat} {lv : List (Nat × Value)} {rest : List Value} {w : wdW} (ht : X.M.tab pc = some (.newarray .double, 2)) (hc1 : 1 ≤ kc) (hs1 : 1 ≤ ks)
    (kk : ∀ q : Nat, w.2 ≤ q → WW X (kc - 1) (ks - 1) (pc + 2) lv (.ref q :: rest) (wNew w 36 q (.inr (1, .inr (.inr (.inr (.inl (fun _ => 0)))))))) : WW X kc ks pc lv (.int (nI 1) :: rest) w :=
  WW.newa 36 4 .double (1, .inr (.inr (.inr (.inl (fun _ => 0))))) ht rfl rfl (fun U cA h => h) q2185 (fun cA => rfl) (by decide) (nI_clamp (by decide)) (by decide) hc1 hs1 kk
section
variable {l : Launch} {G : wdG} {w : wdW} {o hl inp sb m : Nat} {A : Nat → Nat} {ou od : Nat} {mc ms : Nat} {P : lPr}
theorem lLoop (hC : lCl P) (hlen : G.2.2.2.2.2.2.1 ≤ 100) : ∀ (r c : Nat) (w : wdW) (cur : aS) (hn : Nat) (hist : Nat → aS) (sv : Option aS) (n : Nat) (ic : Nat → Int32) (on : Nat) (oc : Nat → Int32) (J : Nat → Int32), 4 * c + 4 * r ≤ G.2.2.2.2.2.2.1 → G.2.2.2.2.2.2.1 < 4 * c + 4 * r + 4 → P c cur hn hist sv n ic on oc J → lI G w o hl inp sb m A ou od cur hn hist sv n ic on oc J → WW (lX l G mc ms) (40000 * r) (200000 * r) 28 (lLV G (4 * c) o m ou od) [] w := by
  intro r
  induction r with
  | zero =>
    intro c w cur hn hist sv n ic on oc J h1 h2 hP hL
    refine WW.run (pc' := 31) (lv' := [(5, .int (nI (4 * c))), (4, .ref od), (3, .ref ou), (2, .ref m), (1, .ref o), (0, .ref (G.2.2.2.1 3))]) (st' := [.ref (G.2.2.2.1 3), .int (nI (4 * c))]) 2 rfl ?_
    refine WW.alenT rfl (List.mem_of_getElem? (i := 3) rfl) rfl ?_
    refine WW.run (pc' := 34) (lv' := [(5, .int (nI (4 * c))), (4, .ref od), (3, .ref ou), (2, .ref m), (1, .ref o), (0, .ref (G.2.2.2.1 3))]) (st' := [.int ((nI G.2.2.2.2.2.2.1) - (nI 4)), .int (nI (4 * c))]) 2 rfl ?_
    refine WW.icmp_gt (tgt := 2461) rfl rfl (fun _ => ?_) (fun hno => absurd ((len4 (by omega) (by omega)).mpr (by omega)) hno)
    refine WW.run (pc' := 2462) (lv' := [(5, .int (nI (4 * c))), (4, .ref od), (3, .ref ou), (2, .ref m), (1, .ref o), (0, .ref (G.2.2.2.1 3))]) (st' := [.int (nI 1)]) 1 rfl ?_
    exact WW.iret rfl rfl rfl rfl
  | succ r ih =>
    intro c w cur hn hist sv n ic on oc J h1 h2 hP hL
    refine WW.run (pc' := 31) (lv' := [(5, .int (nI (4 * c))), (4, .ref od), (3, .ref ou), (2, .ref m), (1, .ref o), (0, .ref (G.2.2.2.1 3))]) (st' := [.ref (G.2.2.2.1 3), .int (nI (4 * c))]) 2 rfl ?_
    refine WW.alenT rfl (List.mem_of_getElem? (i := 3) rfl) rfl ?_
    refine WW.run (pc' := 34) (lv' := [(5, .int (nI (4 * c))), (4, .ref od), (3, .ref ou), (2, .ref m), (1, .ref o), (0, .ref (G.2.2.2.1 3))]) (st' := [.int ((nI G.2.2.2.2.2.2.1) - (nI 4)), .int (nI (4 * c))]) 2 rfl ?_
    refine WW.icmp_gt (tgt := 2461) rfl rfl (fun hno => absurd hno (fun q => by have := (len4 (by omega) (by omega)).mp q; omega)) (fun _ => ?_)
    refine lBody (i := 4 * c) hC (by omega) hP hL (by omega) (by omega) (by omega) (by omega) (fun cur hn hist sv n ic on oc J hP' w9 hL9 => ?_)
    refine WW.run (pc' := 28) (lv' := [(5, .int (nI (4 * c) + nI 4)), (4, .ref od), (3, .ref ou), (2, .ref m), (1, .ref o), (0, .ref (G.2.2.2.1 3))]) (st' := []) 2 rfl ?_
    rw [nI_add]
    exact WW.less (by omega) (by omega) (ih (c + 1) w9 cur hn hist sv n ic on oc J (by omega) (by omega) hP' hL9)
theorem lLaw (hC : lCl P) (hlen : G.2.2.2.2.2.2.1 ≤ 100) (hP : P 0 aS0 0 (fun _ => aS0) none 0 (fun _ => nI 0) 0 (fun _ => nI 0) oI0) : Sp l G ML_law 20 1000100 5002000 [.ref (G.2.2.2.1 3)] w lQ := by
  refine Sp.of rfl (by decide +kernel) kL_law (wd_le rfl) ?_
  refine WW.ok fun ok => ?_
  replace ok : wdOk G w := ok
  refine WW.new (fs := [.null, .null, .null, .null, .int 0, .int 0, .int 0, .int 0, .null]) rfl kX0_8 wdBl0 (wd_le rfl) (wd_le rfl) (fun o ho => ?_)
  have hO0 : (wNew w 0 o (.inl [.null, .null, .null, .null, .int 0, .int 0, .int 0, .int 0, .null])).1 0 o = some (.inl [.null, .null, .null, .null, .int 0, .int 0, .int 0, .int 0, .null]) := wNew_same _ _ _ _
  refine WW.run (pc' := 4) (lv' := [(0, .ref (G.2.2.2.1 3))]) (st' := [.ref o, .ref o]) 1 rfl ?_
  refine WW.callI [] o [.ref o] rfl mX0_139 (cO_init hO0 (fun _ => aS0) (fun _ => nI 0)) rfl rfl (wd_le rfl) (wd_le rfl) (wd_le rfl) (wd_le rfl) (fun o w1 hq => ?_)
  obtain ⟨rfl, ⟨hl, inp, sb, hinp, hOf⟩, fr1⟩ := hq
  show WW _ _ _ 7 _ [.ref o] _
  refine WW.ok fun ok => ?_
  replace ok : wdOk G w1 := ok
  have ok1 := ok
  refine WW.run (pc' := 8) (lv' := [(1, .ref o), (0, .ref (G.2.2.2.1 3))]) (st' := []) 1 rfl ?_
  refine WW.new (fs := [.null, .null, .null, .null, .int 0, .null, .int 0, .int 0, .null, .int 0, .null, .int 0, .int 0, .int 0, .int 0, .int 0, .int 0, .null, .int 0]) rfl kX0_140 wdBl2 (wd_le rfl) (wd_le rfl) (fun m hm => ?_)
  have hM0 : (wNew w1 2 m (.inl [.null, .null, .null, .null, .int 0, .null, .int 0, .int 0, .null, .int 0, .null, .int 0, .int 0, .int 0, .int 0, .int 0, .int 0, .null, .int 0])).1 2 m = some (.inl [.null, .null, .null, .null, .int 0, .null, .int 0, .int 0, .null, .int 0, .null, .int 0, .int 0, .int 0, .int 0, .int 0, .int 0, .null, .int 0]) := wNew_same _ _ _ _
  have hO1 : isOf G (wNew w1 2 m (.inl wdB2)) o hl inp sb oI0 aS0 0 (fun _ => aS0) none (fun _ => nI 0) 0 (fun _ => nI 0) := hOf.fr0 ok ((wFr.refl _ _).new hm)
  refine WW.ok fun ok => ?_
  replace ok : wdOk G (wNew w1 2 m (.inl wdB2)) := ok
  refine WW.run (pc' := 12) (lv' := [(1, .ref o), (0, .ref (G.2.2.2.1 3))]) (st' := [.ref m, .ref m]) 1 rfl ?_
  refine WW.callI [] m [.ref m] rfl mX0_142 (sM_init hM0) rfl rfl (wd_le rfl) (wd_le rfl) (wd_le rfl) (wd_le rfl) (fun o w2 hq => ?_)
  obtain ⟨rfl, ⟨A, I, F, hM, hA, hF, i0, i1, i3, i4, i7, i8, i9⟩, fr2⟩ := hq
  show WW _ _ _ 15 _ [.ref m] _
  have hinp1 : inp < w1.2 := by
    obtain ⟨st, harr, hg, sva, sbarr, h⟩ := hOf
    exact (ok1.1 _ _ _ h.2.2.2.2.2.1).2
  have hO2 : isOf G w2 o hl inp sb oI0 aS0 0 (fun _ => aS0) none (fun _ => nI 0) 0 (fun _ => nI 0) := hO1.oldK (fun k b p hp hk => fr2.at ok hp (fun e => hk.1 (by subst e; exact ok.2.1 _ _ _ _ _ hp hM0)))
  have hAi : ∀ i, i < 8 → A i ≠ inp := fun i hi e => by
    have h1 : m + 1 ≤ A i := hA i hi
    omega
  have hmm : isMm w2 m A (I 2) oI0 aS0 0 (fun _ => aS0) none 0 (fun _ => nI 0) 0 (fun _ => nI 0) := by
    refine ⟨I, F, hM, rfl, ⟨⟨hF 0 0, hF 0 1, hF 0 2, hF 0 3, hF 0 4, hF 0 5, hF 0 6⟩, fun i hi => absurd hi (Nat.not_lt_zero i), fun i hi => absurd hi (Nat.not_lt_zero i), fun i hi => absurd hi (Nat.not_lt_zero i)⟩, ⟨Nat.zero_le _, i1, fun k hk => absurd hk (Nat.not_lt_zero k)⟩, i0, ⟨i3, Nat.zero_le _, fun i hi => absurd hi (Nat.not_lt_zero i)⟩, ⟨i4, Nat.zero_le _, fun i hi => absurd hi (Nat.not_lt_zero i)⟩, i7, i8, i9⟩
  refine WW.run (pc' := 17) (lv' := [(2, .ref m), (1, .ref o), (0, .ref (G.2.2.2.1 3))]) (st' := [.int (nI 1)]) 2 rfl ?_
  refine WW.newL rfl (wd_le rfl) (wd_le rfl) (fun ou hou => ?_)
  refine WW.run (pc' := 21) (lv' := [(3, .ref ou), (2, .ref m), (1, .ref o), (0, .ref (G.2.2.2.1 3))]) (st' := [.int (nI 1)]) 2 rfl ?_
  refine WW.newD rfl (wd_le rfl) (wd_le rfl) (fun od hod => ?_)
  refine WW.run (pc' := 28) (lv' := [(5, .int (nI 0)), (4, .ref od), (3, .ref ou), (2, .ref m), (1, .ref o), (0, .ref (G.2.2.2.1 3))]) (st' := []) 3 rfl ?_
  obtain ⟨w3, hw3⟩ : ∃ z, z = wNew w2 35 ou (.inr (1, .inr (.inl (fun _ => (0 : Int64))))) := ⟨_, rfl⟩
  obtain ⟨w4, hw4⟩ : ∃ z, z = wNew w3 36 od (.inr (1, .inr (.inr (.inr (.inl (fun _ => (0 : UInt64))))))) := ⟨_, rfl⟩
  rw [← hw3, ← hw4]
  have k3 : ∀ k, k ≠ 35 → k ≠ 36 → ∀ b, w4.1 k b = w2.1 k b := fun k h1 h2 b => by rw [hw4, hw3]; exact (wPut_k (fun e => h2 e)).trans (wPut_k (fun e => h1 e))
  have hO4 : isOf G w4 o hl inp sb oI0 aS0 0 (fun _ => aS0) none (fun _ => nI 0) 0 (fun _ => nI 0) := hO2.oldK (fun k b p hp hk => (k3 k hk.2.2.1 hk.2.2.2.1 b).trans hp)
  have hm4 : isMm w4 m A (I 2) oI0 aS0 0 (fun _ => aS0) none 0 (fun _ => nI 0) 0 (fun _ => nI 0) := by
    obtain ⟨I9, F9, h1, h2, h3⟩ := hmm
    refine ⟨I9, F9, h1.mto (fun p hp => (k3 2 (by decide) (by decide) m).trans hp) (fun i p hi hp => (k3 _ ?_ ?_ _).trans hp), h2, h3⟩
    all_goals
      rcases i with _ | _ | _ | _ | _ | _ | _ | _ | i
      all_goals first | decide | omega
  have h35 : w4.1 35 ou = some (.inr (1, .inr (.inl (fun _ => (0 : Int64))))) := by rw [hw4]; exact (wPut_k (by decide)).trans (by rw [hw3]; exact wNew_same _ _ _ _)
  have h36 : w4.1 36 od = some (.inr (1, .inr (.inr (.inr (.inl (fun _ => (0 : UInt64))))))) := by rw [hw4]; exact wNew_same _ _ _ _
  have hr : 4 * 0 + 4 * (G.2.2.2.2.2.2.1 / 4) ≤ G.2.2.2.2.2.2.1 ∧ G.2.2.2.2.2.2.1 < 4 * 0 + 4 * (G.2.2.2.2.2.2.1 / 4) + 4 := by omega
  have hr25 : G.2.2.2.2.2.2.1 / 4 ≤ 25 := by omega
  refine WW.pick (lv' := [(5, .int (nI 0)), (4, .ref od), (3, .ref ou), (2, .ref m), (1, .ref o), (0, .ref (G.2.2.2.1 3))]) [0, 1, 2, 3, 4, 5] rfl ?_
  exact WW.less (by omega) (by omega) (lLoop hC hlen (G.2.2.2.2.2.2.1 / 4) 0 w4 aS0 0 (fun _ => aS0) none 0 (fun _ => nI 0) 0 (fun _ => nI 0) oI0 hr.1 hr.2 hP ⟨hO4, rfl, ⟨_, oI0, hm4, rfl, rfl, rfl⟩, ⟨_, h35⟩, ⟨_, h36⟩, hAi⟩)
end
