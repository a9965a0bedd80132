set_option maxRecDepth 100000
/-! THE MODEL IS MADE -/
theorem WW.newC {X : wdX} {kc ks pc N : Nat} {n : Int32} {lv : List (Nat × Value)} {rest : List Value} {w : wdW} (ht : X.M.tab pc = some (.newarray .char, 2)) (hn : n = nI N) (hN : N < 1000) (hc1 : 1 ≤ kc) (hs1 : N ≤ ks)
    (kk : ∀ q : Nat, w.2 ≤ q → WW X (kc - 1) (ks - N) (pc + 2) lv (.ref q :: rest) (wNew w 33 q (.inr (N, .inl (fun _ => nI 0))))) : WW X kc ks pc lv (.int n :: rest) w := by
  subst hn
  exact WW.newa 33 1 .char (N, .inl (fun _ => nI 0)) ht rfl rfl (fun U cA h => h) q210 (fun cA => rfl) (nI_pos (by omega)) (nI_clamp (by omega)) (by show N * 2 ≤ _; omega) hc1 hs1 kk
section
variable {l : Launch} {G : wdG} {w : wdW}
theorem sM_init {q : Nat} (hq0 : w.1 2 q = some (.inl wdB2)) : Sp l G MX3_init 1 8 1392 [.ref q] w (fun o w' => o = .inl none ∧ (∃ (A : Nat → Nat) (I : Nat → Int32) (F : Nat → Nat → Int32), isM w' q A I F ∧ (∀ i, i < 8 → w.2 ≤ A i) ∧ (∀ i j, F i j = nI 0) ∧ I 0 = nI 0 ∧ I 1 = nI 0 ∧ I 3 = nI 0 ∧ I 4 = nI 0 ∧ I 7 = -1 ∧ I 8 = -1 ∧ I 9 = nI 0) ∧ wFr (fun b => b = q) w w') := by
  refine Sp.of rfl (by decide +kernel) kX3_init (wd_le rfl) ?_
  refine WW.ok fun ok => ?_
  replace ok : wdOk G w := ok
  have hql := (ok.1 _ _ _ hq0).2
  have frA : wFr (fun b => b = q) w w := wFr.refl _ _
  refine WW.run (pc' := 1) (lv' := [(0, .ref q)]) (st' := [.ref q]) 1 rfl ?_
  refine WW.objInit rfl q1737 q110 q111 (wd_le rfl) (wd_le rfl) ?_
  refine WW.run (pc' := 7) (lv' := [(0, .ref q)]) (st' := [.int (nI 81), .ref q]) 2 rfl ?_
  refine WW.newI rfl rfl (by decide) (wd_le rfl) (wd_le rfl) (fun a0 ha0 => ?_)
  obtain ⟨v0, hv0⟩ : ∃ z, z = (wNew w 32 a0 (.inr (81, .inl (fun _ => nI 0)))) := ⟨_, rfl⟩
  rw [← hv0]
  have g0 : v0.1 2 q = some (.inl [.null, .null, .null, .null, .int 0, .null, .int 0, .int 0, .null, .int 0, .null, .int 0, .int 0, .int 0, .int 0, .int 0, .int 0, .null, .int 0]) := by rw [hv0, wNew_ne (by omega)]; exact hq0
  have e0_0 : v0.1 32 a0 = some (.inr (81, .inl (fun _ => nI 0))) := by rw [hv0]; exact wNew_same _ _ _ _
  have fr0 : wFr (fun b => b = q) w v0 := by rw [hv0]; exact frA.new ha0
  have b0 : v0.2 = a0 + 1 := by rw [hv0]; rfl
  have lo0 : w.2 ≤ a0 := Nat.le_trans frA.2 ha0
  clear hv0
  refine WW.putF [.ref a0, .null, .null, .null, .int 0, .null, .int 0, .int 0, .null, .int 0, .null, .int 0, .int 0, .int 0, .int 0, .int 0, .int 0, .null, .int 0] rfl pfX3_9 rfl g0 (wd_le rfl) rfl rfl rfl ?_
  have h0 : (wPut v0 2 q (.inl [.ref a0, .null, .null, .null, .int 0, .null, .int 0, .int 0, .null, .int 0, .null, .int 0, .int 0, .int 0, .int 0, .int 0, .int 0, .null, .int 0])).1 2 q = some (.inl [.ref a0, .null, .null, .null, .int 0, .null, .int 0, .int 0, .null, .int 0, .null, .int 0, .int 0, .int 0, .int 0, .int 0, .int 0, .null, .int 0]) := wPut_same _ _ _ _
  have frB : wFr (fun b => b = q) w (wPut v0 2 q (.inl [.ref a0, .null, .null, .null, .int 0, .null, .int 0, .int 0, .null, .int 0, .null, .int 0, .int 0, .int 0, .int 0, .int 0, .int 0, .null, .int 0])) := fr0.put (Or.inl rfl)
  have p0_0 : (wPut v0 2 q (.inl [.ref a0, .null, .null, .null, .int 0, .null, .int 0, .int 0, .null, .int 0, .null, .int 0, .int 0, .int 0, .int 0, .int 0, .int 0, .null, .int 0])).1 32 a0 = some (.inr (81, .inl (fun _ => nI 0))) := (wPut_k (by decide)).trans e0_0
  obtain ⟨u0, hu0⟩ : ∃ z, z = (wPut v0 2 q (.inl [.ref a0, .null, .null, .null, .int 0, .null, .int 0, .int 0, .null, .int 0, .null, .int 0, .int 0, .int 0, .int 0, .int 0, .int 0, .null, .int 0])) := ⟨_, rfl⟩
  rw [← hu0] at h0 frB p0_0 ⊢
  have c0 : u0.2 = a0 + 1 := by rw [hu0]; exact b0
  clear hu0 frA fr0 g0 b0
  have frA := frB
  clear frB
  refine WW.run (pc' := 15) (lv' := [(0, .ref q)]) (st' := [.int (nI 81), .ref q]) 2 rfl ?_
  refine WW.newI rfl rfl (by decide) (wd_le rfl) (wd_le rfl) (fun a1 ha1 => ?_)
  obtain ⟨v1, hv1⟩ : ∃ z, z = (wNew u0 32 a1 (.inr (81, .inl (fun _ => nI 0)))) := ⟨_, rfl⟩
  rw [← hv1]
  have g1 : v1.1 2 q = some (.inl [.ref a0, .null, .null, .null, .int 0, .null, .int 0, .int 0, .null, .int 0, .null, .int 0, .int 0, .int 0, .int 0, .int 0, .int 0, .null, .int 0]) := by rw [hv1, wNew_ne (by omega)]; exact h0
  have e1_1 : v1.1 32 a1 = some (.inr (81, .inl (fun _ => nI 0))) := by rw [hv1]; exact wNew_same _ _ _ _
  have e1_0 : v1.1 32 a0 = some (.inr (81, .inl (fun _ => nI 0))) := by rw [hv1, wNew_ne (by omega)]; exact p0_0
  have fr1 : wFr (fun b => b = q) w v1 := by rw [hv1]; exact frA.new ha1
  have b1 : v1.2 = a1 + 1 := by rw [hv1]; rfl
  have lo1 : w.2 ≤ a1 := Nat.le_trans frA.2 ha1
  clear hv1
  refine WW.putF [.ref a0, .ref a1, .null, .null, .int 0, .null, .int 0, .int 0, .null, .int 0, .null, .int 0, .int 0, .int 0, .int 0, .int 0, .int 0, .null, .int 0] rfl pfX3_13 rfl g1 (wd_le rfl) rfl rfl rfl ?_
  have h1 : (wPut v1 2 q (.inl [.ref a0, .ref a1, .null, .null, .int 0, .null, .int 0, .int 0, .null, .int 0, .null, .int 0, .int 0, .int 0, .int 0, .int 0, .int 0, .null, .int 0])).1 2 q = some (.inl [.ref a0, .ref a1, .null, .null, .int 0, .null, .int 0, .int 0, .null, .int 0, .null, .int 0, .int 0, .int 0, .int 0, .int 0, .int 0, .null, .int 0]) := wPut_same _ _ _ _
  have frB : wFr (fun b => b = q) w (wPut v1 2 q (.inl [.ref a0, .ref a1, .null, .null, .int 0, .null, .int 0, .int 0, .null, .int 0, .null, .int 0, .int 0, .int 0, .int 0, .int 0, .int 0, .null, .int 0])) := fr1.put (Or.inl rfl)
  have p1_0 : (wPut v1 2 q (.inl [.ref a0, .ref a1, .null, .null, .int 0, .null, .int 0, .int 0, .null, .int 0, .null, .int 0, .int 0, .int 0, .int 0, .int 0, .int 0, .null, .int 0])).1 32 a0 = some (.inr (81, .inl (fun _ => nI 0))) := (wPut_k (by decide)).trans e1_0
  have p1_1 : (wPut v1 2 q (.inl [.ref a0, .ref a1, .null, .null, .int 0, .null, .int 0, .int 0, .null, .int 0, .null, .int 0, .int 0, .int 0, .int 0, .int 0, .int 0, .null, .int 0])).1 32 a1 = some (.inr (81, .inl (fun _ => nI 0))) := (wPut_k (by decide)).trans e1_1
  obtain ⟨u1, hu1⟩ : ∃ z, z = (wPut v1 2 q (.inl [.ref a0, .ref a1, .null, .null, .int 0, .null, .int 0, .int 0, .null, .int 0, .null, .int 0, .int 0, .int 0, .int 0, .int 0, .int 0, .null, .int 0])) := ⟨_, rfl⟩
  rw [← hu1] at h1 frB p1_0 p1_1 ⊢
  have c1 : u1.2 = a1 + 1 := by rw [hu1]; exact b1
  clear hu1 frA fr1 g1 b1
  have frA := frB
  clear frB
  refine WW.run (pc' := 23) (lv' := [(0, .ref q)]) (st' := [.int (nI 81), .ref q]) 2 rfl ?_
  refine WW.newI rfl rfl (by decide) (wd_le rfl) (wd_le rfl) (fun a2 ha2 => ?_)
  obtain ⟨v2, hv2⟩ : ∃ z, z = (wNew u1 32 a2 (.inr (81, .inl (fun _ => nI 0)))) := ⟨_, rfl⟩
  rw [← hv2]
  have g2 : v2.1 2 q = some (.inl [.ref a0, .ref a1, .null, .null, .int 0, .null, .int 0, .int 0, .null, .int 0, .null, .int 0, .int 0, .int 0, .int 0, .int 0, .int 0, .null, .int 0]) := by rw [hv2, wNew_ne (by omega)]; exact h1
  have e2_2 : v2.1 32 a2 = some (.inr (81, .inl (fun _ => nI 0))) := by rw [hv2]; exact wNew_same _ _ _ _
  have e2_0 : v2.1 32 a0 = some (.inr (81, .inl (fun _ => nI 0))) := by rw [hv2, wNew_ne (by omega)]; exact p1_0
  have e2_1 : v2.1 32 a1 = some (.inr (81, .inl (fun _ => nI 0))) := by rw [hv2, wNew_ne (by omega)]; exact p1_1
  have fr2 : wFr (fun b => b = q) w v2 := by rw [hv2]; exact frA.new ha2
  have b2 : v2.2 = a2 + 1 := by rw [hv2]; rfl
  have lo2 : w.2 ≤ a2 := Nat.le_trans frA.2 ha2
  clear hv2
  refine WW.putF [.ref a0, .ref a1, .ref a2, .null, .int 0, .null, .int 0, .int 0, .null, .int 0, .null, .int 0, .int 0, .int 0, .int 0, .int 0, .int 0, .null, .int 0] rfl pfX3_16 rfl g2 (wd_le rfl) rfl rfl rfl ?_
  have h2 : (wPut v2 2 q (.inl [.ref a0, .ref a1, .ref a2, .null, .int 0, .null, .int 0, .int 0, .null, .int 0, .null, .int 0, .int 0, .int 0, .int 0, .int 0, .int 0, .null, .int 0])).1 2 q = some (.inl [.ref a0, .ref a1, .ref a2, .null, .int 0, .null, .int 0, .int 0, .null, .int 0, .null, .int 0, .int 0, .int 0, .int 0, .int 0, .int 0, .null, .int 0]) := wPut_same _ _ _ _
  have frB : wFr (fun b => b = q) w (wPut v2 2 q (.inl [.ref a0, .ref a1, .ref a2, .null, .int 0, .null, .int 0, .int 0, .null, .int 0, .null, .int 0, .int 0, .int 0, .int 0, .int 0, .int 0, .null, .int 0])) := fr2.put (Or.inl rfl)
  have p2_0 : (wPut v2 2 q (.inl [.ref a0, .ref a1, .ref a2, .null, .int 0, .null, .int 0, .int 0, .null, .int 0, .null, .int 0, .int 0, .int 0, .int 0, .int 0, .int 0, .null, .int 0])).1 32 a0 = some (.inr (81, .inl (fun _ => nI 0))) := (wPut_k (by decide)).trans e2_0
  have p2_1 : (wPut v2 2 q (.inl [.ref a0, .ref a1, .ref a2, .null, .int 0, .null, .int 0, .int 0, .null, .int 0, .null, .int 0, .int 0, .int 0, .int 0, .int 0, .int 0, .null, .int 0])).1 32 a1 = some (.inr (81, .inl (fun _ => nI 0))) := (wPut_k (by decide)).trans e2_1
  have p2_2 : (wPut v2 2 q (.inl [.ref a0, .ref a1, .ref a2, .null, .int 0, .null, .int 0, .int 0, .null, .int 0, .null, .int 0, .int 0, .int 0, .int 0, .int 0, .int 0, .null, .int 0])).1 32 a2 = some (.inr (81, .inl (fun _ => nI 0))) := (wPut_k (by decide)).trans e2_2
  obtain ⟨u2, hu2⟩ : ∃ z, z = (wPut v2 2 q (.inl [.ref a0, .ref a1, .ref a2, .null, .int 0, .null, .int 0, .int 0, .null, .int 0, .null, .int 0, .int 0, .int 0, .int 0, .int 0, .int 0, .null, .int 0])) := ⟨_, rfl⟩
  rw [← hu2] at h2 frB p2_0 p2_1 p2_2 ⊢
  have c2 : u2.2 = a2 + 1 := by rw [hu2]; exact b2
  clear hu2 frA fr2 g2 b2
  have frA := frB
  clear frB
  refine WW.run (pc' := 31) (lv' := [(0, .ref q)]) (st' := [.int (nI 81), .ref q]) 2 rfl ?_
  refine WW.newI rfl rfl (by decide) (wd_le rfl) (wd_le rfl) (fun a3 ha3 => ?_)
  obtain ⟨v3, hv3⟩ : ∃ z, z = (wNew u2 32 a3 (.inr (81, .inl (fun _ => nI 0)))) := ⟨_, rfl⟩
  rw [← hv3]
  have g3 : v3.1 2 q = some (.inl [.ref a0, .ref a1, .ref a2, .null, .int 0, .null, .int 0, .int 0, .null, .int 0, .null, .int 0, .int 0, .int 0, .int 0, .int 0, .int 0, .null, .int 0]) := by rw [hv3, wNew_ne (by omega)]; exact h2
  have e3_3 : v3.1 32 a3 = some (.inr (81, .inl (fun _ => nI 0))) := by rw [hv3]; exact wNew_same _ _ _ _
  have e3_0 : v3.1 32 a0 = some (.inr (81, .inl (fun _ => nI 0))) := by rw [hv3, wNew_ne (by omega)]; exact p2_0
  have e3_1 : v3.1 32 a1 = some (.inr (81, .inl (fun _ => nI 0))) := by rw [hv3, wNew_ne (by omega)]; exact p2_1
  have e3_2 : v3.1 32 a2 = some (.inr (81, .inl (fun _ => nI 0))) := by rw [hv3, wNew_ne (by omega)]; exact p2_2
  have fr3 : wFr (fun b => b = q) w v3 := by rw [hv3]; exact frA.new ha3
  have b3 : v3.2 = a3 + 1 := by rw [hv3]; rfl
  have lo3 : w.2 ≤ a3 := Nat.le_trans frA.2 ha3
  clear hv3
  refine WW.putF [.ref a0, .ref a1, .ref a2, .ref a3, .int 0, .null, .int 0, .int 0, .null, .int 0, .null, .int 0, .int 0, .int 0, .int 0, .int 0, .int 0, .null, .int 0] rfl pfX3_19 rfl g3 (wd_le rfl) rfl rfl rfl ?_
  have h3 : (wPut v3 2 q (.inl [.ref a0, .ref a1, .ref a2, .ref a3, .int 0, .null, .int 0, .int 0, .null, .int 0, .null, .int 0, .int 0, .int 0, .int 0, .int 0, .int 0, .null, .int 0])).1 2 q = some (.inl [.ref a0, .ref a1, .ref a2, .ref a3, .int 0, .null, .int 0, .int 0, .null, .int 0, .null, .int 0, .int 0, .int 0, .int 0, .int 0, .int 0, .null, .int 0]) := wPut_same _ _ _ _
  have frB : wFr (fun b => b = q) w (wPut v3 2 q (.inl [.ref a0, .ref a1, .ref a2, .ref a3, .int 0, .null, .int 0, .int 0, .null, .int 0, .null, .int 0, .int 0, .int 0, .int 0, .int 0, .int 0, .null, .int 0])) := fr3.put (Or.inl rfl)
  have p3_0 : (wPut v3 2 q (.inl [.ref a0, .ref a1, .ref a2, .ref a3, .int 0, .null, .int 0, .int 0, .null, .int 0, .null, .int 0, .int 0, .int 0, .int 0, .int 0, .int 0, .null, .int 0])).1 32 a0 = some (.inr (81, .inl (fun _ => nI 0))) := (wPut_k (by decide)).trans e3_0
  have p3_1 : (wPut v3 2 q (.inl [.ref a0, .ref a1, .ref a2, .ref a3, .int 0, .null, .int 0, .int 0, .null, .int 0, .null, .int 0, .int 0, .int 0, .int 0, .int 0, .int 0, .null, .int 0])).1 32 a1 = some (.inr (81, .inl (fun _ => nI 0))) := (wPut_k (by decide)).trans e3_1
  have p3_2 : (wPut v3 2 q (.inl [.ref a0, .ref a1, .ref a2, .ref a3, .int 0, .null, .int 0, .int 0, .null, .int 0, .null, .int 0, .int 0, .int 0, .int 0, .int 0, .int 0, .null, .int 0])).1 32 a2 = some (.inr (81, .inl (fun _ => nI 0))) := (wPut_k (by decide)).trans e3_2
  have p3_3 : (wPut v3 2 q (.inl [.ref a0, .ref a1, .ref a2, .ref a3, .int 0, .null, .int 0, .int 0, .null, .int 0, .null, .int 0, .int 0, .int 0, .int 0, .int 0, .int 0, .null, .int 0])).1 32 a3 = some (.inr (81, .inl (fun _ => nI 0))) := (wPut_k (by decide)).trans e3_3
  obtain ⟨u3, hu3⟩ : ∃ z, z = (wPut v3 2 q (.inl [.ref a0, .ref a1, .ref a2, .ref a3, .int 0, .null, .int 0, .int 0, .null, .int 0, .null, .int 0, .int 0, .int 0, .int 0, .int 0, .int 0, .null, .int 0])) := ⟨_, rfl⟩
  rw [← hu3] at h3 frB p3_0 p3_1 p3_2 p3_3 ⊢
  have c3 : u3.2 = a3 + 1 := by rw [hu3]; exact b3
  clear hu3 frA fr3 g3 b3
  have frA := frB
  clear frB
  refine WW.run (pc' := 40) (lv' := [(0, .ref q)]) (st' := [.int (nI 648), .ref q]) 2 rfl ?_
  refine WW.newI rfl rfl (by decide) (wd_le rfl) (wd_le rfl) (fun a4 ha4 => ?_)
  obtain ⟨v4, hv4⟩ : ∃ z, z = (wNew u3 32 a4 (.inr (648, .inl (fun _ => nI 0)))) := ⟨_, rfl⟩
  rw [← hv4]
  have g4 : v4.1 2 q = some (.inl [.ref a0, .ref a1, .ref a2, .ref a3, .int 0, .null, .int 0, .int 0, .null, .int 0, .null, .int 0, .int 0, .int 0, .int 0, .int 0, .int 0, .null, .int 0]) := by rw [hv4, wNew_ne (by omega)]; exact h3
  have e4_4 : v4.1 32 a4 = some (.inr (648, .inl (fun _ => nI 0))) := by rw [hv4]; exact wNew_same _ _ _ _
  have e4_0 : v4.1 32 a0 = some (.inr (81, .inl (fun _ => nI 0))) := by rw [hv4, wNew_ne (by omega)]; exact p3_0
  have e4_1 : v4.1 32 a1 = some (.inr (81, .inl (fun _ => nI 0))) := by rw [hv4, wNew_ne (by omega)]; exact p3_1
  have e4_2 : v4.1 32 a2 = some (.inr (81, .inl (fun _ => nI 0))) := by rw [hv4, wNew_ne (by omega)]; exact p3_2
  have e4_3 : v4.1 32 a3 = some (.inr (81, .inl (fun _ => nI 0))) := by rw [hv4, wNew_ne (by omega)]; exact p3_3
  have fr4 : wFr (fun b => b = q) w v4 := by rw [hv4]; exact frA.new ha4
  have b4 : v4.2 = a4 + 1 := by rw [hv4]; rfl
  have lo4 : w.2 ≤ a4 := Nat.le_trans frA.2 ha4
  clear hv4
  refine WW.putF [.ref a0, .ref a1, .ref a2, .ref a3, .int 0, .ref a4, .int 0, .int 0, .null, .int 0, .null, .int 0, .int 0, .int 0, .int 0, .int 0, .int 0, .null, .int 0] rfl pfX3_22 rfl g4 (wd_le rfl) rfl rfl rfl ?_
  have h4 : (wPut v4 2 q (.inl [.ref a0, .ref a1, .ref a2, .ref a3, .int 0, .ref a4, .int 0, .int 0, .null, .int 0, .null, .int 0, .int 0, .int 0, .int 0, .int 0, .int 0, .null, .int 0])).1 2 q = some (.inl [.ref a0, .ref a1, .ref a2, .ref a3, .int 0, .ref a4, .int 0, .int 0, .null, .int 0, .null, .int 0, .int 0, .int 0, .int 0, .int 0, .int 0, .null, .int 0]) := wPut_same _ _ _ _
  have frB : wFr (fun b => b = q) w (wPut v4 2 q (.inl [.ref a0, .ref a1, .ref a2, .ref a3, .int 0, .ref a4, .int 0, .int 0, .null, .int 0, .null, .int 0, .int 0, .int 0, .int 0, .int 0, .int 0, .null, .int 0])) := fr4.put (Or.inl rfl)
  have p4_0 : (wPut v4 2 q (.inl [.ref a0, .ref a1, .ref a2, .ref a3, .int 0, .ref a4, .int 0, .int 0, .null, .int 0, .null, .int 0, .int 0, .int 0, .int 0, .int 0, .int 0, .null, .int 0])).1 32 a0 = some (.inr (81, .inl (fun _ => nI 0))) := (wPut_k (by decide)).trans e4_0
  have p4_1 : (wPut v4 2 q (.inl [.ref a0, .ref a1, .ref a2, .ref a3, .int 0, .ref a4, .int 0, .int 0, .null, .int 0, .null, .int 0, .int 0, .int 0, .int 0, .int 0, .int 0, .null, .int 0])).1 32 a1 = some (.inr (81, .inl (fun _ => nI 0))) := (wPut_k (by decide)).trans e4_1
  have p4_2 : (wPut v4 2 q (.inl [.ref a0, .ref a1, .ref a2, .ref a3, .int 0, .ref a4, .int 0, .int 0, .null, .int 0, .null, .int 0, .int 0, .int 0, .int 0, .int 0, .int 0, .null, .int 0])).1 32 a2 = some (.inr (81, .inl (fun _ => nI 0))) := (wPut_k (by decide)).trans e4_2
  have p4_3 : (wPut v4 2 q (.inl [.ref a0, .ref a1, .ref a2, .ref a3, .int 0, .ref a4, .int 0, .int 0, .null, .int 0, .null, .int 0, .int 0, .int 0, .int 0, .int 0, .int 0, .null, .int 0])).1 32 a3 = some (.inr (81, .inl (fun _ => nI 0))) := (wPut_k (by decide)).trans e4_3
  have p4_4 : (wPut v4 2 q (.inl [.ref a0, .ref a1, .ref a2, .ref a3, .int 0, .ref a4, .int 0, .int 0, .null, .int 0, .null, .int 0, .int 0, .int 0, .int 0, .int 0, .int 0, .null, .int 0])).1 32 a4 = some (.inr (648, .inl (fun _ => nI 0))) := (wPut_k (by decide)).trans e4_4
  obtain ⟨u4, hu4⟩ : ∃ z, z = (wPut v4 2 q (.inl [.ref a0, .ref a1, .ref a2, .ref a3, .int 0, .ref a4, .int 0, .int 0, .null, .int 0, .null, .int 0, .int 0, .int 0, .int 0, .int 0, .int 0, .null, .int 0])) := ⟨_, rfl⟩
  rw [← hu4] at h4 frB p4_0 p4_1 p4_2 p4_3 p4_4 ⊢
  have c4 : u4.2 = a4 + 1 := by rw [hu4]; exact b4
  clear hu4 frA fr4 g4 b4
  have frA := frB
  clear frB
  refine WW.run (pc' := 48) (lv' := [(0, .ref q)]) (st' := [.int (nI 120), .ref q]) 2 rfl ?_
  refine WW.newC rfl rfl (by decide) (wd_le rfl) (wd_le rfl) (fun a5 ha5 => ?_)
  obtain ⟨v5, hv5⟩ : ∃ z, z = (wNew u4 33 a5 (.inr (120, .inl (fun _ => nI 0)))) := ⟨_, rfl⟩
  rw [← hv5]
  have g5 : v5.1 2 q = some (.inl [.ref a0, .ref a1, .ref a2, .ref a3, .int 0, .ref a4, .int 0, .int 0, .null, .int 0, .null, .int 0, .int 0, .int 0, .int 0, .int 0, .int 0, .null, .int 0]) := by rw [hv5, wNew_ne (by omega)]; exact h4
  have e5_5 : v5.1 33 a5 = some (.inr (120, .inl (fun _ => nI 0))) := by rw [hv5]; exact wNew_same _ _ _ _
  have e5_0 : v5.1 32 a0 = some (.inr (81, .inl (fun _ => nI 0))) := by rw [hv5, wNew_ne (by omega)]; exact p4_0
  have e5_1 : v5.1 32 a1 = some (.inr (81, .inl (fun _ => nI 0))) := by rw [hv5, wNew_ne (by omega)]; exact p4_1
  have e5_2 : v5.1 32 a2 = some (.inr (81, .inl (fun _ => nI 0))) := by rw [hv5, wNew_ne (by omega)]; exact p4_2
  have e5_3 : v5.1 32 a3 = some (.inr (81, .inl (fun _ => nI 0))) := by rw [hv5, wNew_ne (by omega)]; exact p4_3
  have e5_4 : v5.1 32 a4 = some (.inr (648, .inl (fun _ => nI 0))) := by rw [hv5, wNew_ne (by omega)]; exact p4_4
  have fr5 : wFr (fun b => b = q) w v5 := by rw [hv5]; exact frA.new ha5
  have b5 : v5.2 = a5 + 1 := by rw [hv5]; rfl
  have lo5 : w.2 ≤ a5 := Nat.le_trans frA.2 ha5
  clear hv5
  refine WW.putF [.ref a0, .ref a1, .ref a2, .ref a3, .int 0, .ref a4, .int 0, .int 0, .ref a5, .int 0, .null, .int 0, .int 0, .int 0, .int 0, .int 0, .int 0, .null, .int 0] rfl pfX3_25 rfl g5 (wd_le rfl) rfl rfl rfl ?_
  have h5 : (wPut v5 2 q (.inl [.ref a0, .ref a1, .ref a2, .ref a3, .int 0, .ref a4, .int 0, .int 0, .ref a5, .int 0, .null, .int 0, .int 0, .int 0, .int 0, .int 0, .int 0, .null, .int 0])).1 2 q = some (.inl [.ref a0, .ref a1, .ref a2, .ref a3, .int 0, .ref a4, .int 0, .int 0, .ref a5, .int 0, .null, .int 0, .int 0, .int 0, .int 0, .int 0, .int 0, .null, .int 0]) := wPut_same _ _ _ _
  have frB : wFr (fun b => b = q) w (wPut v5 2 q (.inl [.ref a0, .ref a1, .ref a2, .ref a3, .int 0, .ref a4, .int 0, .int 0, .ref a5, .int 0, .null, .int 0, .int 0, .int 0, .int 0, .int 0, .int 0, .null, .int 0])) := fr5.put (Or.inl rfl)
  have p5_0 : (wPut v5 2 q (.inl [.ref a0, .ref a1, .ref a2, .ref a3, .int 0, .ref a4, .int 0, .int 0, .ref a5, .int 0, .null, .int 0, .int 0, .int 0, .int 0, .int 0, .int 0, .null, .int 0])).1 32 a0 = some (.inr (81, .inl (fun _ => nI 0))) := (wPut_k (by decide)).trans e5_0
  have p5_1 : (wPut v5 2 q (.inl [.ref a0, .ref a1, .ref a2, .ref a3, .int 0, .ref a4, .int 0, .int 0, .ref a5, .int 0, .null, .int 0, .int 0, .int 0, .int 0, .int 0, .int 0, .null, .int 0])).1 32 a1 = some (.inr (81, .inl (fun _ => nI 0))) := (wPut_k (by decide)).trans e5_1
  have p5_2 : (wPut v5 2 q (.inl [.ref a0, .ref a1, .ref a2, .ref a3, .int 0, .ref a4, .int 0, .int 0, .ref a5, .int 0, .null, .int 0, .int 0, .int 0, .int 0, .int 0, .int 0, .null, .int 0])).1 32 a2 = some (.inr (81, .inl (fun _ => nI 0))) := (wPut_k (by decide)).trans e5_2
  have p5_3 : (wPut v5 2 q (.inl [.ref a0, .ref a1, .ref a2, .ref a3, .int 0, .ref a4, .int 0, .int 0, .ref a5, .int 0, .null, .int 0, .int 0, .int 0, .int 0, .int 0, .int 0, .null, .int 0])).1 32 a3 = some (.inr (81, .inl (fun _ => nI 0))) := (wPut_k (by decide)).trans e5_3
  have p5_4 : (wPut v5 2 q (.inl [.ref a0, .ref a1, .ref a2, .ref a3, .int 0, .ref a4, .int 0, .int 0, .ref a5, .int 0, .null, .int 0, .int 0, .int 0, .int 0, .int 0, .int 0, .null, .int 0])).1 32 a4 = some (.inr (648, .inl (fun _ => nI 0))) := (wPut_k (by decide)).trans e5_4
  have p5_5 : (wPut v5 2 q (.inl [.ref a0, .ref a1, .ref a2, .ref a3, .int 0, .ref a4, .int 0, .int 0, .ref a5, .int 0, .null, .int 0, .int 0, .int 0, .int 0, .int 0, .int 0, .null, .int 0])).1 33 a5 = some (.inr (120, .inl (fun _ => nI 0))) := (wPut_k (by decide)).trans e5_5
  obtain ⟨u5, hu5⟩ : ∃ z, z = (wPut v5 2 q (.inl [.ref a0, .ref a1, .ref a2, .ref a3, .int 0, .ref a4, .int 0, .int 0, .ref a5, .int 0, .null, .int 0, .int 0, .int 0, .int 0, .int 0, .int 0, .null, .int 0])) := ⟨_, rfl⟩
  rw [← hu5] at h5 frB p5_0 p5_1 p5_2 p5_3 p5_4 p5_5 ⊢
  have c5 : u5.2 = a5 + 1 := by rw [hu5]; exact b5
  clear hu5 frA fr5 g5 b5
  have frA := frB
  clear frB
  refine WW.run (pc' := 56) (lv' := [(0, .ref q)]) (st' := [.int (nI 60), .ref q]) 2 rfl ?_
  refine WW.newC rfl rfl (by decide) (wd_le rfl) (wd_le rfl) (fun a6 ha6 => ?_)
  obtain ⟨v6, hv6⟩ : ∃ z, z = (wNew u5 33 a6 (.inr (60, .inl (fun _ => nI 0)))) := ⟨_, rfl⟩
  rw [← hv6]
  have g6 : v6.1 2 q = some (.inl [.ref a0, .ref a1, .ref a2, .ref a3, .int 0, .ref a4, .int 0, .int 0, .ref a5, .int 0, .null, .int 0, .int 0, .int 0, .int 0, .int 0, .int 0, .null, .int 0]) := by rw [hv6, wNew_ne (by omega)]; exact h5
  have e6_6 : v6.1 33 a6 = some (.inr (60, .inl (fun _ => nI 0))) := by rw [hv6]; exact wNew_same _ _ _ _
  have e6_0 : v6.1 32 a0 = some (.inr (81, .inl (fun _ => nI 0))) := by rw [hv6, wNew_ne (by omega)]; exact p5_0
  have e6_1 : v6.1 32 a1 = some (.inr (81, .inl (fun _ => nI 0))) := by rw [hv6, wNew_ne (by omega)]; exact p5_1
  have e6_2 : v6.1 32 a2 = some (.inr (81, .inl (fun _ => nI 0))) := by rw [hv6, wNew_ne (by omega)]; exact p5_2
  have e6_3 : v6.1 32 a3 = some (.inr (81, .inl (fun _ => nI 0))) := by rw [hv6, wNew_ne (by omega)]; exact p5_3
  have e6_4 : v6.1 32 a4 = some (.inr (648, .inl (fun _ => nI 0))) := by rw [hv6, wNew_ne (by omega)]; exact p5_4
  have e6_5 : v6.1 33 a5 = some (.inr (120, .inl (fun _ => nI 0))) := by rw [hv6, wNew_ne (by omega)]; exact p5_5
  have fr6 : wFr (fun b => b = q) w v6 := by rw [hv6]; exact frA.new ha6
  have b6 : v6.2 = a6 + 1 := by rw [hv6]; rfl
  have lo6 : w.2 ≤ a6 := Nat.le_trans frA.2 ha6
  clear hv6
  refine WW.putF [.ref a0, .ref a1, .ref a2, .ref a3, .int 0, .ref a4, .int 0, .int 0, .ref a5, .int 0, .ref a6, .int 0, .int 0, .int 0, .int 0, .int 0, .int 0, .null, .int 0] rfl pfX3_29 rfl g6 (wd_le rfl) rfl rfl rfl ?_
  have h6 : (wPut v6 2 q (.inl [.ref a0, .ref a1, .ref a2, .ref a3, .int 0, .ref a4, .int 0, .int 0, .ref a5, .int 0, .ref a6, .int 0, .int 0, .int 0, .int 0, .int 0, .int 0, .null, .int 0])).1 2 q = some (.inl [.ref a0, .ref a1, .ref a2, .ref a3, .int 0, .ref a4, .int 0, .int 0, .ref a5, .int 0, .ref a6, .int 0, .int 0, .int 0, .int 0, .int 0, .int 0, .null, .int 0]) := wPut_same _ _ _ _
  have frB : wFr (fun b => b = q) w (wPut v6 2 q (.inl [.ref a0, .ref a1, .ref a2, .ref a3, .int 0, .ref a4, .int 0, .int 0, .ref a5, .int 0, .ref a6, .int 0, .int 0, .int 0, .int 0, .int 0, .int 0, .null, .int 0])) := fr6.put (Or.inl rfl)
  have p6_0 : (wPut v6 2 q (.inl [.ref a0, .ref a1, .ref a2, .ref a3, .int 0, .ref a4, .int 0, .int 0, .ref a5, .int 0, .ref a6, .int 0, .int 0, .int 0, .int 0, .int 0, .int 0, .null, .int 0])).1 32 a0 = some (.inr (81, .inl (fun _ => nI 0))) := (wPut_k (by decide)).trans e6_0
  have p6_1 : (wPut v6 2 q (.inl [.ref a0, .ref a1, .ref a2, .ref a3, .int 0, .ref a4, .int 0, .int 0, .ref a5, .int 0, .ref a6, .int 0, .int 0, .int 0, .int 0, .int 0, .int 0, .null, .int 0])).1 32 a1 = some (.inr (81, .inl (fun _ => nI 0))) := (wPut_k (by decide)).trans e6_1
  have p6_2 : (wPut v6 2 q (.inl [.ref a0, .ref a1, .ref a2, .ref a3, .int 0, .ref a4, .int 0, .int 0, .ref a5, .int 0, .ref a6, .int 0, .int 0, .int 0, .int 0, .int 0, .int 0, .null, .int 0])).1 32 a2 = some (.inr (81, .inl (fun _ => nI 0))) := (wPut_k (by decide)).trans e6_2
  have p6_3 : (wPut v6 2 q (.inl [.ref a0, .ref a1, .ref a2, .ref a3, .int 0, .ref a4, .int 0, .int 0, .ref a5, .int 0, .ref a6, .int 0, .int 0, .int 0, .int 0, .int 0, .int 0, .null, .int 0])).1 32 a3 = some (.inr (81, .inl (fun _ => nI 0))) := (wPut_k (by decide)).trans e6_3
  have p6_4 : (wPut v6 2 q (.inl [.ref a0, .ref a1, .ref a2, .ref a3, .int 0, .ref a4, .int 0, .int 0, .ref a5, .int 0, .ref a6, .int 0, .int 0, .int 0, .int 0, .int 0, .int 0, .null, .int 0])).1 32 a4 = some (.inr (648, .inl (fun _ => nI 0))) := (wPut_k (by decide)).trans e6_4
  have p6_5 : (wPut v6 2 q (.inl [.ref a0, .ref a1, .ref a2, .ref a3, .int 0, .ref a4, .int 0, .int 0, .ref a5, .int 0, .ref a6, .int 0, .int 0, .int 0, .int 0, .int 0, .int 0, .null, .int 0])).1 33 a5 = some (.inr (120, .inl (fun _ => nI 0))) := (wPut_k (by decide)).trans e6_5
  have p6_6 : (wPut v6 2 q (.inl [.ref a0, .ref a1, .ref a2, .ref a3, .int 0, .ref a4, .int 0, .int 0, .ref a5, .int 0, .ref a6, .int 0, .int 0, .int 0, .int 0, .int 0, .int 0, .null, .int 0])).1 33 a6 = some (.inr (60, .inl (fun _ => nI 0))) := (wPut_k (by decide)).trans e6_6
  obtain ⟨u6, hu6⟩ : ∃ z, z = (wPut v6 2 q (.inl [.ref a0, .ref a1, .ref a2, .ref a3, .int 0, .ref a4, .int 0, .int 0, .ref a5, .int 0, .ref a6, .int 0, .int 0, .int 0, .int 0, .int 0, .int 0, .null, .int 0])) := ⟨_, rfl⟩
  rw [← hu6] at h6 frB p6_0 p6_1 p6_2 p6_3 p6_4 p6_5 p6_6 ⊢
  have c6 : u6.2 = a6 + 1 := by rw [hu6]; exact b6
  clear hu6 frA fr6 g6 b6
  have frA := frB
  clear frB
  refine WW.run (pc' := 63) (lv' := [(0, .ref q)]) (st' := [.int (-1), .ref q]) 2 rfl ?_
  refine WW.put [.ref a0, .ref a1, .ref a2, .ref a3, .int 0, .ref a4, .int 0, .int 0, .ref a5, .int 0, .ref a6, .int 0, .int 0, .int 0, .int (-1), .int 0, .int 0, .null, .int 0] rfl pfX3_32 h6 (wd_le rfl) rfl rfl rfl ?_
  have hm1 : (wPut u6 2 q (.inl [.ref a0, .ref a1, .ref a2, .ref a3, .int 0, .ref a4, .int 0, .int 0, .ref a5, .int 0, .ref a6, .int 0, .int 0, .int 0, .int (-1), .int 0, .int 0, .null, .int 0])).1 2 q = some (.inl [.ref a0, .ref a1, .ref a2, .ref a3, .int 0, .ref a4, .int 0, .int 0, .ref a5, .int 0, .ref a6, .int 0, .int 0, .int 0, .int (-1), .int 0, .int 0, .null, .int 0]) := wPut_same _ _ _ _
  have frB : wFr (fun b => b = q) w (wPut u6 2 q (.inl [.ref a0, .ref a1, .ref a2, .ref a3, .int 0, .ref a4, .int 0, .int 0, .ref a5, .int 0, .ref a6, .int 0, .int 0, .int 0, .int (-1), .int 0, .int 0, .null, .int 0])) := frA.put (Or.inl rfl)
  have pm1_0 : (wPut u6 2 q (.inl [.ref a0, .ref a1, .ref a2, .ref a3, .int 0, .ref a4, .int 0, .int 0, .ref a5, .int 0, .ref a6, .int 0, .int 0, .int 0, .int (-1), .int 0, .int 0, .null, .int 0])).1 32 a0 = some (.inr (81, .inl (fun _ => nI 0))) := (wPut_k (by decide)).trans p6_0
  have pm1_1 : (wPut u6 2 q (.inl [.ref a0, .ref a1, .ref a2, .ref a3, .int 0, .ref a4, .int 0, .int 0, .ref a5, .int 0, .ref a6, .int 0, .int 0, .int 0, .int (-1), .int 0, .int 0, .null, .int 0])).1 32 a1 = some (.inr (81, .inl (fun _ => nI 0))) := (wPut_k (by decide)).trans p6_1
  have pm1_2 : (wPut u6 2 q (.inl [.ref a0, .ref a1, .ref a2, .ref a3, .int 0, .ref a4, .int 0, .int 0, .ref a5, .int 0, .ref a6, .int 0, .int 0, .int 0, .int (-1), .int 0, .int 0, .null, .int 0])).1 32 a2 = some (.inr (81, .inl (fun _ => nI 0))) := (wPut_k (by decide)).trans p6_2
  have pm1_3 : (wPut u6 2 q (.inl [.ref a0, .ref a1, .ref a2, .ref a3, .int 0, .ref a4, .int 0, .int 0, .ref a5, .int 0, .ref a6, .int 0, .int 0, .int 0, .int (-1), .int 0, .int 0, .null, .int 0])).1 32 a3 = some (.inr (81, .inl (fun _ => nI 0))) := (wPut_k (by decide)).trans p6_3
  have pm1_4 : (wPut u6 2 q (.inl [.ref a0, .ref a1, .ref a2, .ref a3, .int 0, .ref a4, .int 0, .int 0, .ref a5, .int 0, .ref a6, .int 0, .int 0, .int 0, .int (-1), .int 0, .int 0, .null, .int 0])).1 32 a4 = some (.inr (648, .inl (fun _ => nI 0))) := (wPut_k (by decide)).trans p6_4
  have pm1_5 : (wPut u6 2 q (.inl [.ref a0, .ref a1, .ref a2, .ref a3, .int 0, .ref a4, .int 0, .int 0, .ref a5, .int 0, .ref a6, .int 0, .int 0, .int 0, .int (-1), .int 0, .int 0, .null, .int 0])).1 33 a5 = some (.inr (120, .inl (fun _ => nI 0))) := (wPut_k (by decide)).trans p6_5
  have pm1_6 : (wPut u6 2 q (.inl [.ref a0, .ref a1, .ref a2, .ref a3, .int 0, .ref a4, .int 0, .int 0, .ref a5, .int 0, .ref a6, .int 0, .int 0, .int 0, .int (-1), .int 0, .int 0, .null, .int 0])).1 33 a6 = some (.inr (60, .inl (fun _ => nI 0))) := (wPut_k (by decide)).trans p6_6
  obtain ⟨um1, hum1⟩ : ∃ z, z = (wPut u6 2 q (.inl [.ref a0, .ref a1, .ref a2, .ref a3, .int 0, .ref a4, .int 0, .int 0, .ref a5, .int 0, .ref a6, .int 0, .int 0, .int 0, .int (-1), .int 0, .int 0, .null, .int 0])) := ⟨_, rfl⟩
  rw [← hum1] at hm1 frB pm1_0 pm1_1 pm1_2 pm1_3 pm1_4 pm1_5 pm1_6 ⊢
  have cm1 : um1.2 = u6.2 := by rw [hum1]; rfl
  clear hum1 frA
  have frA := frB
  clear frB
  refine WW.run (pc' := 68) (lv' := [(0, .ref q)]) (st' := [.int (-1), .ref q]) 2 rfl ?_
  refine WW.put [.ref a0, .ref a1, .ref a2, .ref a3, .int 0, .ref a4, .int 0, .int 0, .ref a5, .int 0, .ref a6, .int 0, .int 0, .int 0, .int (-1), .int (-1), .int 0, .null, .int 0] rfl pfX3_36 hm1 (wd_le rfl) rfl rfl rfl ?_
  have hm2 : (wPut um1 2 q (.inl [.ref a0, .ref a1, .ref a2, .ref a3, .int 0, .ref a4, .int 0, .int 0, .ref a5, .int 0, .ref a6, .int 0, .int 0, .int 0, .int (-1), .int (-1), .int 0, .null, .int 0])).1 2 q = some (.inl [.ref a0, .ref a1, .ref a2, .ref a3, .int 0, .ref a4, .int 0, .int 0, .ref a5, .int 0, .ref a6, .int 0, .int 0, .int 0, .int (-1), .int (-1), .int 0, .null, .int 0]) := wPut_same _ _ _ _
  have frB : wFr (fun b => b = q) w (wPut um1 2 q (.inl [.ref a0, .ref a1, .ref a2, .ref a3, .int 0, .ref a4, .int 0, .int 0, .ref a5, .int 0, .ref a6, .int 0, .int 0, .int 0, .int (-1), .int (-1), .int 0, .null, .int 0])) := frA.put (Or.inl rfl)
  have pm2_0 : (wPut um1 2 q (.inl [.ref a0, .ref a1, .ref a2, .ref a3, .int 0, .ref a4, .int 0, .int 0, .ref a5, .int 0, .ref a6, .int 0, .int 0, .int 0, .int (-1), .int (-1), .int 0, .null, .int 0])).1 32 a0 = some (.inr (81, .inl (fun _ => nI 0))) := (wPut_k (by decide)).trans pm1_0
  have pm2_1 : (wPut um1 2 q (.inl [.ref a0, .ref a1, .ref a2, .ref a3, .int 0, .ref a4, .int 0, .int 0, .ref a5, .int 0, .ref a6, .int 0, .int 0, .int 0, .int (-1), .int (-1), .int 0, .null, .int 0])).1 32 a1 = some (.inr (81, .inl (fun _ => nI 0))) := (wPut_k (by decide)).trans pm1_1
  have pm2_2 : (wPut um1 2 q (.inl [.ref a0, .ref a1, .ref a2, .ref a3, .int 0, .ref a4, .int 0, .int 0, .ref a5, .int 0, .ref a6, .int 0, .int 0, .int 0, .int (-1), .int (-1), .int 0, .null, .int 0])).1 32 a2 = some (.inr (81, .inl (fun _ => nI 0))) := (wPut_k (by decide)).trans pm1_2
  have pm2_3 : (wPut um1 2 q (.inl [.ref a0, .ref a1, .ref a2, .ref a3, .int 0, .ref a4, .int 0, .int 0, .ref a5, .int 0, .ref a6, .int 0, .int 0, .int 0, .int (-1), .int (-1), .int 0, .null, .int 0])).1 32 a3 = some (.inr (81, .inl (fun _ => nI 0))) := (wPut_k (by decide)).trans pm1_3
  have pm2_4 : (wPut um1 2 q (.inl [.ref a0, .ref a1, .ref a2, .ref a3, .int 0, .ref a4, .int 0, .int 0, .ref a5, .int 0, .ref a6, .int 0, .int 0, .int 0, .int (-1), .int (-1), .int 0, .null, .int 0])).1 32 a4 = some (.inr (648, .inl (fun _ => nI 0))) := (wPut_k (by decide)).trans pm1_4
  have pm2_5 : (wPut um1 2 q (.inl [.ref a0, .ref a1, .ref a2, .ref a3, .int 0, .ref a4, .int 0, .int 0, .ref a5, .int 0, .ref a6, .int 0, .int 0, .int 0, .int (-1), .int (-1), .int 0, .null, .int 0])).1 33 a5 = some (.inr (120, .inl (fun _ => nI 0))) := (wPut_k (by decide)).trans pm1_5
  have pm2_6 : (wPut um1 2 q (.inl [.ref a0, .ref a1, .ref a2, .ref a3, .int 0, .ref a4, .int 0, .int 0, .ref a5, .int 0, .ref a6, .int 0, .int 0, .int 0, .int (-1), .int (-1), .int 0, .null, .int 0])).1 33 a6 = some (.inr (60, .inl (fun _ => nI 0))) := (wPut_k (by decide)).trans pm1_6
  obtain ⟨um2, hum2⟩ : ∃ z, z = (wPut um1 2 q (.inl [.ref a0, .ref a1, .ref a2, .ref a3, .int 0, .ref a4, .int 0, .int 0, .ref a5, .int 0, .ref a6, .int 0, .int 0, .int 0, .int (-1), .int (-1), .int 0, .null, .int 0])) := ⟨_, rfl⟩
  rw [← hum2] at hm2 frB pm2_0 pm2_1 pm2_2 pm2_3 pm2_4 pm2_5 pm2_6 ⊢
  have cm2 : um2.2 = um1.2 := by rw [hum2]; rfl
  clear hum2 frA
  have frA := frB
  clear frB
  refine WW.run (pc' := 75) (lv' := [(0, .ref q)]) (st' := [.int (nI 240), .ref q]) 2 rfl ?_
  refine WW.newI rfl rfl (by decide) (wd_le rfl) (wd_le rfl) (fun a7 ha7 => ?_)
  obtain ⟨v7, hv7⟩ : ∃ z, z = (wNew um2 32 a7 (.inr (240, .inl (fun _ => nI 0)))) := ⟨_, rfl⟩
  rw [← hv7]
  have g7 : v7.1 2 q = some (.inl [.ref a0, .ref a1, .ref a2, .ref a3, .int 0, .ref a4, .int 0, .int 0, .ref a5, .int 0, .ref a6, .int 0, .int 0, .int 0, .int (-1), .int (-1), .int 0, .null, .int 0]) := by rw [hv7, wNew_ne (by omega)]; exact hm2
  have e7_7 : v7.1 32 a7 = some (.inr (240, .inl (fun _ => nI 0))) := by rw [hv7]; exact wNew_same _ _ _ _
  have e7_0 : v7.1 32 a0 = some (.inr (81, .inl (fun _ => nI 0))) := by rw [hv7, wNew_ne (by omega)]; exact pm2_0
  have e7_1 : v7.1 32 a1 = some (.inr (81, .inl (fun _ => nI 0))) := by rw [hv7, wNew_ne (by omega)]; exact pm2_1
  have e7_2 : v7.1 32 a2 = some (.inr (81, .inl (fun _ => nI 0))) := by rw [hv7, wNew_ne (by omega)]; exact pm2_2
  have e7_3 : v7.1 32 a3 = some (.inr (81, .inl (fun _ => nI 0))) := by rw [hv7, wNew_ne (by omega)]; exact pm2_3
  have e7_4 : v7.1 32 a4 = some (.inr (648, .inl (fun _ => nI 0))) := by rw [hv7, wNew_ne (by omega)]; exact pm2_4
  have e7_5 : v7.1 33 a5 = some (.inr (120, .inl (fun _ => nI 0))) := by rw [hv7, wNew_ne (by omega)]; exact pm2_5
  have e7_6 : v7.1 33 a6 = some (.inr (60, .inl (fun _ => nI 0))) := by rw [hv7, wNew_ne (by omega)]; exact pm2_6
  have fr7 : wFr (fun b => b = q) w v7 := by rw [hv7]; exact frA.new ha7
  have b7 : v7.2 = a7 + 1 := by rw [hv7]; rfl
  have lo7 : w.2 ≤ a7 := Nat.le_trans frA.2 ha7
  clear hv7
  refine WW.putF [.ref a0, .ref a1, .ref a2, .ref a3, .int 0, .ref a4, .int 0, .int 0, .ref a5, .int 0, .ref a6, .int 0, .int 0, .int 0, .int (-1), .int (-1), .int 0, .ref a7, .int 0] rfl pfX3_39 rfl g7 (wd_le rfl) rfl rfl rfl ?_
  have h7 : (wPut v7 2 q (.inl [.ref a0, .ref a1, .ref a2, .ref a3, .int 0, .ref a4, .int 0, .int 0, .ref a5, .int 0, .ref a6, .int 0, .int 0, .int 0, .int (-1), .int (-1), .int 0, .ref a7, .int 0])).1 2 q = some (.inl [.ref a0, .ref a1, .ref a2, .ref a3, .int 0, .ref a4, .int 0, .int 0, .ref a5, .int 0, .ref a6, .int 0, .int 0, .int 0, .int (-1), .int (-1), .int 0, .ref a7, .int 0]) := wPut_same _ _ _ _
  have frB : wFr (fun b => b = q) w (wPut v7 2 q (.inl [.ref a0, .ref a1, .ref a2, .ref a3, .int 0, .ref a4, .int 0, .int 0, .ref a5, .int 0, .ref a6, .int 0, .int 0, .int 0, .int (-1), .int (-1), .int 0, .ref a7, .int 0])) := fr7.put (Or.inl rfl)
  have p7_0 : (wPut v7 2 q (.inl [.ref a0, .ref a1, .ref a2, .ref a3, .int 0, .ref a4, .int 0, .int 0, .ref a5, .int 0, .ref a6, .int 0, .int 0, .int 0, .int (-1), .int (-1), .int 0, .ref a7, .int 0])).1 32 a0 = some (.inr (81, .inl (fun _ => nI 0))) := (wPut_k (by decide)).trans e7_0
  have p7_1 : (wPut v7 2 q (.inl [.ref a0, .ref a1, .ref a2, .ref a3, .int 0, .ref a4, .int 0, .int 0, .ref a5, .int 0, .ref a6, .int 0, .int 0, .int 0, .int (-1), .int (-1), .int 0, .ref a7, .int 0])).1 32 a1 = some (.inr (81, .inl (fun _ => nI 0))) := (wPut_k (by decide)).trans e7_1
  have p7_2 : (wPut v7 2 q (.inl [.ref a0, .ref a1, .ref a2, .ref a3, .int 0, .ref a4, .int 0, .int 0, .ref a5, .int 0, .ref a6, .int 0, .int 0, .int 0, .int (-1), .int (-1), .int 0, .ref a7, .int 0])).1 32 a2 = some (.inr (81, .inl (fun _ => nI 0))) := (wPut_k (by decide)).trans e7_2
  have p7_3 : (wPut v7 2 q (.inl [.ref a0, .ref a1, .ref a2, .ref a3, .int 0, .ref a4, .int 0, .int 0, .ref a5, .int 0, .ref a6, .int 0, .int 0, .int 0, .int (-1), .int (-1), .int 0, .ref a7, .int 0])).1 32 a3 = some (.inr (81, .inl (fun _ => nI 0))) := (wPut_k (by decide)).trans e7_3
  have p7_4 : (wPut v7 2 q (.inl [.ref a0, .ref a1, .ref a2, .ref a3, .int 0, .ref a4, .int 0, .int 0, .ref a5, .int 0, .ref a6, .int 0, .int 0, .int 0, .int (-1), .int (-1), .int 0, .ref a7, .int 0])).1 32 a4 = some (.inr (648, .inl (fun _ => nI 0))) := (wPut_k (by decide)).trans e7_4
  have p7_5 : (wPut v7 2 q (.inl [.ref a0, .ref a1, .ref a2, .ref a3, .int 0, .ref a4, .int 0, .int 0, .ref a5, .int 0, .ref a6, .int 0, .int 0, .int 0, .int (-1), .int (-1), .int 0, .ref a7, .int 0])).1 33 a5 = some (.inr (120, .inl (fun _ => nI 0))) := (wPut_k (by decide)).trans e7_5
  have p7_6 : (wPut v7 2 q (.inl [.ref a0, .ref a1, .ref a2, .ref a3, .int 0, .ref a4, .int 0, .int 0, .ref a5, .int 0, .ref a6, .int 0, .int 0, .int 0, .int (-1), .int (-1), .int 0, .ref a7, .int 0])).1 33 a6 = some (.inr (60, .inl (fun _ => nI 0))) := (wPut_k (by decide)).trans e7_6
  have p7_7 : (wPut v7 2 q (.inl [.ref a0, .ref a1, .ref a2, .ref a3, .int 0, .ref a4, .int 0, .int 0, .ref a5, .int 0, .ref a6, .int 0, .int 0, .int 0, .int (-1), .int (-1), .int 0, .ref a7, .int 0])).1 32 a7 = some (.inr (240, .inl (fun _ => nI 0))) := (wPut_k (by decide)).trans e7_7
  obtain ⟨u7, hu7⟩ : ∃ z, z = (wPut v7 2 q (.inl [.ref a0, .ref a1, .ref a2, .ref a3, .int 0, .ref a4, .int 0, .int 0, .ref a5, .int 0, .ref a6, .int 0, .int 0, .int 0, .int (-1), .int (-1), .int 0, .ref a7, .int 0])) := ⟨_, rfl⟩
  rw [← hu7] at h7 frB p7_0 p7_1 p7_2 p7_3 p7_4 p7_5 p7_6 p7_7 ⊢
  have c7 : u7.2 = a7 + 1 := by rw [hu7]; exact b7
  clear hu7 frA fr7 g7 b7
  have frA := frB
  clear frB
  have hA : ∀ i, i < 8 → w.2 ≤ (fun i : Nat => match i with | 0 => a0 | 1 => a1 | 2 => a2 | 3 => a3 | 4 => a4 | 5 => a5 | 6 => a6 | _ => a7) i := by
    intro i hi
    rcases i with _ | _ | _ | _ | _ | _ | _ | _ | i
    all_goals first | assumption | omega
  refine WW.vret rfl rfl ⟨rfl, ⟨fun i => match i with | 0 => a0 | 1 => a1 | 2 => a2 | 3 => a3 | 4 => a4 | 5 => a5 | 6 => a6 | _ => a7, fun j => match j with | 7 => -1 | 8 => -1 | _ => 0, fun _ _ => nI 0, ⟨h7, ?_, ?_, ?_⟩, hA, fun _ _ => rfl, rfl, rfl, rfl, rfl, rfl, rfl, rfl⟩, frA⟩
  · intro i hi
    rcases i with _ | _ | _ | _ | _ | _ | _ | _ | i
    · exact p7_0
    · exact p7_1
    · exact p7_2
    · exact p7_3
    · exact p7_4
    · exact p7_5
    · exact p7_6
    · exact p7_7
    · omega
  · intro i j hi hj e
    rcases i with _ | _ | _ | _ | _ | _ | _ | _ | i <;> rcases j with _ | _ | _ | _ | _ | _ | _ | _ | j
    all_goals first | rfl | (exfalso; first | omega | (simp only [] at e; omega) | (replace e : (_ : Nat) = _ := e; dsimp only at e; omega))
  · intro i hi e
    have := hA i hi
    omega
end
