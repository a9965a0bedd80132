set_option maxRecDepth 100000
/-! DEMANDS -/
/-- a new array of ints -/
theorem WW.newI {X : wdX} {kc ks pc N : Nat} {n : Int32} {lv : List (Nat × Value)} {rest : List Value} {w : wdW} (ht : X.M.tab pc = some (.newarray .int, 2)) (hn : n = nI N) (hN : N < 1000) (hc1 : 1 ≤ kc) (hs1 : N ≤ ks)
    (kk : ∀ q : Nat, w.2 ≤ q → WW X (kc - 1) (ks - N) (pc + 2) lv (.ref q :: rest) (wNew w 32 q (.inr (N, .inl (fun _ => nI 0))))) : WW X kc ks pc lv (.int n :: rest) w := by
  subst hn
  exact WW.newa 32 0 .int (N, .inl (fun _ => nI 0)) ht rfl rfl (fun U cA h => h) q567 (fun cA => rfl) (nI_pos (by omega)) (nI_clamp (by omega)) (by show N * 4 ≤ _; omega) hc1 hs1 kk
section
variable {l : Launch} {G : wdG} {w : wdW} {lo a : Nat} {Z gs gl gr : Nat → Nat} {S : aS}
theorem cS_demands (hS : isS G w lo a Z gs gl gr S) (hW : aWf S) : Sp l G MX2_demands 4 20 100 [.ref a] w (fun o w' => ∃ q f, w.2 ≤ q ∧ o = .inl (some (.ref q)) ∧ w'.1 32 q = some (.inr (S.ns, .inl f)) ∧ (∀ k, k < S.ns → f k = S.demand k) ∧ wFr nP w w') := by
  refine Sp.of rfl (by decide +kernel) kX2_demands (wd_le rfl) ?_
  refine WW.ok fun ok => ?_
  replace ok : wdOk G w := ok
  have h1 := hS.1.1
  refine WW.run (pc' := 1) (lv' := [(0, .ref a)]) (st' := [.ref a]) 1 rfl ?_
  refine WW.get rfl fX2_12 h1 (show _ = some (.ref (Z 0)) from rfl) ?_
  have hl := hS.2.1.1
  obtain ⟨mc0, hl0⟩ := hl.1
  have hns := hW.1
  have hnn : S.ns < 2 ^ 31 := by omega
  refine WW.callV [] (Z 0) [] rfl mX2_69 (sL_size hl) (wdRecv.obj hl0 rfl) rfl rfl (wd_le rfl) (wd_le rfl) (wd_le rfl) (wd_le rfl) (fun o w' hq => ?_)
  obtain ⟨rfl, hw9⟩ := hq
  show WW _ _ _ 7 _ [.int (nI S.ns)] _
  rw [hw9]
  clear hw9 w'
  refine WW.less (kc := 20) (ks := 100) (kc' := 20) (ks' := 90) (by decide) (by decide) ?_
  refine WW.newI rfl rfl (by omega) (wd_le rfl) (by omega) (fun q hq0 => ?_)
  have fr0 : wFr nP w (wNew w 32 q (.inr (S.ns, .inl (fun _ => nI 0)))) := (wFr.refl _ _).new hq0
  refine WW.run (pc' := 12) (lv' := [(2, .int (nI 0)), (1, .ref q), (0, .ref a)]) (st' := []) 3 rfl ?_
  refine WW.less (by omega) (by omega) (WW.upW S.ns (fun i => 18 - i) (fun i => 80 - 4 * i) (fun i => [(2, .int (nI i)), (1, .ref q), (0, .ref a)]) (fun i u => wFr nP w u ∧ ∃ f, u.1 32 q = some (.inr (S.ns, .inl f)) ∧ ∀ k, k < i → f k = S.demand k) (fun i u hi hI ih => ?_) (fun u hI => ?_) ⟨fr0, _, wNew_same _ _ _ _, fun k hk => absurd hk (Nat.not_lt_zero k)⟩)
  · skip
    obtain ⟨fr, f, hA, hf⟩ := hI
    have hS1 := hS.fr ok fr
    have hb1 := hS1.1.1
    have okw := ok
    refine WW.ok fun ok => ?_
    replace ok : wdOk G u := ok
    refine WW.run (pc' := 14) (lv' := [(2, .int (nI i)), (1, .ref q), (0, .ref a)]) (st' := [.ref q, .int (nI i)]) 2 rfl ?_
    refine WW.alen (v := nI S.ns) 32 0 rfl rfl hA rfl ?_
    refine WW.icmp_ge (tgt := 32) rfl rfl (fun hno => absurd hno (nI_ge hi hnn)) (fun _ => ?_)
    refine WW.run (pc' := 22) (lv' := [(2, .int (nI i)), (1, .ref q), (0, .ref a)]) (st' := [.int (nI i), .ref a, .int (nI i), .ref q]) 4 rfl ?_
    refine WW.callV [.int (nI i)] a [.int (nI i), .ref q] rfl mX2_203 (cS_demand hS1 hW (by omega)) (wdRecv.obj hb1 rfl) rfl rfl (wd_le rfl) (wd_le rfl) (by omega) (by omega) (fun o u1 hq => ?_)
    obtain ⟨rfl, fr1⟩ := hq
    show WW _ _ _ 25 _ [.int (S.demand i), .int (nI i), .ref q] _
    have hA1 : u1.1 32 q = some (.inr (S.ns, .inl f)) := fr1.eq hA (ok.1 _ _ _ hA).2 (fun h => h)
    refine WW.iastN (f' := upd f i (S.demand i)) i rfl hA1 rfl hi hnn rfl ?_
    have h2 : (wPut u1 32 q (.inr (S.ns, .inl (upd f i (S.demand i))))).1 32 q = some (.inr (S.ns, .inl (upd f i (S.demand i)))) := wPut_same _ _ _ _
    refine WW.run (pc' := 12) (lv' := [(2, .int ((nI i) + nI 1)), (1, .ref q), (0, .ref a)]) (st' := []) 2 rfl ?_
    rw [((wn_add rfl rfl) : (nI i) + nI 1 = nI (i + 1))]
    refine WW.less (kc' := 18 - (i + 1)) (ks' := 80 - 4 * (i + 1)) (by omega) (by omega) (ih _ ⟨(fr.thn0 fr1).put (Or.inr hq0), _, h2, fun k hk => ?_⟩)
    by_cases e : k = i
    · subst e
      exact if_pos rfl
    · exact (if_neg e).trans (hf k (by omega))
  · skip
    obtain ⟨fr, f, hA, hf⟩ := hI
    refine WW.run (pc' := 14) (lv' := [(2, .int (nI S.ns)), (1, .ref q), (0, .ref a)]) (st' := [.ref q, .int (nI S.ns)]) 2 rfl ?_
    refine WW.alen (v := nI S.ns) 32 0 rfl rfl hA rfl ?_
    refine WW.icmp_ge (tgt := 32) rfl rfl (fun _ => ?_) (fun hno => absurd (nI_le (Nat.le_refl _) hnn) hno)
    refine WW.run (pc' := 33) (lv' := [(2, .int (nI S.ns)), (1, .ref q), (0, .ref a)]) (st' := [.ref q]) 1 rfl ?_
    exact WW.aret rfl rfl (Or.inr ⟨_, rfl⟩) (Or.inr ⟨_, rfl⟩) ⟨q, f, hq0, rfl, hA, hf, fr⟩
end
