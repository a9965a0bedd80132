set_option maxRecDepth 100000
/-! THE MODEL'S TEXT OF COMMANDS -/
def rLe (N : Nat) (r : aR) : Prop := match r with
  | .inl p => 1 ≤ p ∧ p ≤ N
  | .inr _ => True
theorem rLe0 (S : aS) : rLe 1 S.doShip := by
  unfold aS.doShip
  try simp only [cond_eq_ite]
  repeat' split
  all_goals first | exact ⟨by decide, by decide⟩ | trivial
theorem rLe1 (S : aS) (x : Int32) : rLe 2 (S.doLamp x) := by
  unfold aS.doLamp
  try simp only [cond_eq_ite]
  repeat' split
  all_goals first | exact ⟨by decide, by decide⟩ | trivial
theorem rLe2 (S : aS) (x : Int32) : rLe 2 (S.doDrop x) := by
  unfold aS.doDrop
  try simp only [cond_eq_ite]
  repeat' split
  all_goals first | exact ⟨by decide, by decide⟩ | trivial
theorem rLe3 (S : aS) (x : Int32) : rLe 2 (S.doOil x) := by
  unfold aS.doOil
  try simp only [cond_eq_ite]
  repeat' split
  all_goals first | exact ⟨by decide, by decide⟩ | trivial
theorem rLe4 (S : aS) (x : Int32) : rLe 1 (S.doWait x) := by
  unfold aS.doWait
  try simp only [cond_eq_ite]
  repeat' split
  all_goals first | exact ⟨by decide, by decide⟩ | trivial
theorem rLe5 (S : aS) (x y : Int32) : rLe 4 (S.doReq x y) := by
  unfold aS.doReq
  try simp only [cond_eq_ite]
  repeat' split
  all_goals first | exact ⟨by decide, by decide⟩ | trivial
theorem rLe6 (S : aS) (x y z : Int32) : rLe 4 (S.doLease x y z) := by
  unfold aS.doLease
  try simp only [cond_eq_ite]
  repeat' split
  all_goals first | exact ⟨by decide, by decide⟩ | trivial
theorem aDo_le {k : Nat} (hk : k ≤ 6) {v : kV} {S : aS} {p : Nat} (h : aDo k v S = .inl p) : 1 ≤ p ∧ p - 1 < (kEs k).length := by
  match k, hk, h with
  | 0, _, h =>
    rw [aDo0] at h
    have r := rLe0 S
    rw [h] at r
    exact ⟨r.1, by have := r.2; show p - 1 < 1; omega⟩
  | 1, _, h =>
    rw [aDo1] at h
    have r := rLe1 S v.1
    rw [h] at r
    exact ⟨r.1, by have := r.2; show p - 1 < 2; omega⟩
  | 2, _, h =>
    rw [aDo2] at h
    have r := rLe2 S v.1
    rw [h] at r
    exact ⟨r.1, by have := r.2; show p - 1 < 2; omega⟩
  | 3, _, h =>
    rw [aDo3] at h
    have r := rLe3 S v.1
    rw [h] at r
    exact ⟨r.1, by have := r.2; show p - 1 < 2; omega⟩
  | 4, _, h =>
    rw [aDo4] at h
    have r := rLe4 S v.1
    rw [h] at r
    exact ⟨r.1, by have := r.2; show p - 1 < 1; omega⟩
  | 5, _, h =>
    rw [aDo5] at h
    have r := rLe5 S v.1 v.2.1
    rw [h] at r
    exact ⟨r.1, by have := r.2; show p - 1 < 4; omega⟩
  | 6, _, h =>
    rw [aDo6 0] at h
    have r := rLe6 S v.1 v.2.1 v.2.2
    rw [h] at r
    exact ⟨r.1, by have := r.2; show p - 1 < 4; omega⟩
  | k + 7, hk, _ => omega
theorem kCmd_k {ic : Nat → Int32} {n p p2 k2 : Nat} {v2 : kV} (h : kCmd ic n p = .inr (p2, k2, v2)) : k2 ≤ 6 := by
  have : kKw ic n p = k2 := by
    unfold kCmd at h
    cases hsk : kSkip ic n (kB (kKw ic n p)) p with
    | inl e => rw [hsk] at h; cases h
    | inr p1 =>
      rw [hsk] at h
      dsimp only at h
      cases hka : kArg ic n (kKw ic n p) p1 with
      | inl e => rw [hka] at h; cases h
      | inr z => rw [hka] at h; cases h; rfl
  rw [← this]
  exact kKw_le
/-- the row of commands tells the list -/
def kEnc (g : Nat → Int32) (i : Nat) (cs : List (Nat × kV)) : Prop := ∀ j z, cs[j]? = some z → z.1 ≤ 6 ∧ g (4 * (i + j)) = kC z.1 ∧ kEq z.1 (g (4 * (i + j) + 1), g (4 * (i + j) + 2), g (4 * (i + j) + 3)) z.2
theorem kEnc.tail {g : Nat → Int32} {i : Nat} {c : Nat × kV} {cs : List (Nat × kV)} (h : kEnc g i (c :: cs)) : kEnc g (i + 1) cs := fun j z hz => by
  have := h (j + 1) z hz
  rw [show i + (j + 1) = i + 1 + j by omega] at this
  exact this
theorem kEnc.snoc {g g' : Nat → Int32} {c : Nat} {cs : List (Nat × kV)} {z : Nat × kV} (h : kEnc g 0 cs) (hl : cs.length = c) (hg : ∀ j, j < 4 * c → g' j = g j) (h1 : z.1 ≤ 6) (h2 : g' (4 * c) = kC z.1) (h3 : kEq z.1 (g' (4 * c + 1), g' (4 * c + 2), g' (4 * c + 3)) z.2) : kEnc g' 0 (cs ++ [z]) := by
  intro j y hj
  rcases Nat.lt_or_ge j cs.length with e | e
  · rw [List.getElem?_append_left e] at hj
    obtain ⟨a1, a2, a3⟩ := h j y hj
    rw [Nat.zero_add] at a2 a3 ⊢
    exact ⟨a1, by rw [hg _ (by omega)]; exact a2, by rw [hg _ (by omega), hg _ (by omega), hg _ (by omega)]; exact a3⟩
  · rw [List.getElem?_append_right e] at hj
    have hj0 : j - cs.length = 0 := by
      have := (List.getElem?_eq_some_iff.mp hj).1
      simp at this
      exact this
    rw [hj0] at hj
    cases hj
    obtain rfl : j = c := by omega
    rw [Nat.zero_add]
    exact ⟨h1, h2, h3⟩
section
variable {l : Launch} {G : wdG} {w : wdW} {m : Nat} {A : Nat → Nat} {I : Nat → Int32} {F : Nat → Nat → Int32} {J : Nat → Int32} {cur S : aS} {hn : Nat} {hist : Nat → aS} {sv : Option aS} {n : Nat} {ic : Nat → Int32} {on : Nat} {oc : Nat → Int32} {t : Int32} {f : Nat → Int32}
/-- the commands' end -/
def mE (m : Nat) (A : Nat → Nat) (J : Nat → Int32) (cur : aS) (hn : Nat) (hist : Nat → aS) (sv : Option aS) (ic : Nat → Int32) (on : Nat) (oc : Nat → Int32) (r : (Nat × Nat) ⊕ aS) (len : Nat) (w : wdW) : wdO → wdW → Prop := fun o w' => mFr m A w w' ∧ match r with
  | .inl z => o = .inl (some (.int (nI 0))) ∧ isMm w' m A (nI 2) (va_up (va_up J 2 (nI z.1)) 3 (rsN z.2)) cur hn hist sv 0 ic on oc
  | .inr T => o = .inl (some (.int (nI len))) ∧ isMm w' m A (nI 0) J T (tRec hn hist cur).1 (tRec hn hist cur).2 sv 0 ic on oc
theorem mR.row (h : mR I F J cur hn hist sv n ic on oc) {S : aS} (hS : fS f S) : mR I (va_up F 0 f) J S hn hist sv n ic on oc := by
  obtain ⟨g0, g1, g2, g3, g4, g5⟩ := h
  refine ⟨hS, g1, ?_, g3, g4, g5⟩
  cases sv with
  | none => exact g2
  | some T => exact g2
theorem mY_loop (hW : aWf cur) (hWh : ∀ k, k < hn → aWf (hist k)) (R : (Nat × Nat) ⊕ aS) (len : Nat) (hB : fS (F 1) cur) (hR : mR I F J cur hn hist sv 0 ic on oc) (h2 : I 2 = nI 0) (h10 : I 10 = nI len) (hlen : len < 59) : ∀ (cs : List (Nat × kV)) (i : Nat) (S : aS) (f : Nat → Int32) (u : wdW), kWf cs S → kEnc (F 7) i cs → i + cs.length = len → aRun cs i S = R → fS f S → isM u m A I (va_up F 0 f) → mFr m A w u → WW (l, G, MX3_runCommands, 8, 0, 0, mE m A J cur hn hist sv ic on oc R len w) 0 0 126 [(1, .int (nI i)), (0, .ref m)] [] u := by
  intro cs
  induction cs with
  | nil =>
    intro i S f u hWf hE hl hr hS hM fr0
    cases hr
    obtain rfl : i = len := by simpa using hl
    refine WW.run (pc' := 128) (lv' := [(1, .int (nI i)), (0, .ref m)]) (st' := [.ref m, .int (nI i)]) 2 rfl ?_
    refine WW.get rfl fX3_213 hM.1 (show _ = some (.int (I 10)) from rfl) ?_
    rw [h10]
    refine WW.icmp_ge (tgt := 182) rfl rfl (fun _ => ?_) (fun hno => absurd (nI_le (Nat.le_refl _) (by omega)) hno)
    refine WW.run (pc' := 184) (lv' := [(1, .int (nI i)), (0, .ref m)]) (st' := [.ref m, .ref m]) 2 rfl ?_
    refine WW.get rfl fX3_213 hM.1 (show _ = some (.int (I 10)) from rfl) ?_
    rw [h10]
    refine WW.callV [.int (nI i)] m [] rfl mX3_80 (sM_endsT hM (show fS ((va_up F 0 f) 1) cur from hB) hW hWh (hR.row hS) h2 (nI i)) (wdRecv.obj hM.1 rfl) rfl rfl (wd_le rfl) (wd_le rfl) (wd_le rfl) (wd_le rfl) (fun o u1 hq => ?_)
    obtain ⟨rfl, h9, f9⟩ := hq
    show WW _ _ _ 190 _ [.int (nI i)] _
    exact WW.iret rfl rfl rfl ⟨fr0.trans f9, rfl, h9⟩
  | cons c cs ih =>
    intro i S f u hWf hE hl hr hS hM fr0
    obtain ⟨k, v⟩ := c
    obtain ⟨hk6, e0, ev⟩ := hE 0 (k, v) rfl
    rw [Nat.add_zero] at e0 ev
    obtain ⟨hWS, hWf2⟩ := hWf
    rw [List.length_cons] at hl
    refine WW.run (pc' := 128) (lv' := [(1, .int (nI i)), (0, .ref m)]) (st' := [.ref m, .int (nI i)]) 2 rfl ?_
    refine WW.get rfl fX3_213 hM.1 (show _ = some (.int (I 10)) from rfl) ?_
    rw [h10]
    refine WW.icmp_ge (tgt := 182) rfl rfl (fun hno => absurd hno (nI_ge (by omega) (by omega))) (fun _ => ?_)
    refine WW.run (pc' := 136) (lv' := [(1, .int (nI i)), (0, .ref m)]) (st' := [.int (nI i), .ref m]) 2 rfl ?_
    refine WW.callV [.int (nI i)] m [] rfl mX3_246 (mY_does hk6 hM hS hWS (by omega) e0 ev) (wdRecv.obj hM.1 rfl) rfl rfl (wd_le rfl) (wd_le rfl) (wd_le rfl) (wd_le rfl) (fun o u1 hq => ?_)
    obtain ⟨rfl, f1, hS1, hM1, fq1⟩ := hq
    show WW _ _ _ 139 _ [.ref (wdSa G (kDi k))] _
    unfold aRun at hr
    dsimp only at hr hWf2
    cases hD : aDo k v S with
    | inr y =>
      rw [hD] at hr hS1 hM1
      have hM1 : isM u1 m A I (va_up F 0 f1) := hM1
      refine WW.run (pc' := 141) (lv' := [(2, .ref (wdSa G (kDi k))), (1, .int (nI i)), (0, .ref m)]) (st' := [.ref m]) 2 rfl ?_
      refine WW.get rfl fX3_42 hM1.1 (show _ = some (.int (I 2)) from rfl) ?_
      rw [h2]
      refine WW.if_le (tgt := 176) rfl rfl (fun _ => ?_) (fun hno => absurd (by decide) hno)
      refine WW.run (pc' := 126) (lv' := [(1, .int ((nI i) + nI 1)), (2, .ref (wdSa G (kDi k))), (0, .ref m)]) (st' := []) 2 rfl ?_
      refine WW.pick (lv' := [(1, .int ((nI i) + nI 1)), (0, .ref m)]) [0, 2] rfl ?_
      rw [nI_add]
      exact ih (i + 1) y.2 f1 u1 (hWf2 y hD) hE.tail (by omega) hr hS1 hM1 (fr0.trans fq1)
    | inl p =>
      rw [hD] at hr hS1 hM1
      replace hr : Sum.inl (i, (kEs k)[p - 1]?.getD 13) = R := hr
      obtain ⟨hp1, hpl⟩ := aDo_le hk6 hD
      have hci : (kEs k)[p - 1]? = some ((kEs k)[p - 1]?.getD 13) := by rw [List.getElem?_eq_getElem hpl]; rfl
      obtain ⟨ci, hci2⟩ : ∃ z, z = (kEs k)[p - 1]?.getD 13 := ⟨_, rfl⟩
      rw [← hci2] at hci hr
      cases hr
      obtain ⟨q, hq1, hq2, hq3, hq4, hq5⟩ := kDi_at hk6 hci
      have hM1 : isM u1 m A (va_up I 2 (nI p)) (va_up F 0 f1) := hM1
      refine WW.run (pc' := 141) (lv' := [(2, .ref (wdSa G (kDi k))), (1, .int (nI i)), (0, .ref m)]) (st' := [.ref m]) 2 rfl ?_
      refine WW.get rfl fX3_42 hM1.1 (show _ = some (.int (nI p)) from rfl) ?_
      refine WW.if_le (tgt := 176) rfl rfl (fun hno => absurd hno (nI_nle hp1 (by omega))) (fun _ => ?_)
      refine WW.run (pc' := 149) (lv' := [(2, .ref (wdSa G (kDi k))), (1, .int (nI i)), (0, .ref m)]) (st' := [.int (nI i), .ref m]) 2 rfl ?_
      refine WW.mputI 8 rfl pfX3_36 hM1 rfl rfl rfl rfl (fun w1 hM1 fr1 => ?_)
      refine WW.run (pc' := 155) (lv' := [(2, .ref (wdSa G (kDi k))), (1, .int (nI i)), (0, .ref m)]) (st' := [.ref m, .ref (wdSa G (kDi k)), .ref m]) 3 rfl ?_
      refine WW.get rfl fX3_42 hM1.1 (show _ = some (.int (nI p)) from rfl) ?_
      refine WW.run (pc' := 160) (lv' := [(2, .ref (wdSa G (kDi k))), (1, .int (nI i)), (0, .ref m)]) (st' := [.int ((nI p) - (nI 1)), .ref (wdSa G (kDi k)), .ref m]) 2 rfl ?_
      rw [show nI p - nI 1 = nI (p - 1) from (wn_sub rfl rfl hp1)]
      refine WW.callV [.int (nI (p - 1))] (wdSa G (kDi k)) [.ref m] rfl mX3_199 (sG_charAt hq1 hq2 (by omega) hq4) (wdRecv.str hq1) rfl rfl (wd_le rfl) (wd_le rfl) (wd_le rfl) (wd_le rfl) (fun o w' hq => ?_)
      obtain ⟨rfl, hw9⟩ := hq
      show WW _ _ _ 163 _ [.int (nI (q.2.2.2.2.2.getD (p - 1) 0)), .ref m] _
      rw [hw9]
      clear hw9 w'
      rw [hq5]
      refine WW.mputI 9 rfl pfX3_250 hM1 rfl rsN_nar rsN_fit rfl (fun w2 hM2 fr2 => ?_)
      refine WW.run (pc' := 169) (lv' := [(2, .ref (wdSa G (kDi k))), (1, .int (nI i)), (0, .ref m)]) (st' := [.int (nI 2), .ref m, .ref m]) 3 rfl ?_
      have h8 := hM2
      have f8 : mFr m A w w2 := (((fr0.trans fq1).trans fr1).trans fr2)
      refine WW.callV [.int (nI 2)] m [.ref m] rfl mX3_70 (sS_fails h8 (nI 2)) (wdRecv.obj h8.1 rfl) rfl rfl (wd_le rfl) (wd_le rfl) (wd_le rfl) (wd_le rfl) (fun o u2 hq => ?_)
      obtain ⟨rfl, hM2, fq2⟩ := hq
      show WW _ _ _ 172 _ [.int (nI 0), .ref m] _
      have R2 : mR (va_up (va_up (va_up (va_up I 2 (nI p)) 8 (nI i)) 9 (rsN ci)) 2 (nI 2)) (va_up F 0 f1) (va_up (va_up J 2 (nI i)) 3 (rsN ci)) S hn hist sv 0 ic on oc := by
        obtain ⟨g0, g1, g2, g3, g4, g5, g6, g7⟩ := hR.row hS1
        refine ⟨g0, g1, ?_, g3, g4, g5, rfl, rfl⟩
        cases sv with
        | none => exact g2
        | some T => exact g2
      refine WW.callV [.int (nI 0)] m [] rfl mX3_80 (sM_endsF hM2 (show fS ((va_up F 0 f1) 1) cur from hB) hW R2 (by show ¬ nI 2 ≤ 0; decide) (nI 0)) (wdRecv.obj hM2.1 rfl) rfl rfl (wd_le rfl) (wd_le rfl) (wd_le rfl) (wd_le rfl) (fun o u3 hq => ?_)
      obtain ⟨rfl, h9, f9⟩ := hq
      show WW _ _ _ 175 _ [.int (nI 0)] _
      exact WW.iret rfl rfl rfl ⟨(f8.trans fq2).trans f9, rfl, h9⟩
theorem pI_start (h : I 4 = nI n) : va_up (va_up (va_up I 5 (nI 0)) 6 (nI 0)) 10 (nI 0) = pI I n (0, false) 0 := by
  funext j
  simp only [pI, va_up]
  by_cases h1 : j = 10
  · simp [h1]
  · by_cases h2 : j = 6
    · subst h2; rfl
    · by_cases h3 : j = 5
      · subst h3; rfl
      · by_cases h4 : j = 4
        · subst h4; simp [h]
        · simp [h1, h2, h3, h4]
/-- the reading's loop -/
theorem mY_reads {Q : wdO → wdW → Prop} (h60 : n ≤ 60) (K : Nat ⊕ List (Nat × kV)) (kk : ∀ (u : wdW) (s : Nat × Bool) (c : Nat) (g : Nat → Int32), ((s.2 = true ∧ K = .inl s.1) ∨ (s.2 = false ∧ s.1 < n ∧ K = .inl s.1) ∨ (s.2 = false ∧ ¬ s.1 < n ∧ c < 59 ∧ ∃ ds, ds.length = c ∧ kEnc g 0 ds ∧ K = .inr ds)) → s.1 ≤ n → isM u m A (pI I n s c) (va_up F 7 g) → mFr m A w u → WW (l, G, MX3_runCommands, 8, 0, 0, Q) 0 0 53 [(0, .ref m)] [] u) :
    ∀ (f : Nat) (s : Nat × Bool) (c : Nat) (g : Nat → Int32) (u : wdW), ((s.2 = true ∧ K = .inl s.1) ∨ (s.2 = false ∧ n + 1 ≤ f + s.1 ∧ 3 * c ≤ s.1 ∧ ∃ ds, ds.length = c ∧ kEnc g 0 ds ∧ (match kRest (F 6) n f s.1 with | .inl e => K = .inl e | .inr cs => K = .inr (ds ++ cs)))) → s.1 ≤ n → isM u m A (pI I n s c) (va_up F 7 g) → mFr m A w u → WW (l, G, MX3_runCommands, 8, 0, 0, Q) 0 0 19 [(0, .ref m)] [] u := by
  intro f
  induction f with
  | zero =>
    intro s c g u hK hs hM fr0
    rcases hK with ⟨hb, hk⟩ | ⟨hb, h1, -⟩
    · skip
      refine WW.run (pc' := 20) (lv' := [(0, .ref m)]) (st' := [.ref m]) 1 rfl ?_
      refine WW.get rfl fX3_192 hM.1 (show _ = some (.int (bI s.2)) from rfl) ?_
      refine WW.if_ne (tgt := 53) rfl rfl (fun _ => ?_) (fun hno => absurd hno (by rw [hb]; decide))
      exact kk u s c g (Or.inl ⟨hb, hk⟩) hs hM fr0
    · omega
  | succ f ih =>
    intro s c g u hK hs hM fr0
    refine WW.run (pc' := 20) (lv' := [(0, .ref m)]) (st' := [.ref m]) 1 rfl ?_
    refine WW.get rfl fX3_192 hM.1 (show _ = some (.int (bI s.2)) from rfl) ?_
    rcases hK with ⟨hb, hk⟩ | ⟨hb, h1, h3c, ds, hd1, hd2, hd3⟩
    · skip
      refine WW.if_ne (tgt := 53) rfl rfl (fun _ => ?_) (fun hno => absurd hno (by rw [hb]; decide))
      exact kk u s c g (Or.inl ⟨hb, hk⟩) hs hM fr0
    · skip
      refine WW.if_ne (tgt := 53) rfl rfl (fun hno => absurd (by rw [hb]; decide) hno) (fun _ => ?_)
      refine WW.run (pc' := 28) (lv' := [(0, .ref m)]) (st' := [.int (nI 0), .ref m]) 2 rfl ?_
      refine WW.callV [.int (nI 0)] m [] rfl mX3_196 (mY_behind (p := s.1) (b := s.2) hM h60 (by omega) (i := 0) (by decide)) (wdRecv.obj hM.1 rfl) rfl rfl (wd_le rfl) (wd_le rfl) (wd_le rfl) (wd_le rfl) (fun o w' hq => ?_)
      obtain ⟨rfl, hw9⟩ := hq
      show WW _ _ _ 31 _ [.int (kBh (F 6) n s.1)] _
      rw [hw9]
      clear hw9 w'
      refine WW.run (pc' := 33) (lv' := [(0, .ref m)]) (st' := [.int (nI 59), .int (kBh (F 6) n s.1)]) 1 rfl ?_
      unfold kRest at hd3
      cases hc : kAt (F 6) n s.1 (nI 59) (nI 59) with
      | false =>
        refine WW.icmp_ne (tgt := 53) rfl rfl (fun _ => ?_) (fun hno => absurd hno (fun q => by rw [(bh_at (by decide)).mp q] at hc; cases hc))
        refine kk u s c g ?_ hs hM fr0
        by_cases hpn : s.1 < n
        · rw [Nat.blt_eq.mpr hpn, hc] at hd3
          exact Or.inr (Or.inl ⟨hb, hpn, hd3⟩)
        · have hbn : Nat.blt s.1 n = false := by cases h9 : Nat.blt s.1 n with | false => rfl | true => exact absurd (Nat.blt_eq.mp h9) hpn
          rw [hbn] at hd3
          exact Or.inr (Or.inr ⟨hb, hpn, by omega, ds, hd1, hd2, by rw [show K = .inr (ds ++ []) from hd3, List.append_nil]⟩)
      | true =>
        have hlt := kAt_lt hc
        rw [Nat.blt_eq.mpr hlt, hc] at hd3
        dsimp only [cond_true] at hd3
        refine WW.icmp_ne (tgt := 53) rfl rfl (fun hno => absurd ((bh_at (by decide)).mpr hc) hno) (fun _ => ?_)
        refine WW.run (pc' := 38) (lv' := [(0, .ref m)]) (st' := [.ref m, .ref m]) 2 rfl ?_
        refine WW.get rfl fX3_185 hM.1 (show _ = some (.int (nI s.1)) from rfl) ?_
        refine WW.run (pc' := 43) (lv' := [(0, .ref m)]) (st' := [.int ((nI s.1) + (nI 1)), .ref m]) 2 rfl ?_
        rw [nI_add]
        refine WW.mputI 5 rfl pfX3_185 hM rfl rfl rfl rfl (fun w3 hM3 fr3 => ?_)
        have h9 := hM3
        obtain ⟨u1, hu1⟩ : ∃ z, z = w3 := ⟨_, rfl⟩
        have f9 : mFr m A w u1 := by rw [hu1]; exact (fr0.trans fr3)
        obtain ⟨p, b⟩ := s
        dsimp only at hb
        subst hb
        rw [pI_5, ← hu1] at h9
        rw [← hu1]
        refine WW.run (pc' := 47) (lv' := [(0, .ref m)]) (st' := [.ref m]) 1 rfl ?_
        refine WW.callV [] m [] rfl mX3_243 (mY_readCommand h9 h60 hlt (by omega)) (wdRecv.obj h9.1 rfl) rfl rfl (wd_le rfl) (wd_le rfl) (wd_le rfl) (wd_le rfl) (fun o u2 hq => ?_)
        obtain ⟨rfl, s', g', hM2, hs2, ⟨hg, hrel⟩, fr2⟩ := hq
        show WW _ _ _ 50 _ [] _
        refine WW.run (pc' := 19) (lv' := [(0, .ref m)]) (st' := []) 1 rfl ?_
        refine ih s' (c + 1) g' u2 ?_ hs2 hM2 (f9.trans fr2)
        dsimp only at hd3
        cases hkc : kCmd (F 6) n (p + 1) with
        | inl e =>
          rw [hkc] at hd3 hrel
          refine Or.inl ⟨by rw [hrel], ?_⟩
          rw [hrel]
          exact hd3
        | inr z =>
          obtain ⟨p2, k2, v2⟩ := z
          rw [hkc] at hd3 hrel
          dsimp only at hd3 hrel
          obtain ⟨e1, e2, e3⟩ := hrel
          obtain ⟨e4, e5⟩ := kCmd_end (Nat.succ_le_of_lt hlt) hkc
          have hk6 : k2 ≤ 6 := kCmd_k hkc
          refine Or.inr ⟨by rw [e1], by rw [e1]; show n + 1 ≤ f + p2; have h1' : n + 1 ≤ f + 1 + p := h1; omega, by rw [e1]; show 3 * (c + 1) ≤ p2; have h3' : 3 * c ≤ p := h3c; omega, ds ++ [(k2, v2)], by rw [List.length_append, hd1]; rfl, hd2.snoc hd1 hg hk6 e2 e3, ?_⟩
          rw [e1]
          dsimp only
          cases hkr : kRest (F 6) n f p2 with
          | inl e => rw [hkr] at hd3; exact hd3
          | inr cs => rw [hkr] at hd3; show K = .inr (ds ++ [(k2, v2)] ++ cs); rw [List.append_assoc]; exact hd3
/-- the model's text of commands, answered -/
def mTK (m : Nat) (A : Nat → Nat) (J : Nat → Int32) (cur : aS) (hn : Nat) (hist : Nat → aS) (sv : Option aS) (ic : Nat → Int32) (on : Nat) (oc : Nat → Int32) (K : Nat ⊕ List (Nat × kV)) (w : wdW) : wdO → wdW → Prop := fun o w' => match K with
  | .inl e => o = .inl (some (.int (nI 0))) ∧ isMm w' m A (nI 1) (va_up J 1 (nI e)) cur hn hist sv 0 ic on oc ∧ mFr m A w w'
  | .inr cs => mE m A J cur hn hist sv ic on oc (aRun cs 0 cur) cs.length w o w'
def mT (m : Nat) (A : Nat → Nat) (J : Nat → Int32) (cur : aS) (hn : Nat) (hist : Nat → aS) (sv : Option aS) (n : Nat) (ic : Nat → Int32) (on : Nat) (oc : Nat → Int32) (w : wdW) : wdO → wdW → Prop := mTK m A J cur hn hist sv ic on oc (kAll ic n) w
theorem mQ_runCommands (h : isMm w m A t J cur hn hist sv n ic on oc) (hW : aWf cur) (hWh : ∀ k, k < hn → aWf (hist k)) (hWf : ∀ cs, kAll ic n = .inr cs → kWf cs cur) : Sp l G MX3_runCommands 8 0 0 [.ref m] w (mT m A J cur hn hist sv n ic on oc w) := by
  obtain ⟨I, F, hM, ht, hR⟩ := h
  have h4 : I 4 = nI n := hR.2.2.2.2.1.1
  have h60 : n ≤ 60 := hR.2.2.2.2.1.2.1
  have hcong : kAll (F 6) n = kAll ic n := kAll_cong hR.2.2.2.2.1.2.2
  obtain ⟨K, hK⟩ : ∃ z, z = kAll ic n := ⟨_, rfl⟩
  rw [← hK] at hcong
  unfold mT
  rw [← hK]
  refine Sp.of rfl (by decide +kernel) kX3_runCommands (wd_le rfl) ?_
  refine WW.run (pc' := 2) (lv' := [(0, .ref m)]) (st' := [.int (nI 0), .ref m]) 2 rfl ?_
  refine WW.mputI 5 rfl pfX3_185 hM rfl rfl rfl rfl (fun w4 hM4 fr4 => ?_)
  refine WW.run (pc' := 7) (lv' := [(0, .ref m)]) (st' := [.int (nI 0), .ref m]) 2 rfl ?_
  refine WW.mputI 6 rfl pfX3_192 hM4 rfl rfl rfl rfl (fun w5 hM5 fr5 => ?_)
  refine WW.run (pc' := 12) (lv' := [(0, .ref m)]) (st' := [.int (nI 0), .ref m]) 2 rfl ?_
  refine WW.mputI 10 rfl pfX3_213 hM5 rfl rfl rfl rfl (fun w6 hM6 fr6 => ?_)
  have h9 := hM6
  obtain ⟨u1, hu1⟩ : ∃ z, z = w6 := ⟨_, rfl⟩
  have f9 : mFr m A w u1 := by rw [hu1]; exact ((fr4.trans fr5).trans fr6)
  rw [pI_start h4, ← hu1] at h9
  rw [← hu1]
  have h9 : isM u1 m A (pI I n (0, false) 0) (va_up F 7 (F 7)) := by rw [va_up_id]; exact h9
  refine WW.run (pc' := 16) (lv' := [(0, .ref m)]) (st' := [.ref m]) 1 rfl ?_
  refine WW.callV [] m [] rfl mX3_243 (mY_readCommand h9 h60 (Nat.zero_le _) (by decide)) (wdRecv.obj h9.1 rfl) rfl rfl (wd_le rfl) (wd_le rfl) (wd_le rfl) (wd_le rfl) (fun o u2 hq => ?_)
  obtain ⟨rfl, s, g, hM2, hs2, ⟨hg, hrel⟩, fr2⟩ := hq
  show WW _ _ _ 19 _ [] _
  refine mY_reads h60 K (fun u s c g hK3 hs hM fr0 => ?_) (n + 1) s 1 g u2 ?_ hs2 hM2 (f9.trans fr2)
  · skip
    refine WW.run (pc' := 55) (lv' := [(0, .ref m)]) (st' := [.ref m, .ref m]) 2 rfl ?_
    refine WW.get rfl fX3_192 hM.1 (show _ = some (.int (bI s.2)) from rfl) ?_
    have hfail : K = .inl s.1 → WW (l, G, MX3_runCommands, 8, 0, 0, mTK m A J cur hn hist sv ic on oc K w) 0 0 77 [(0, .ref m)] [.int (nI 1), .ref m] u := by
      intro hKe
      rw [hKe]
      refine WW.mputI 6 rfl pfX3_192 hM rfl rfl rfl rfl (fun w7 hM7 fr7 => ?_)
      refine WW.run (pc' := 82) (lv' := [(0, .ref m)]) (st' := [.ref m, .ref m]) 2 rfl ?_
      refine WW.get rfl fX3_192 hM7.1 (show _ = some (.int (nI 1)) from rfl) ?_
      refine WW.if_eq (tgt := 95) rfl rfl (fun hno => absurd hno (by decide)) (fun _ => ?_)
      refine WW.run (pc' := 89) (lv' := [(0, .ref m)]) (st' := [.ref m, .ref m]) 1 rfl ?_
      refine WW.get rfl fX3_185 hM7.1 (show _ = some (.int (nI s.1)) from rfl) ?_
      refine WW.run (pc' := 99) (lv' := [(0, .ref m)]) (st' := [.int (nI s.1), .ref m]) 1 rfl ?_
      refine WW.mputI 7 rfl pfX3_32 hM7 rfl rfl rfl rfl (fun w8 hM8 fr8 => ?_)
      refine WW.run (pc' := 104) (lv' := [(0, .ref m)]) (st' := [.int (nI 0), .ref m]) 2 rfl ?_
      refine WW.mputI 4 rfl pfX3_182 hM8 rfl rfl rfl rfl (fun w9 hM9 fr9 => ?_)
      refine WW.run (pc' := 108) (lv' := [(0, .ref m)]) (st' := [.ref m]) 1 rfl ?_
      refine WW.get rfl fX3_192 hM9.1 (show _ = some (.int (nI 1)) from rfl) ?_
      refine WW.if_eq (tgt := 120) rfl rfl (fun hno => absurd hno (by decide)) (fun _ => ?_)
      refine WW.run (pc' := 116) (lv' := [(0, .ref m)]) (st' := [.int (nI 1), .ref m]) 2 rfl ?_
      have h8 := hM9
      have f8 : mFr m A w w9 := (((fr0.trans fr7).trans fr8).trans fr9)
      rw [← va_up_id (va_up F 7 g) 0] at h8
      refine WW.callV [.int (nI 1)] m [] rfl mX3_70 (sS_fails h8 (nI 1)) (wdRecv.obj h8.1 rfl) rfl rfl (wd_le rfl) (wd_le rfl) (wd_le rfl) (wd_le rfl) (fun o u9 hq => ?_)
      obtain ⟨rfl, hM9, fq9⟩ := hq
      show WW _ _ _ 119 _ [.int (nI 0)] _
      refine WW.iret rfl rfl rfl ⟨rfl, ⟨_, _, hM9, rfl, ?_⟩, f8.trans fq9⟩
      obtain ⟨g0, g1, g2, g3, g4, g5, g6, g7⟩ := hR
      refine ⟨g0, g1, ?_, g3, ⟨rfl, Nat.zero_le _, fun i hi => absurd hi (Nat.not_lt_zero i)⟩, rfl, g6, g7⟩
      cases sv with
      | none => exact g2
      | some T => exact g2
    rcases hK3 with ⟨hb, hk⟩ | ⟨hb, hlt, hk⟩ | ⟨hb, hge, hc59, ds, hd1, hd2, hk⟩
    · skip
      refine WW.if_ne (tgt := 72) rfl rfl (fun _ => ?_) (fun hno => absurd hno (by rw [hb]; decide))
      refine WW.run (pc' := 77) (lv' := [(0, .ref m)]) (st' := [.int (nI 1), .ref m]) 2 rfl ?_
      exact hfail hk
    · skip
      refine WW.if_ne (tgt := 72) rfl rfl (fun hno => absurd (by rw [hb]; decide) hno) (fun _ => ?_)
      refine WW.run (pc' := 62) (lv' := [(0, .ref m)]) (st' := [.ref m, .ref m]) 1 rfl ?_
      refine WW.get rfl fX3_185 hM.1 (show _ = some (.int (nI s.1)) from rfl) ?_
      refine WW.run (pc' := 66) (lv' := [(0, .ref m)]) (st' := [.ref m, .int (nI s.1), .ref m]) 1 rfl ?_
      refine WW.get rfl fX3_182 hM.1 (show _ = some (.int (nI n)) from rfl) ?_
      refine WW.icmp_ge (tgt := 76) rfl rfl (fun hno => absurd hno (nI_ge hlt (by omega))) (fun _ => ?_)
      refine WW.run (pc' := 77) (lv' := [(0, .ref m)]) (st' := [.int (nI 1), .ref m]) 2 rfl ?_
      exact hfail hk
    · skip
      refine WW.if_ne (tgt := 72) rfl rfl (fun hno => absurd (by rw [hb]; decide) hno) (fun _ => ?_)
      refine WW.run (pc' := 62) (lv' := [(0, .ref m)]) (st' := [.ref m, .ref m]) 1 rfl ?_
      refine WW.get rfl fX3_185 hM.1 (show _ = some (.int (nI s.1)) from rfl) ?_
      refine WW.run (pc' := 66) (lv' := [(0, .ref m)]) (st' := [.ref m, .int (nI s.1), .ref m]) 1 rfl ?_
      refine WW.get rfl fX3_182 hM.1 (show _ = some (.int (nI n)) from rfl) ?_
      refine WW.icmp_ge (tgt := 76) rfl rfl (fun _ => ?_) (fun hno => absurd (nI_le (Nat.le_of_not_lt hge) (by omega)) hno)
      refine WW.run (pc' := 77) (lv' := [(0, .ref m)]) (st' := [.int (nI 0), .ref m]) 1 rfl ?_
      refine WW.mputI 6 rfl pfX3_192 hM rfl rfl rfl rfl (fun w10 hM10 fr10 => ?_)
      refine WW.run (pc' := 82) (lv' := [(0, .ref m)]) (st' := [.ref m, .ref m]) 2 rfl ?_
      refine WW.get rfl fX3_192 hM10.1 (show _ = some (.int (nI 0)) from rfl) ?_
      refine WW.if_eq (tgt := 95) rfl rfl (fun _ => ?_) (fun hno => absurd rfl hno)
      refine WW.run (pc' := 96) (lv' := [(0, .ref m)]) (st' := [.ref m, .ref m]) 1 rfl ?_
      refine WW.get rfl fX3_32 hM10.1 (show _ = some (.int ((va_up (pI I n s c) 6 (nI 0)) 7)) from rfl) ?_
      refine WW.mputI 7 rfl pfX3_32 hM10 rfl rfl rfl rfl (fun w11 hM11 fr11 => ?_)
      refine WW.run (pc' := 104) (lv' := [(0, .ref m)]) (st' := [.int (nI 0), .ref m]) 2 rfl ?_
      refine WW.mputI 4 rfl pfX3_182 hM11 rfl rfl rfl rfl (fun w12 hM12 fr12 => ?_)
      refine WW.run (pc' := 108) (lv' := [(0, .ref m)]) (st' := [.ref m]) 1 rfl ?_
      refine WW.get rfl fX3_192 hM12.1 (show _ = some (.int (nI 0)) from rfl) ?_
      refine WW.if_eq (tgt := 120) rfl rfl (fun _ => ?_) (fun hno => absurd rfl hno)
      refine WW.run (pc' := 121) (lv' := [(0, .ref m)]) (st' := [.ref m]) 1 rfl ?_
      have h8 := hM12
      have f8 : mFr m A w w12 := (((fr0.trans fr10).trans fr11).trans fr12)
      refine WW.callV [] m [] rfl mX3_73 (sM_keep h8) (wdRecv.obj h8.1 rfl) rfl rfl (wd_le rfl) (wd_le rfl) (wd_le rfl) (wd_le rfl) (fun o u9 hq => ?_)
      obtain ⟨_, I9, F9, rfl, ⟨rfl, hI9, hF9⟩, hM9, fr9⟩ := hq
      show WW _ _ _ 124 _ [] _
      refine WW.run (pc' := 126) (lv' := [(1, .int (nI 0)), (0, .ref m)]) (st' := []) 2 rfl ?_
      rw [hk]
      have hB : fS (va_cpy (F 0) (F 1) 0 0 81) cur := hR.1.cpy0 hW _
      have hWf2 := hWf ds (hK.symm.trans hk)
      have hR9 : mR I9 F9 J cur hn hist sv 0 ic on oc := by
        rw [hI9, hF9]
        obtain ⟨g0, g1, g2, g3, g4, g5, g6, g7⟩ := hR
        refine ⟨g0, g1, ?_, g3, ⟨rfl, Nat.zero_le _, fun i hi => absurd hi (Nat.not_lt_zero i)⟩, g5, g6, g7⟩
        cases sv with
        | none => exact g2
        | some T => exact g2
      rw [← va_up_id F9 0] at hM9
      exact mY_loop hW hWh (aRun ds 0 cur) ds.length (by rw [hF9]; exact hB) hR9 (by rw [hI9]; rfl) (by rw [hI9, hd1]; rfl) (by omega) ds 0 cur (F9 0) u9 hWf2 (by rw [hF9]; exact hd2) (Nat.zero_add _) rfl (by rw [hF9]; exact hR.1) hM9 (f8.trans fr9)
  · rw [← hcong]
    unfold kAll
    cases hkc : kCmd (F 6) n 0 with
    | inl e =>
      rw [hkc] at hrel
      dsimp only at hrel
      exact Or.inl ⟨by rw [hrel], by rw [hrel]⟩
    | inr z =>
      obtain ⟨p2, k2, v2⟩ := z
      rw [hkc] at hrel
      dsimp only at hrel
      obtain ⟨e1, e2, e3⟩ := hrel
      obtain ⟨e4, e5⟩ := kCmd_end (Nat.zero_le _) hkc
      have hk6 : k2 ≤ 6 := kCmd_k hkc
      refine Or.inr ⟨by rw [e1], by rw [e1]; show n + 1 ≤ n + 1 + p2; omega, by rw [e1]; show 3 * 1 ≤ p2; omega, [(k2, v2)], rfl, ?_, ?_⟩
      · have hz : kEnc (F 7) 0 [] := fun j z hz => by simp at hz
        exact hz.snoc rfl hg hk6 e2 e3
      · rw [e1]
        dsimp only
        cases kRest (F 6) n (n + 1) p2 with
        | inl e => rfl
        | inr cs => rfl
end
