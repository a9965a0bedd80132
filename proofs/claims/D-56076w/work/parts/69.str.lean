set_option maxRecDepth 100000
/-! STRINGS, and the JDK's small helpers -/
theorem WW.ldcwS {X : wdX} {kc ks pc idx i : Nat} {q : String × Nat × String × Int32 × Int32 × List Nat} {lv : List (Nat × Value)} {rest : List Value} {w : wdW} (ht : X.M.tab pc = some (.ldc_w idx, 3)) (hst : wdSt[i]? = some q) (ho : q.1 = X.M.y.cls ∧ q.2.1 = idx)
    (kk : WW X kc ks (pc + 3) lv (.ref (wdSa X.G i) :: rest) w) : WW X kc ks pc lv rest w := by
  intro p e R s m args below meth c H locs cells slots ls A hH hS hl hcc hss T hT Y
  obtain ⟨t, a1, b1⟩ := kk p e R s m args below meth c H locs cells slots ls A hH hS hl hcc hss T hT Y
  have hZ := (wdStr A hst).2.2.2.2.2.2
  have hd := A.tab ht
  rw [← ho.2] at hd
  exact ⟨t, Y.ldcStringW A.exec (by rw [ho.1]; exact A.own) (text := q.2.2.1) (a := wdSa X.G i) hZ.1 hZ.2 (g := F0 m pc ls rest) rfl (by rw [A.code]; exact hd) t a1, b1⟩
theorem WW.ldcI {X : wdX} {kc ks pc idx : Nat} {v : Int32} {lv : List (Nat × Value)} {rest : List Value} {w : wdW} (ht : X.M.tab pc = some (.ldc idx, 2)) (hl0 : (Cond.constant X.M.y.cls idx v) ∈ lw_all)
    (kk : WW X kc ks (pc + 2) lv (.int v :: rest) w) : WW X kc ks pc lv rest w :=
  fun p e R s m args below meth c H locs cells slots ls A hH hS hl hcc hss => lv_ldc A.exec A.code A.own (A.hts _ hl0) (A.tab ht) (kk p e R s m args below meth c H locs cells slots ls A hH hS hl hcc hss)
theorem WW.baldN {X : wdX} {kc ks pc a n : Nat} {f : Nat → Int32} {i v : Int32} {lv : List (Nat × Value)} {rest : List Value} {w : wdW} (j : Nat) (ht : X.M.tab pc = some (.baload, 1)) (hc : w.1 34 a = some (.inr (n, .inl f))) (hi : i = nI j) (hj : j < n) (hn : n < 2 ^ 31) (hv : f j = v)
    (k : WW X kc ks (pc + 1) lv (.int v :: rest) w) : WW X kc ks pc lv (.int i :: .ref a :: rest) w := by
  subst hi hv
  have e : (nI j).toNatClampNeg = j := nI_clamp (by omega)
  refine WW.bald ht hc (vp_in_nI hj hn) ?_
  rw [e]; exact k
theorem WW.bastN {X : wdX} {kc ks pc a n : Nat} {f f' : Nat → Int32} {i x : Int32} {lv : List (Nat × Value)} {rest : List Value} {w : wdW} (j : Nat) (ht : X.M.tab pc = some (.bastore, 1)) (hc : w.1 34 a = some (.inr (n, .inl f))) (hi : i = nI j) (hj : j < n) (hn : n < 2 ^ 31) (hx : vp_nar .byte x = x) (hf : va_up f j x = f')
    (k : WW X kc ks (pc + 1) lv rest (wPut w 34 a (.inr (n, .inl f')))) : WW X kc ks pc lv (.int x :: .int i :: .ref a :: rest) w := by
  subst hi
  have e : (nI j).toNatClampNeg = j := nI_clamp (by omega)
  exact WW.bast ht hc (vp_in_nI hj hn) (by rw [e, hx]; exact hf) k
theorem WW.newB {X : wdX} {kc ks pc N : Nat} {n : Int32} {lv : List (Nat × Value)} {rest : List Value} {w : wdW} (ht : X.M.tab pc = some (.newarray .byte, 2)) (hn : n = nI N) (hN : N < 100000) (hc1 : 1 ≤ kc) (hs1 : N ≤ ks)
    (kk : ∀ q : Nat, w.2 ≤ q → WW X (kc - 1) (ks - N) (pc + 2) lv (.ref q :: rest) (wNew w 34 q (.inr (N, .inl (fun _ => nI 0))))) : WW X kc ks pc lv (.int n :: rest) w := by
  subst hn
  exact WW.newa 34 2 .byte (N, .inl (fun _ => nI 0)) ht rfl rfl (fun U cA h => h) q211 (fun cA => rfl) (nI_pos (by omega)) (nI_clamp (by omega)) (by show N * 1 ≤ _; omega) hc1 hs1 kk
theorem i_shr0 (x : Int32) : x >>> ((0 : Int32) &&& 31) = x := by
  rw [show (0 : Int32) &&& 31 = 0 from rfl]
  exact Int32.shiftRight_zero
theorem i_shl0 (x : Int32) : x <<< ((0 : Int32) &&& 31) = x := by
  rw [show (0 : Int32) &&& 31 = 0 from rfl]
  exact Int32.shiftLeft_zero
theorem chr_and {b : Nat} (h : b < 128) : ((nI b &&& nI 255).toUInt32 % 65536).toInt32 = nI b := by
  have : ∀ b, b < 128 → ((nI b &&& nI 255).toUInt32 % 65536).toInt32 = nI b := by decide +kernel
  exact this b h
theorem chr_nar {b : Nat} (h : b < 128) : narrow .char (.int (nI b)) = .int (nI b) := by
  have : ∀ b, b < 128 → narrow .char (.int (nI b)) = .int (nI b) := by decide +kernel
  exact this b h
theorem chr_narB {b : Nat} (h : b < 128) : vp_nar .byte (nI b) = nI b := by
  have : ∀ b, b < 128 → vp_nar .byte (nI b) = nI b := by decide +kernel
  exact this b h
theorem chr_narC {b : Nat} (h : b < 128) : vp_nar .char (nI b) = nI b := by
  have : ∀ b, b < 128 → vp_nar .char (nI b) = nI b := by decide +kernel
  exact this b h
theorem chr_i2b {b : Nat} (h : b < 128) : (nI b).toInt8.toInt32 = nI b := by
  have : ∀ b, b < 128 → (nI b).toInt8.toInt32 = nI b := by decide +kernel
  exact this b h
theorem chr_i2c {b : Nat} (h : b < 128) : ((nI b).toUInt32 % 65536).toInt32 = nI b := by
  have : ∀ b, b < 128 → ((nI b).toUInt32 % 65536).toInt32 = nI b := by decide +kernel
  exact this b h
theorem chr_fit {b : Nat} (h : b < 128) : fits .byte (.int (nI b)) = true := by
  have : ∀ b, b < 128 → fits .byte (.int (nI b)) = true := by decide +kernel
  exact this b h
theorem sub_le0 {a b : Nat} (ha : a < 2 ^ 29) (hb : b < 2 ^ 29) : (nI a - nI b ≤ 0) ↔ a ≤ b := by
  rw [Int32.le_iff_toInt_le, i_sub ha hb, show (0 : Int32).toInt = 0 from rfl]
  omega
section
variable {l : Launch} {G : wdG} {w : wdW} {i : Nat} {q : String × Nat × String × Int32 × Int32 × List Nat}
theorem sK_checkIndex {k n : Nat} (hk : k < n) (hn : n < 2 ^ 31) (r : Option Nat) : SpR l G MJ17_checkIndex 0 [.int (nI k), .int (nI n), va_rf r] w (.int (nI k)) := by
  cases r with
  | none =>
    show SpR l G MJ17_checkIndex 0 [.int (nI k), .int (nI n), .null] w (.int (nI k))
    refine Sp.of rfl (by decide +kernel) kJ17_checkIndex (wd_le rfl) ?_
    refine WW.run (pc' := 1) (lv' := [(0, .int (nI k)), (1, .int (nI n)), (2, .null)]) (st' := [.int (nI k)]) 1 rfl ?_
    refine WW.if_lt (tgt := 9) rfl rfl (fun hno => absurd hno (nI_pos (by omega))) (fun _ => ?_)
    refine WW.run (pc' := 6) (lv' := [(0, .int (nI k)), (1, .int (nI n)), (2, .null)]) (st' := [.int (nI n), .int (nI k)]) 2 rfl ?_
    refine WW.icmp_lt (tgt := 16) rfl rfl (fun _ => ?_) (fun hno => absurd (nI_lt hk hn) hno)
    refine WW.run (pc' := 17) (lv' := [(0, .int (nI k)), (1, .int (nI n)), (2, .null)]) (st' := [.int (nI k)]) 1 rfl ?_
    exact WW.iret rfl rfl rfl ⟨rfl, rfl⟩
  | some t =>
    show SpR l G MJ17_checkIndex 0 [.int (nI k), .int (nI n), .ref t] w (.int (nI k))
    refine Sp.of rfl (by decide +kernel) kJ17_checkIndex (wd_le rfl) ?_
    refine WW.run (pc' := 1) (lv' := [(0, .int (nI k)), (1, .int (nI n)), (2, .ref t)]) (st' := [.int (nI k)]) 1 rfl ?_
    refine WW.if_lt (tgt := 9) rfl rfl (fun hno => absurd hno (nI_pos (by omega))) (fun _ => ?_)
    refine WW.run (pc' := 6) (lv' := [(0, .int (nI k)), (1, .int (nI n)), (2, .ref t)]) (st' := [.int (nI n), .int (nI k)]) 2 rfl ?_
    refine WW.icmp_lt (tgt := 16) rfl rfl (fun _ => ?_) (fun hno => absurd (nI_lt hk hn) hno)
    refine WW.run (pc' := 17) (lv' := [(0, .int (nI k)), (1, .int (nI n)), (2, .ref t)]) (st' := [.int (nI k)]) 1 rfl ?_
    exact WW.iret rfl rfl rfl ⟨rfl, rfl⟩
theorem sG_checkIndex {k n : Nat} (hk : k < n) (hn : n < 2 ^ 31) : Sp l G MJ5_checkIndex 1 0 0 [.int (nI k), .int (nI n)] w (fun o w' => o = .inl none ∧ w' = w) := by
  refine Sp.of rfl (by decide +kernel) kJ5_checkIndex (wd_le rfl) ?_
  refine WW.run (pc' := 2) (lv' := [(0, .int (nI k)), (1, .int (nI n))]) (st' := [.int (nI n), .int (nI k)]) 2 rfl ?_
  refine WW.getz rfl (fun l U H h => h.2.2.2.2.2.2.2.2.1.2.2) q696 (fun r => ?_)
  refine WW.callS [.int (nI k), .int (nI n), va_rf r] [] rfl mJ5_1059 (sK_checkIndex hk hn r) rfl rfl (wd_le rfl) (wd_le rfl) (wd_le rfl) (wd_le rfl) (fun o w' hq => ?_)
  obtain ⟨rfl, hw9⟩ := hq
  show WW _ _ _ 8 _ [.int (nI k)] _
  rw [hw9]
  clear hw9 w'
  refine WW.pure1 rfl rfl ?_
  exact WW.vret rfl rfl ⟨rfl, rfl⟩
theorem sG_coder (hst : wdSt[i]? = some q) : SpR l G MJ5_coder 0 [.ref (wdSa G i)] w (.int 0) := by
  refine Sp.of rfl (by decide +kernel) kJ5_coder (wd_le rfl) ?_
  refine WW.gets rfl (List.mem_of_getElem? (i := 0) rfl) q718 ?_
  refine WW.if_eq (tgt := 13) rfl rfl (fun hno => absurd hno (by decide)) (fun _ => ?_)
  refine WW.run (pc' := 7) (lv' := [(0, .ref (wdSa G i))]) (st' := [.ref (wdSa G i)]) 1 rfl ?_
  refine WW.getS (v := .int 0) rfl hst q857 (Or.inl rfl) ?_
  refine WW.run (pc' := 14) (lv' := [(0, .ref (wdSa G i))]) (st' := [.int 0]) 1 rfl ?_
  exact WW.iret rfl rfl rfl ⟨rfl, rfl⟩
theorem sG_isLatin1 (hst : wdSt[i]? = some q) : SpR l G MJ5_isLatin1 0 [.ref (wdSa G i)] w (.int (nI 1)) := by
  refine Sp.of rfl (by decide +kernel) kJ5_isLatin1 (wd_le rfl) ?_
  refine WW.gets rfl (List.mem_of_getElem? (i := 0) rfl) q718 ?_
  refine WW.if_eq (tgt := 17) rfl rfl (fun hno => absurd hno (by decide)) (fun _ => ?_)
  refine WW.run (pc' := 7) (lv' := [(0, .ref (wdSa G i))]) (st' := [.ref (wdSa G i)]) 1 rfl ?_
  refine WW.getS (v := .int 0) rfl hst q857 (Or.inl rfl) ?_
  refine WW.if_ne (tgt := 17) rfl rfl (fun hno => absurd rfl hno) (fun _ => ?_)
  refine WW.run (pc' := 18) (lv' := [(0, .ref (wdSa G i))]) (st' := [.int (nI 1)]) 2 rfl ?_
  exact WW.iret rfl rfl rfl ⟨rfl, rfl⟩
theorem sG_length (hst : wdSt[i]? = some q) : SpR l G MJ5_length 1 [.ref (wdSa G i)] w (.int (nI q.2.2.2.2.2.length)) := by
  refine Sp.of rfl (by decide +kernel) kJ5_length (wd_le rfl) ?_
  refine WW.run (pc' := 1) (lv' := [(0, .ref (wdSa G i))]) (st' := [.ref (wdSa G i)]) 1 rfl ?_
  refine WW.getS (v := .ref (wdSv G i)) rfl hst q856 (Or.inr (Or.inl rfl)) ?_
  refine WW.alenS rfl hst rfl ?_
  refine WW.run (pc' := 6) (lv' := [(0, .ref (wdSa G i))]) (st' := [.ref (wdSa G i), .int (nI q.2.2.2.2.2.length)]) 1 rfl ?_
  refine WW.callV [] (wdSa G i) [.int (nI q.2.2.2.2.2.length)] rfl mJ5_335 (sG_coder hst) (wdRecv.str hst) rfl rfl (wd_le rfl) (wd_le rfl) (wd_le rfl) (wd_le rfl) (fun o w' hq => ?_)
  obtain ⟨rfl, hw9⟩ := hq
  show WW _ _ _ 9 _ [.int 0, .int (nI q.2.2.2.2.2.length)] _
  rw [hw9]
  clear hw9 w'
  refine WW.run (pc' := 10) (lv' := [(0, .ref (wdSa G i))]) (st' := [.int ((nI q.2.2.2.2.2.length) >>> (0 &&& 31))]) 1 rfl ?_
  rw [i_shr0]
  exact WW.iret rfl rfl rfl ⟨rfl, rfl⟩
theorem sK_charAt (hst : wdSt[i]? = some q) {k : Nat} (hk : k < q.2.2.2.2.2.length) (hl : q.2.2.2.2.2.length < 2 ^ 31) (hb : q.2.2.2.2.2.getD k 0 < 128) : SpR l G MJ23_charAt 2 [.ref (wdSv G i), .int (nI k)] w (.int (nI (q.2.2.2.2.2.getD k 0))) := by
  refine Sp.of rfl (by decide +kernel) kJ23_charAt (wd_le rfl) ?_
  refine WW.run (pc' := 2) (lv' := [(0, .ref (wdSv G i)), (1, .int (nI k))]) (st' := [.ref (wdSv G i), .int (nI k)]) 2 rfl ?_
  refine WW.alenS rfl hst rfl ?_
  refine WW.callS [.int (nI k), .int (nI q.2.2.2.2.2.length)] [] rfl mJ23_9 (sG_checkIndex hk hl) rfl rfl (wd_le rfl) (wd_le rfl) (wd_le rfl) (wd_le rfl) (fun o w' hq => ?_)
  obtain ⟨rfl, hw9⟩ := hq
  show WW _ _ _ 6 _ [] _
  rw [hw9]
  clear hw9 w'
  refine WW.run (pc' := 8) (lv' := [(0, .ref (wdSv G i)), (1, .int (nI k))]) (st' := [.int (nI k), .ref (wdSv G i)]) 2 rfl ?_
  refine WW.baldS (v := .int (nI (q.2.2.2.2.2.getD k 0))) rfl hst (vp_in_nI hk hl) (by rw [nI_clamp (by omega)]) ?_
  refine WW.run (pc' := 14) (lv' := [(0, .ref (wdSv G i)), (1, .int (nI k))]) (st' := [.int ((((nI (q.2.2.2.2.2.getD k 0)) &&& (nI 255)).toUInt32 % 65536).toInt32)]) 3 rfl ?_
  rw [chr_and hb]
  exact WW.iret rfl rfl (chr_nar hb) ⟨rfl, rfl⟩
theorem sG_charAt (hst : wdSt[i]? = some q) {k : Nat} (hk : k < q.2.2.2.2.2.length) (hl : q.2.2.2.2.2.length < 2 ^ 31) (hb : q.2.2.2.2.2.getD k 0 < 128) : SpR l G MJ5_charAt 3 [.ref (wdSa G i), .int (nI k)] w (.int (nI (q.2.2.2.2.2.getD k 0))) := by
  refine Sp.of rfl (by decide +kernel) kJ5_charAt (wd_le rfl) ?_
  refine WW.run (pc' := 1) (lv' := [(0, .ref (wdSa G i)), (1, .int (nI k))]) (st' := [.ref (wdSa G i)]) 1 rfl ?_
  refine WW.callV [] (wdSa G i) [] rfl mJ5_492 (sG_isLatin1 hst) (wdRecv.str hst) rfl rfl (wd_le rfl) (wd_le rfl) (wd_le rfl) (wd_le rfl) (fun o w' hq => ?_)
  obtain ⟨rfl, hw9⟩ := hq
  show WW _ _ _ 4 _ [.int (nI 1)] _
  rw [hw9]
  clear hw9 w'
  refine WW.if_eq (tgt := 16) rfl rfl (fun hno => absurd hno (by decide)) (fun _ => ?_)
  refine WW.run (pc' := 8) (lv' := [(0, .ref (wdSa G i)), (1, .int (nI k))]) (st' := [.ref (wdSa G i)]) 1 rfl ?_
  refine WW.getS (v := .ref (wdSv G i)) rfl hst q856 (Or.inr (Or.inl rfl)) ?_
  refine WW.run (pc' := 12) (lv' := [(0, .ref (wdSa G i)), (1, .int (nI k))]) (st' := [.int (nI k), .ref (wdSv G i)]) 1 rfl ?_
  refine WW.callS [.ref (wdSv G i), .int (nI k)] [] rfl mJ5_495 (sK_charAt hst hk hl hb) rfl rfl (wd_le rfl) (wd_le rfl) (wd_le rfl) (wd_le rfl) (fun o w' hq => ?_)
  obtain ⟨rfl, hw9⟩ := hq
  show WW _ _ _ 15 _ [.int (nI (q.2.2.2.2.2.getD k 0))] _
  rw [hw9]
  clear hw9 w'
  exact WW.iret rfl rfl (chr_nar hb) ⟨rfl, rfl⟩
theorem sG_hash (hst : wdSt[i]? = some q) (hn : ¬ q.2.2.2.1 = 0) : SpR l G MJ5_hashCode 0 [.ref (wdSa G i)] w (.int q.2.2.2.1) := by
  refine Sp.of rfl (by decide +kernel) kJ5_hashCode (wd_le rfl) ?_
  refine WW.run (pc' := 1) (lv' := [(0, .ref (wdSa G i))]) (st' := [.ref (wdSa G i)]) 1 rfl ?_
  refine WW.getS (v := .int q.2.2.2.1) rfl hst q858 (Or.inr (Or.inr (Or.inl rfl))) ?_
  refine WW.run (pc' := 6) (lv' := [(1, .int q.2.2.2.1), (0, .ref (wdSa G i))]) (st' := [.int q.2.2.2.1]) 2 rfl ?_
  refine WW.if_ne (tgt := 58) rfl rfl (fun _ => ?_) (fun hno => absurd hno hn)
  refine WW.run (pc' := 59) (lv' := [(1, .int q.2.2.2.1), (0, .ref (wdSa G i))]) (st' := [.int q.2.2.2.1]) 1 rfl ?_
  exact WW.iret rfl rfl rfl ⟨rfl, rfl⟩
theorem sG_equals (a : Nat) : SpR l G MJ5_equals 0 [.ref a, .ref a] w (.int (nI 1)) := by
  refine Sp.of rfl (by decide +kernel) kJ5_equals (wd_le rfl) ?_
  refine WW.run (pc' := 2) (lv' := [(0, .ref a), (1, .ref a)]) (st' := [.ref a, .ref a]) 2 rfl ?_
  refine WW.acmp_ne (tgt := 7) (rx := some a) (ry := some a) rfl rfl (fun hno => absurd rfl hno) (fun _ => ?_)
  refine WW.run (pc' := 6) (lv' := [(0, .ref a), (1, .ref a)]) (st' := [.int (nI 1)]) 1 rfl ?_
  exact WW.iret rfl rfl rfl ⟨rfl, rfl⟩
theorem sG_getBytes (hst : wdSt[i]? = some q) {dst cap d : Nat} {f : Nat → Int32} (hA : w.1 34 dst = some (.inr (cap, .inl f))) (hd : d + q.2.2.2.2.2.length ≤ cap) (hc : cap < 2 ^ 31) (hb : ∀ j, j < q.2.2.2.2.2.length → q.2.2.2.2.2.getD j 0 < 128) : Sp l G MJ5_getBytes 1 0 0 [.ref (wdSa G i), .ref dst, .int (nI d), .int 0] w (fun o w' => o = .inl none ∧ w' = wPut w 34 dst (.inr (cap, .inl (va_cpy (fun j => nI (q.2.2.2.2.2.getD j 0)) f 0 d q.2.2.2.2.2.length)))) := by
  refine Sp.of rfl (by decide +kernel) kJ5_getBytes (wd_le rfl) ?_
  refine WW.run (pc' := 1) (lv' := [(0, .ref (wdSa G i)), (1, .ref dst), (2, .int (nI d)), (3, .int 0)]) (st' := [.ref (wdSa G i)]) 1 rfl ?_
  refine WW.callV [] (wdSa G i) [] rfl mJ5_335 (sG_coder hst) (wdRecv.str hst) rfl rfl (wd_le rfl) (wd_le rfl) (wd_le rfl) (wd_le rfl) (fun o w' hq => ?_)
  obtain ⟨rfl, hw9⟩ := hq
  show WW _ _ _ 4 _ [.int 0] _
  rw [hw9]
  clear hw9 w'
  refine WW.run (pc' := 5) (lv' := [(0, .ref (wdSa G i)), (1, .ref dst), (2, .int (nI d)), (3, .int 0)]) (st' := [.int 0, .int 0]) 1 rfl ?_
  refine WW.icmp_ne (tgt := 28) rfl rfl (fun hno => absurd rfl hno) (fun _ => ?_)
  refine WW.run (pc' := 9) (lv' := [(0, .ref (wdSa G i)), (1, .ref dst), (2, .int (nI d)), (3, .int 0)]) (st' := [.ref (wdSa G i)]) 1 rfl ?_
  refine WW.getS (v := .ref (wdSv G i)) rfl hst q856 (Or.inr (Or.inl rfl)) ?_
  refine WW.run (pc' := 18) (lv' := [(0, .ref (wdSa G i)), (1, .ref dst), (2, .int (nI d)), (3, .int 0)]) (st' := [.ref (wdSa G i), .int ((nI d) <<< (0 &&& 31)), .ref dst, .int (nI 0), .ref (wdSv G i)]) 6 rfl ?_
  refine WW.getS (v := .ref (wdSv G i)) rfl hst q856 (Or.inr (Or.inl rfl)) ?_
  rw [i_shl0]
  refine WW.alenS rfl hst rfl ?_
  refine WW.copyS (g' := va_cpy (fun j => nI (q.2.2.2.2.2.getD j 0)) f 0 d q.2.2.2.2.2.length) rfl mJ5_212 hst hA (nI_pos (by decide)) (nI_pos (by omega)) (nI_pos (by omega)) (by rw [nI_clamp (by decide), nI_clamp (by omega)]; omega) (by rw [nI_clamp (by omega), nI_clamp (by omega)]; exact hd) (fun j hj => by rw [nI_clamp (by omega)] at hj; rw [nI_clamp (by decide), Nat.zero_add]; exact chr_fit (hb j hj)) (by rw [nI_clamp (by decide), nI_clamp (by omega), nI_clamp (by omega)]) (wd_le rfl) (wd_le rfl) ?_
  refine WW.run (pc' := 43) (lv' := [(0, .ref (wdSa G i)), (1, .ref dst), (2, .int (nI d)), (3, .int 0)]) (st' := []) 1 rfl ?_
  exact WW.vret rfl rfl ⟨rfl, rfl⟩
theorem sK_newLength {a b c : Nat} (ha : a < 2 ^ 20) (hb : b < 2 ^ 20) (hc : c < 2 ^ 20) (h0 : 0 < c) : SpR l G MJ12_newLength 1 [.int (nI a), .int (nI b), .int (nI c)] w (.int (nI (a + max b c))) := by
  refine Sp.of rfl (by decide +kernel) kJ12_newLength (wd_le rfl) ?_
  refine WW.run (pc' := 3) (lv' := [(0, .int (nI a)), (1, .int (nI b)), (2, .int (nI c))]) (st' := [.int (nI c), .int (nI b), .int (nI a)]) 3 rfl ?_
  have em : (if nI b < nI c then nI c else nI b) = nI (max b c) := by
    by_cases e : b < c
    · rw [if_pos (nI_lt e (by omega)), Nat.max_eq_right (by omega)]
    · rw [if_neg (nI_nlt (by omega) (by omega)), Nat.max_eq_left (by omega)]
  refine WW.mmax rfl q454 q455 q82 q456 (wd_le rfl) (wd_le rfl) ?_
  rw [em]
  refine WW.run (pc' := 10) (lv' := [(3, .int ((nI a) + (nI (max b c)))), (0, .int (nI a)), (1, .int (nI b)), (2, .int (nI c))]) (st' := [.int ((nI a) + (nI (max b c))), .int (nI 0)]) 4 rfl ?_
  refine WW.icmp_ge (tgt := 21) rfl rfl (fun hno => absurd hno (by rw [nI_add]; exact nI_ge (by omega) (by omega))) (fun _ => ?_)
  refine WW.run (pc' := 14) (lv' := [(3, .int ((nI a) + (nI (max b c)))), (0, .int (nI a)), (1, .int (nI b)), (2, .int (nI c))]) (st' := [.int ((nI a) + (nI (max b c)))]) 1 rfl ?_
  refine WW.ldcI rfl q457 ?_
  rw [nI_add]
  refine WW.icmp_gt (tgt := 21) rfl rfl (fun hno => absurd hno (by rw [show (2147483639 : Int32) = nI 2147483639 from rfl]; exact nI_nlt (by omega) (by decide))) (fun _ => ?_)
  refine WW.run (pc' := 20) (lv' := [(3, .int (nI (a + max b c))), (0, .int (nI a)), (1, .int (nI b)), (2, .int (nI c))]) (st' := [.int (nI (a + max b c))]) 1 rfl ?_
  exact WW.iret rfl rfl rfl ⟨rfl, rfl⟩
theorem sK_copyOf {arr cap n : Nat} {f : Nat → Int32} (hA : w.1 34 arr = some (.inr (cap, .inl f))) (hn : cap < n) (h20 : n < 100000) (hb : ∀ j, j < cap → fits .byte (.int (f j)) = true) : Sp l G MJ14_copyOf_3 1 1 n [.ref arr, .int (nI n)] w (fun o w' => ∃ r, w.2 ≤ r ∧ o = .inl (some (.ref r)) ∧ w'.1 34 r = some (.inr (n, .inl (va_cpy f (fun _ => nI 0) 0 0 cap))) ∧ wFr nP w w') := by
  refine Sp.of rfl (by decide +kernel) kJ14_copyOf_3 (wd_le rfl) ?_
  refine WW.ok fun ok => ?_
  replace ok : wdOk G w := ok
  refine WW.run (pc' := 2) (lv' := [(0, .ref arr), (1, .int (nI n))]) (st' := [.ref arr, .int (nI n)]) 2 rfl ?_
  refine WW.alen (v := nI cap) 34 2 rfl rfl hA rfl ?_
  refine WW.icmp_ne (tgt := 14) rfl rfl (fun _ => ?_) (fun hno => absurd hno (fun e => by have := (nI_eq (by omega) (by omega)).mp e; omega))
  refine WW.run (pc' := 15) (lv' := [(0, .ref arr), (1, .int (nI n))]) (st' := [.int (nI n)]) 1 rfl ?_
  refine WW.newB rfl rfl h20 (wd_le rfl) (Nat.le_refl _) (fun r hr => ?_)
  have hA2 : (wNew w 34 r (.inr (n, .inl (fun _ => nI 0)))).1 34 arr = some (.inr (cap, .inl f)) := by
    rw [wNew_ne]
    · exact hA
    · have := (ok.1 _ _ _ hA).2
      omega
  have hB2 : (wNew w 34 r (.inr (n, .inl (fun _ => nI 0)))).1 34 r = some (.inr (n, .inl (fun _ => nI 0))) := wNew_same _ _ _ _
  refine WW.run (pc' := 23) (lv' := [(2, .ref r), (0, .ref arr), (1, .int (nI n))]) (st' := [.ref arr, .int (nI 0), .ref r, .int (nI 0), .ref arr]) 6 rfl ?_
  refine WW.alen (v := nI cap) 34 2 rfl rfl hA2 rfl ?_
  refine WW.run (pc' := 25) (lv' := [(2, .ref r), (0, .ref arr), (1, .int (nI n))]) (st' := [.int (nI n), .int (nI cap), .int (nI 0), .ref r, .int (nI 0), .ref arr]) 1 rfl ?_
  refine WW.mmin rfl q497 q498 q82 q499 (wd_le rfl) (wd_le rfl) ?_
  rw [if_neg (nI_nlt (Nat.le_of_lt hn) (by omega))]
  refine WW.copy (f := f) (g := fun _ => nI 0) (g' := va_cpy f (fun _ => nI 0) 0 0 cap) 34 2 .byte rfl mJ14_150 rfl rfl hA2 hB2 (nI_pos (by decide)) (nI_pos (by decide)) (nI_pos (by omega)) (by rw [nI_clamp (by decide), nI_clamp (by omega)]; omega) (by rw [nI_clamp (by decide), nI_clamp (by omega)]; omega) (fun j hj => by rw [nI_clamp (by omega)] at hj; rw [nI_clamp (by decide), Nat.zero_add]; exact hb j hj) (by rw [nI_clamp (by decide), nI_clamp (by omega)]) (wd_le rfl) (wd_le rfl) ?_
  refine WW.run (pc' := 32) (lv' := [(2, .ref r), (0, .ref arr), (1, .int (nI n))]) (st' := [.ref r]) 1 rfl ?_
  exact WW.aret rfl rfl (Or.inr ⟨_, rfl⟩) (Or.inr ⟨_, rfl⟩) ⟨r, hr, rfl, wPut_same _ _ _ _, ((wFr.refl _ _).new hr).put (Or.inr hr)⟩
end
