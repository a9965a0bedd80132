set_option maxRecDepth 100000
/-! THE OFFICE: writing -/
theorem oK_sb (inp : Nat) {w : wdW} {sb arr : Nat} {p1 p2 : wdPay} {G : wdG} (ok : wdOk G w) (h1 : w.1 12 sb = some p1) (h2 : w.1 34 arr = some p2) {w' : wdW} (fr : wFr (bP sb arr) w w') : oFr inp w w' :=
  ⟨fr.2, fun k b p hb hk => fr.at ok hb (fun z => by
    rcases z with z | z
    · rw [z] at hb
      have := ok.2.1 _ _ _ _ _ hb h1
      rcases hk with e | e | e | e | ⟨e, -⟩ <;> omega
    · rw [z] at hb
      have := ok.2.1 _ _ _ _ _ hb h2
      rcases hk with e | e | e | e | ⟨e, -⟩ <;> omega)⟩
section
variable {G : wdG} {l : Launch} {w : wdW} {hl : Nat} {o inp sb : Nat} {I : Nat → Int32} {cur : aS} {hn : Nat} {hist : Nat → aS} {sv : Option aS} {ic : Nat → Int32} {on : Nat} {oc : Nat → Int32}
/-- the builder has changed: the office stays -/
theorem isOx.bld {st harr sbarr : Nat} {hg : Nat → Nat} {sva : Option Nat} (h : isOx G w o hl inp sb st harr hg sva sbarr I cur hn hist sv ic on oc) (ok : wdOk G w) {w' : wdW} {on' : Nat} {oc' : Nat → Int32} (hb : bQ sb sbarr on' oc' w w') : ∃ sbarr', isOx G w' o hl inp sb st harr hg sva sbarr' I cur hn hist sv ic on' oc' ∧ oFr inp w w' ∧ ∀ k b p, w.1 k b = some p → k ≠ 12 → k ≠ 34 → w'.1 k b = some p := by
  obtain ⟨arr', hB, hz, fr⟩ := hb
  obtain ⟨h1, h2, h3, h4, h5, h6, h7⟩ := h
  obtain ⟨ml, cap, f, b1, b2, -⟩ := id h7
  have key : ∀ k b p, w.1 k b = some p → k ≠ 12 → k ≠ 34 → w'.1 k b = some p := fun k b p hp n1 n2 => fr.at ok hp (fun z => by
    rcases z with z | z
    · rw [z] at hp; exact n1 (ok.2.1 _ _ _ _ _ hp b1)
    · rw [z] at hp; exact n2 (ok.2.1 _ _ _ _ _ hp b2))
  have ks : ∀ {a : Nat} {S : aS}, isSo G w hl harr a S → isSo G w' hl harr a S := by
    rintro a S ⟨lo, Z, gs, gl, gr, g1, g2⟩
    exact ⟨lo, Z, gs, gl, gr, g1.keepK (fun k b p hp hk => key k b p hp (by rcases hk with e | e | e | e | ⟨e, -⟩ | ⟨e, -⟩ <;> omega) (by rcases hk with e | e | e | e | ⟨e, -⟩ | ⟨e, -⟩ <;> omega)), g2⟩
  refine ⟨arr', ⟨key _ _ _ h1 (by decide) (by decide), h2.to (fun p hp => key _ _ _ hp (by decide) (by decide)) (fun p hp => key _ _ _ hp (by decide) (by decide)), ks h3, fun i hi => ks (h4 i hi), ?_, key _ _ _ h6 (by decide) (by decide), hB⟩, oK_sb inp ok b1 b2 fr, key⟩
  cases sva <;> cases sv <;> first | exact h5 | exact ks h5
theorem cO_outputChar (h : isOf G w o hl inp sb I cur hn hist sv ic on oc) (hsm : tSm (on, oc)) (h31 : on < 2 ^ 31) (x : Int32) : Sp l G MX1_outputChar 8 2061 8346 [.ref o, .int x] w (oA G o hl inp sb I cur hn hist sv ic on oc [13] (bif inR x (nI 0) (nI on - nI 1) then .inr (.int (oc (tn x))) else .inl 1) w) := by
  have hO := h
  obtain ⟨st, harr, hg, sva, sbarr, h⟩ := h
  have g := h
  obtain ⟨g1, g2, g3, g4, g5, g6, g7⟩ := h
  obtain ⟨ml, cap, f, b1, b2, -⟩ := id g7
  refine Sp.of rfl (by decide +kernel) kX1_outputChar (wd_le rfl) ?_
  refine WW.ok fun ok => ?_
  replace ok : wdOk G w := ok
  refine WW.run (pc' := 3) (lv' := [(0, .ref o), (1, .int x)]) (st' := [.ref o, .int (nI 0), .int x]) 3 rfl ?_
  refine WW.get rfl fX1_37 g1 (show _ = some (.ref sb) from rfl) ?_
  refine WW.callV [] sb [.int (nI 0), .int x] rfl mX1_315 (sB_length g7) (wdRecv.obj b1 rfl) rfl rfl (wd_le rfl) (wd_le rfl) (wd_le rfl) (wd_le rfl) (fun o w' hq => ?_)
  obtain ⟨rfl, hw9⟩ := hq
  show WW _ _ _ 9 _ [.int (nI on), .int (nI 0), .int x] _
  rw [hw9]
  clear hw9 w'
  refine WW.run (pc' := 11) (lv' := [(0, .ref o), (1, .int x)]) (st' := [.int ((nI on) - (nI 1)), .int (nI 0), .int x]) 2 rfl ?_
  refine WW.callS [.int x, .int (nI 0), .int ((nI on) - (nI 1))] [] rfl mX1_203 (sO_between x (nI 0) (nI on - nI 1)) rfl rfl (wd_le rfl) (wd_le rfl) (wd_le rfl) (wd_le rfl) (fun o w' hq => ?_)
  obtain ⟨rfl, hw9⟩ := hq
  show WW _ _ _ 14 _ [.int (bI (inR x (nI 0) (nI on - nI 1)))] _
  rw [hw9]
  clear hw9 w'
  refine WW.callS [.int (bI (inR x (nI 0) (nI on - nI 1)))] [] rfl mX1_318 (sO_requireIndex (inR x (nI 0) (nI on - nI 1))) rfl rfl (wd_le rfl) (wd_le rfl) (wd_le rfl) (wd_le rfl) (fun o w' hq => ?_)
  cases hx : inR x (nI 0) (nI on - nI 1) with
  | false =>
    rw [hx] at hq
    obtain ⟨q, e1, rfl, e3, e4⟩ := hq
    show WX _ _ _ 14 _ [] _ _ _
    exact WX.out (fun _ h => nomatch h) ⟨oFr.of0 ok e3, hO.fr0 ok e3, 13, q, rfl, rfl⟩
  | true =>
    rw [hx] at hq
    obtain ⟨rfl, hw9⟩ := hq
    obtain ⟨j, hj, rfl, tx⟩ := ix_at h31 hx
    obtain ⟨b, hb, eb⟩ := hsm j hj
    have eb : oc j = nI b := eb
    rw [tx, eb]
    show WW _ _ _ 17 _ [] _
    rw [hw9]
    clear hw9 w'
    refine WW.run (pc' := 18) (lv' := [(0, .ref o), (1, .int (nI j))]) (st' := [.ref o]) 1 rfl ?_
    refine WW.get rfl fX1_37 g1 (show _ = some (.ref sb) from rfl) ?_
    refine WW.run (pc' := 22) (lv' := [(0, .ref o), (1, .int (nI j))]) (st' := [.int (nI j), .ref sb]) 1 rfl ?_
    refine WW.callV [.int (nI j)] sb [] rfl mX1_321 (sB_charAt g7 hj eb hb) (wdRecv.obj b1 rfl) rfl rfl (wd_le rfl) (wd_le rfl) (wd_le rfl) (wd_le rfl) (fun o w' hq => ?_)
    obtain ⟨rfl, hw9⟩ := hq
    show WW _ _ _ 25 _ [.int (nI b)] _
    rw [hw9]
    clear hw9 w'
    exact WW.iret rfl rfl (chr_nar hb) ⟨oFr.refl _ _, hO, rfl⟩
end
