set_option maxRecDepth 100000
/-! HOURS OF OIL by the ends of the leases -/
def aS.byEnds (S : aS) : Nat → Int32 → Int32 → Int32
  | 0, _, _ => -1
  | n + 1, oil, now => bif decide (S.next now S.nl = -1) then -1 else bif decide (oil / S.after now < S.next now S.nl - now) then now - S.hour + oil / S.after now else S.byEnds n (oil - S.after now * (S.next now S.nl - now)) (S.next now S.nl)
section
variable {l : Launch} {G : wdG} {w : wdW} {lo a : Nat} {Z gs gl gr : Nat → Nat} {S : aS}
theorem cS_endsLoop {Q : wdO → wdW → Prop} {v : Int32} (hW : aWf S) (hA : ∀ x, S.next x S.nl ≠ -1 → ¬ S.after x = 0) (m : Int32 → Nat) (hB : ∀ x, S.next x S.nl ≠ -1 → m (S.next x S.nl) < m x) (hQ : ∀ u, wFr nP w u → Q (.inl (some (.int v))) u) : ∀ (n : Nat) (oil now : Int32) (u : wdW), n < 2 ^ 20 → isS G u lo a Z gs gl gr S → m now ≤ n → S.byEnds (n + 1) oil now = v → wFr nP w u → WW (l, G, MX2_hoursByEnds, 4, 2000, 8000, Q) (2 * n + 2) (8 * n + 12) 16 [(3, .int (S.next now S.nl)), (2, .int now), (1, .int oil), (0, .ref a)] [] u := by
  intro n
  induction n with
  | zero =>
    intro oil now u hn hS hm hv fr
    have e : S.next now S.nl = -1 := Decidable.byContradiction fun q => absurd (hB now q) (by omega)
    have hv0 : S.byEnds 1 oil now = bif decide (S.next now S.nl = -1) then -1 else bif decide (oil / S.after now < S.next now S.nl - now) then now - S.hour + oil / S.after now else S.byEnds 0 (oil - S.after now * (S.next now S.nl - now)) (S.next now S.nl) := rfl
    rw [hv0, decide_eq_true e] at hv
    subst hv
    refine WW.run (pc' := 18) (lv' := [(3, .int (S.next now S.nl)), (2, .int now), (1, .int oil), (0, .ref a)]) (st' := [.int (-1), .int (S.next now S.nl)]) 2 rfl ?_
    refine WW.icmp_eq (tgt := 70) rfl rfl (fun _ => ?_) (fun hno => absurd e hno)
    refine WW.run (pc' := 71) (lv' := [(3, .int (S.next now S.nl)), (2, .int now), (1, .int oil), (0, .ref a)]) (st' := [.int (-1)]) 1 rfl ?_
    exact WW.iret rfl rfl rfl (hQ _ fr)
  | succ n ih =>
    intro oil now u hn hS hm hv fr
    have hv0 : S.byEnds (n + 1 + 1) oil now = bif decide (S.next now S.nl = -1) then -1 else bif decide (oil / S.after now < S.next now S.nl - now) then now - S.hour + oil / S.after now else S.byEnds (n + 1) (oil - S.after now * (S.next now S.nl - now)) (S.next now S.nl) := rfl
    rw [hv0] at hv
    have hb := hS.1.1
    refine WW.ok fun ok => ?_
    replace ok : wdOk G u := ok
    refine WW.run (pc' := 18) (lv' := [(3, .int (S.next now S.nl)), (2, .int now), (1, .int oil), (0, .ref a)]) (st' := [.int (-1), .int (S.next now S.nl)]) 2 rfl ?_
    refine WW.icmp_eq (tgt := 70) rfl rfl (fun e1 => ?_) (fun e1 => ?_)
    · skip
      rw [decide_eq_true e1] at hv
      subst hv
      refine WW.run (pc' := 71) (lv' := [(3, .int (S.next now S.nl)), (2, .int now), (1, .int oil), (0, .ref a)]) (st' := [.int (-1)]) 1 rfl ?_
      exact WW.iret rfl rfl rfl (hQ _ fr)
    rw [decide_eq_false e1] at hv
    have hne := hA now e1
    have hlt := hB now e1
    refine WW.run (pc' := 23) (lv' := [(3, .int (S.next now S.nl)), (2, .int now), (1, .int oil), (0, .ref a)]) (st' := [.int now, .ref a]) 2 rfl ?_
    refine WW.callV [.int now] a [] rfl mX2_194 (cS_after hS hW now) (wdRecv.obj hb rfl) rfl rfl (wd_le rfl) (wd_le rfl) (by omega) (by omega) (fun o u1 hq => ?_)
    obtain ⟨rfl, fr1⟩ := hq
    show WW _ _ _ 26 _ [.int (S.after now)] _
    have frA : wFr nP w u1 := fr.thn0 fr1
    have hS1 := hS.fr ok fr1
    have hb1 := hS1.1.1
    refine WW.run (pc' := 31) (lv' := [(4, .int (S.after now)), (3, .int (S.next now S.nl)), (2, .int now), (1, .int oil), (0, .ref a)]) (st' := [.int (S.after now), .int oil]) 3 rfl ?_
    refine WW.idiv rfl hne ?_
    refine WW.run (pc' := 35) (lv' := [(4, .int (S.after now)), (3, .int (S.next now S.nl)), (2, .int now), (1, .int oil), (0, .ref a)]) (st' := [.int ((S.next now S.nl) - now), .int (oil / (S.after now))]) 3 rfl ?_
    refine WW.icmp_ge (tgt := 50) rfl rfl (fun e2 => ?_) (fun e2 => ?_)
    · skip
      rw [decide_eq_false (Int32.not_lt.mpr e2)] at hv
      have ok1 := ok
      refine WW.ok fun ok => ?_
      replace ok : wdOk G u1 := ok
      refine WW.run (pc' := 63) (lv' := [(2, .int (S.next now S.nl)), (1, .int (oil - ((S.after now) * ((S.next now S.nl) - now)))), (4, .int (S.after now)), (3, .int (S.next now S.nl)), (0, .ref a)]) (st' := [.int (S.next now S.nl), .ref a]) 12 rfl ?_
      refine WW.callV [.int (S.next now S.nl)] a [] rfl mX2_191 (cS_nextEnd hS1 hW (S.next now S.nl)) (wdRecv.obj hb1 rfl) rfl rfl (wd_le rfl) (wd_le rfl) (by omega) (by omega) (fun o u2 hq => ?_)
      obtain ⟨rfl, fr2⟩ := hq
      show WW _ _ _ 66 _ [.int (S.next (S.next now S.nl) S.nl)] _
      refine WW.run (pc' := 16) (lv' := [(3, .int (S.next (S.next now S.nl) S.nl)), (2, .int (S.next now S.nl)), (1, .int (oil - ((S.after now) * ((S.next now S.nl) - now)))), (4, .int (S.after now)), (0, .ref a)]) (st' := []) 2 rfl ?_
      refine WW.pick (lv' := [(3, .int (S.next (S.next now S.nl) S.nl)), (2, .int (S.next now S.nl)), (1, .int (oil - ((S.after now) * ((S.next now S.nl) - now)))), (0, .ref a)]) [0, 1, 2, 4] rfl ?_
      exact WW.less (by omega) (by omega) (ih (oil - S.after now * (S.next now S.nl - now)) (S.next now S.nl) u2 (by omega) (hS1.fr ok fr2) (by omega) hv (frA.thn0 fr2))
    rw [decide_eq_true (Int32.not_le.mp e2)] at hv
    subst hv
    refine WW.run (pc' := 40) (lv' := [(4, .int (S.after now)), (3, .int (S.next now S.nl)), (2, .int now), (1, .int oil), (0, .ref a)]) (st' := [.ref a, .int now]) 2 rfl ?_
    refine WW.get rfl fX2_60 hb1 (show _ = some (.int S.hour) from rfl) ?_
    refine WW.run (pc' := 47) (lv' := [(4, .int (S.after now)), (3, .int (S.next now S.nl)), (2, .int now), (1, .int oil), (0, .ref a)]) (st' := [.int (S.after now), .int oil, .int (now - S.hour)]) 3 rfl ?_
    refine WW.idiv rfl hne ?_
    refine WW.run (pc' := 49) (lv' := [(4, .int (S.after now)), (3, .int (S.next now S.nl)), (2, .int now), (1, .int oil), (0, .ref a)]) (st' := [.int ((now - S.hour) + (oil / (S.after now)))]) 1 rfl ?_
    exact WW.iret rfl rfl rfl (hQ _ frA)
theorem cS_byEnds (hS : isS G w lo a Z gs gl gr S) (hW : aWf S) (hA : ∀ x, S.next x S.nl ≠ -1 → ¬ S.after x = 0) (m : Int32 → Nat) (hB : ∀ x, S.next x S.nl ≠ -1 → m (S.next x S.nl) < m x) (hm : m S.hour ≤ 600) : Sp l G MX2_hoursByEnds 4 2000 8000 [.ref a] w (fun q w' => q = .inl (some (.int (S.byEnds 601 S.oil S.hour))) ∧ wFr nP w w') := by
  refine Sp.of rfl (by decide +kernel) kX2_hoursByEnds (wd_le rfl) ?_
  refine WW.ok fun ok => ?_
  replace ok : wdOk G w := ok
  have h1 := hS.1.1
  refine WW.run (pc' := 1) (lv' := [(0, .ref a)]) (st' := [.ref a]) 1 rfl ?_
  refine WW.get rfl fX2_56 h1 (show _ = some (.int S.oil) from rfl) ?_
  refine WW.run (pc' := 6) (lv' := [(1, .int S.oil), (0, .ref a)]) (st' := [.ref a]) 2 rfl ?_
  refine WW.get rfl fX2_60 h1 (show _ = some (.int S.hour) from rfl) ?_
  refine WW.run (pc' := 12) (lv' := [(2, .int S.hour), (1, .int S.oil), (0, .ref a)]) (st' := [.int S.hour, .ref a]) 3 rfl ?_
  refine WW.callV [.int S.hour] a [] rfl mX2_191 (cS_nextEnd hS hW S.hour) (wdRecv.obj h1 rfl) rfl rfl (wd_le rfl) (wd_le rfl) (wd_le rfl) (wd_le rfl) (fun o u2 hq => ?_)
  obtain ⟨rfl, fr2⟩ := hq
  show WW _ _ _ 15 _ [.int (S.next S.hour S.nl)] _
  refine WW.run (pc' := 16) (lv' := [(3, .int (S.next S.hour S.nl)), (2, .int S.hour), (1, .int S.oil), (0, .ref a)]) (st' := []) 1 rfl ?_
  refine WW.pick (lv' := [(3, .int (S.next S.hour S.nl)), (2, .int S.hour), (1, .int S.oil), (0, .ref a)]) [0, 1, 2, 3] rfl ?_
  exact WW.less (by decide) (by decide) (cS_endsLoop (w := w) hW hA m hB (fun u fr => ⟨rfl, fr⟩) 600 S.oil S.hour u2 (by decide) (hS.fr ok fr2) hm rfl fr2)
end
