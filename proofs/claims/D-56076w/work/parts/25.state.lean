set_option maxRecDepth 100000
/-! LOOPS -/
theorem WW.up {X : wdX} {kc ks pc : Nat} {st : List Value} {w : wdW} (n : Nat) (lv : Nat → List (Nat × Value)) (h : ∀ i, i < n → WW X kc ks pc (lv (i + 1)) st w → WW X kc ks pc (lv i) st w) (hn : WW X kc ks pc (lv n) st w) : WW X kc ks pc (lv 0) st w := by
  have key : ∀ d i, i + d = n → WW X kc ks pc (lv i) st w := by
    intro d
    induction d with
    | zero => intro i hi; have e : i = n := by omega
              subst e; exact hn
    | succ d ih => intro i hi; exact h i (by omega) (ih (i + 1) (by omega))
  exact key n 0 (by omega)
theorem WW.upW {X : wdX} {pc : Nat} {st : List Value} (n : Nat) (kc ks : Nat → Nat) (lv : Nat → List (Nat × Value)) (Inv : Nat → wdW → Prop) (h : ∀ i w, i < n → Inv i w → (∀ w', Inv (i + 1) w' → WW X (kc (i + 1)) (ks (i + 1)) pc (lv (i + 1)) st w') → WW X (kc i) (ks i) pc (lv i) st w)
    (hn : ∀ w, Inv n w → WW X (kc n) (ks n) pc (lv n) st w) {w : wdW} (h0 : Inv 0 w) : WW X (kc 0) (ks 0) pc (lv 0) st w := by
  have key : ∀ d i w, i + d = n → Inv i w → WW X (kc i) (ks i) pc (lv i) st w := by
    intro d
    induction d with
    | zero => intro i w hi hw; have e : i = n := by omega
              subst e; exact hn w hw
    | succ d ih => intro i w hi hw; exact h i w (by omega) hw (fun w' hw' => ih (i + 1) w' (by omega) hw')
  exact key n 0 w (by omega) h0
/-! THE STATE, as both sides see it -/
/-- coins, fines, dark hours -/
abbrev aSh : Type := Int32 × Int32 × Int32
/-- level, ship plus 1 (0: not leased), end, bright hours, was bright -/
abbrev aLa : Type := Int32 × Nat × Int32 × Int32 × Bool
/-- lamp, hours -/
abbrev aRe : Type := Nat × Int32
/-- ships, lamps, requests; oil, hour, office, refused -/
abbrev aS : Type := (Nat × (Nat → aSh)) × (Nat × (Nat → aLa)) × (Nat × (Nat → aRe)) × Int32 × Int32 × Int32 × Int32
abbrev aS.ns (S : aS) : Nat := S.1.1
abbrev aS.sh (S : aS) : Nat → aSh := S.1.2
abbrev aS.nl (S : aS) : Nat := S.2.1.1
abbrev aS.la (S : aS) : Nat → aLa := S.2.1.2
abbrev aS.nr (S : aS) : Nat := S.2.2.1.1
abbrev aS.rq (S : aS) : Nat → aRe := S.2.2.1.2
abbrev aS.oil (S : aS) : Int32 := S.2.2.2.1
abbrev aS.hour (S : aS) : Int32 := S.2.2.2.2.1
abbrev aS.office (S : aS) : Int32 := S.2.2.2.2.2.1
abbrev aS.refused (S : aS) : Int32 := S.2.2.2.2.2.2
abbrev aLa.lv (x : aLa) : Int32 := x.1
abbrev aLa.le (x : aLa) : Nat := x.2.1
abbrev aLa.en (x : aLa) : Int32 := x.2.2.1
abbrev aLa.br (x : aLa) : Int32 := x.2.2.2.1
abbrev aLa.was (x : aLa) : Bool := x.2.2.2.2
abbrev aS.wSh (S : aS) (i : Nat) (x : aSh) : aS := ((S.ns, va_up S.sh i x), S.2)
abbrev aS.wLa (S : aS) (i : Nat) (x : aLa) : aS := (S.1, (S.nl, va_up S.la i x), S.2.2)
abbrev aS.wOil (S : aS) (x : Int32) : aS := (S.1, S.2.1, S.2.2.1, x, S.hour, S.office, S.refused)
abbrev aS.wHour (S : aS) (x : Int32) : aS := (S.1, S.2.1, S.2.2.1, S.oil, x, S.office, S.refused)
abbrev aS.wOffice (S : aS) (x : Int32) : aS := (S.1, S.2.1, S.2.2.1, S.oil, S.hour, x, S.refused)
abbrev aS.wRef (S : aS) (x : Int32) : aS := (S.1, S.2.1, S.2.2.1, S.oil, S.hour, S.office, x)
abbrev aS.wRq (S : aS) (n : Nat) (g : Nat → aRe) : aS := (S.1, S.2.1, (n, g), S.2.2.2)
/-- what holds of every state: few of each, whom lamps are leased to, what requests speak of -/
def aWf (S : aS) : Prop := S.ns ≤ 6 ∧ S.nl ≤ 8 ∧ S.nr ≤ 8 ∧ (∀ i, i < S.nl → (S.la i).le ≤ S.ns) ∧ (∀ k, k < S.nr → (S.rq k).1 < S.nl ∧ 0 < (S.la (S.rq k).1).le) ∧ ∀ k k', k < S.nr → k' < S.nr → (S.rq k).1 = (S.rq k').1 → k = k'
/-- sums in order -/
def aSum (g : Nat → Int32) : Nat → Int32
  | 0 => nI 0
  | i + 1 => aSum g i + g i
def aAny (p : Nat → Bool) : Nat → Bool
  | 0 => false
  | i + 1 => aAny p i || p i
def aS.leasesOf (S : aS) (j : Nat) : Int32 := aSum (fun i => bI ((S.la i).le == j + 1)) S.nl
def aS.demand (S : aS) (j : Nat) : Int32 := aSum (fun i => bif (S.la i).le == j + 1 then (S.la i).lv else nI 0) S.nl
def aS.leased (S : aS) : Int32 := aSum (fun i => bI (Nat.blt 0 (S.la i).le)) S.nl
def aS.needs (S : aS) : Int32 := aSum (fun i => bif Nat.blt 0 (S.la i).le then (S.la i).lv else nI 0) S.nl
/-- the last request for a lamp among the first n -/
def aS.find (S : aS) (x : Nat) : Nat → Option Nat
  | 0 => none
  | k + 1 => bif (S.rq k).1 == x then some k else S.find x k
def aS.isReq (S : aS) (x : Nat) : Bool := aAny (fun k => (S.rq k).1 == x) S.nr
def aS.cut (S : aS) (k : Nat) : aS := S.wRq (S.nr - 1) (fun j => if j < k then S.rq j else S.rq (j + 1))
def aS.frees (S : aS) (i : Nat) : aS :=
  let S1 := match S.find i S.nr with
    | none => S
    | some k => S.cut k
  S1.wLa i ((S.la i).lv, 0, (S.la i).en, (S.la i).br, (S.la i).was)
/-- a lamp burns -/
def aS.glow (S : aS) (i : Nat) : Bool := Nat.blt 0 (S.la i).le && decide ((S.la i).lv ≤ S.oil)
def aS.burn1 (S : aS) (i : Nat) : aS := (S.wOil (S.oil - (bif S.glow i then (S.la i).lv else nI 0))).wLa i ((S.la i).lv, (S.la i).le, (S.la i).en, (S.la i).br + bI (S.glow i), S.glow i)
def aS.burnTo (S : aS) : Nat → aS
  | 0 => S
  | i + 1 => (S.burnTo i).burn1 i
def aS.burnN (S : aS) : Nat → Int32
  | 0 => nI 0
  | i + 1 => S.burnN i + bI ((S.burnTo i).glow i)
abbrev aS.burn (S : aS) : aS := S.burnTo S.nl
abbrev aS.brights (S : aS) : Int32 := S.burnN S.nl
def aS.pays (S : aS) (j : Nat) (c : Int32) : aS := (S.wSh j ((S.sh j).1 - c, (S.sh j).2.1, (S.sh j).2.2)).wOffice (S.office + c)
/-- a request is carried out, or refused -/
def aS.renew1 (S : aS) (k : Nat) : aS :=
  let x := (S.rq k).1
  let c := (S.la x).lv * (S.rq k).2
  let j := (S.la x).le - 1
  bif decide (c ≤ (S.sh j).1) then (S.pays j c).wLa x ((S.la x).lv, (S.la x).le, (S.la x).en + (S.rq k).2, (S.la x).br, (S.la x).was) else S.wRef (S.refused + nI 1)
def aS.renewTo (S : aS) : Nat → aS
  | 0 => S
  | k + 1 => (S.renewTo k).renew1 k
def aS.renew (S : aS) : aS := (S.renewTo S.nr).wRq 0 S.rq
def aS.lit (S : aS) (j : Nat) : Bool := aAny (fun i => (S.la i).le == j + 1 && (S.la i).was) S.nl
def iMin (x y : Int32) : Int32 := if x ≤ y then x else y
def aS.fine1 (S : aS) (j : Nat) : aS := bif decide (nI 0 < S.leasesOf j) && !(S.lit j) then
    let x := iMin (S.sh j).1 (nI 2 * S.leasesOf j)
    (S.wSh j ((S.sh j).1 - x, (S.sh j).2.1 + x, (S.sh j).2.2 + nI 1)).wOffice (S.office + x)
  else S
def aS.fineTo (S : aS) : Nat → aS
  | 0 => S
  | j + 1 => (S.fineTo j).fine1 j
abbrev aS.fine (S : aS) : aS := S.fineTo S.ns
def aS.over (S : aS) (i : Nat) : Bool := Nat.blt 0 (S.la i).le && decide ((S.la i).en = S.hour)
def aS.end1 (S : aS) (i : Nat) : aS := bif S.over i then S.frees i else S
def aS.endTo (S : aS) : Nat → aS
  | 0 => S
  | i + 1 => (S.endTo i).end1 i
def aS.endN (S : aS) : Nat → Int32
  | 0 => nI 0
  | i + 1 => S.endN i + bI ((S.endTo i).over i)
abbrev aS.tick (S : aS) : aS := S.wHour (S.hour + nI 1)
/-- an hour: the state, how many leases ended -/
def aS.hourS (S : aS) : aS := let T := S.renew.burn.fine.tick; T.endTo T.nl
def aS.hourN (S : aS) : Int32 := let T := S.renew.burn.fine.tick; T.endN T.nl
def aS.passTo (S : aS) : Nat → aS
  | 0 => S
  | k + 1 => (S.passTo k).hourS
def aS.passN (S : aS) : Nat → Int32
  | 0 => nI 0
  | k + 1 => S.passN k + (S.passTo k).hourN
/-! the commands: a place in the list of the exceptions, or an answer and the state behind it -/
abbrev aR : Type := Nat ⊕ (Int32 × aS)
def aS.ixS (S : aS) (x : Int32) : Bool := inR x (nI 0) (nI S.ns - nI 1)
def aS.ixL (S : aS) (x : Int32) : Bool := inR x (nI 0) (nI S.nl - nI 1)
def aS.ixR (S : aS) (x : Int32) : Bool := inR x (nI 0) (nI S.nr - nI 1)
abbrev tn (x : Int32) : Nat := x.toNatClampNeg
def aS.doShip (S : aS) : aR := if S.ns = 6 then .inl 1 else .inr (nI S.ns, ((S.ns + 1, va_up S.sh S.ns (nI 100, nI 0, nI 0)), S.2))
def aS.doLamp (S : aS) (x : Int32) : aR := bif inR x (nI 1) (nI 3) then (if S.nl = 8 then .inl 2 else .inr (nI S.nl, (S.1, (S.nl + 1, va_up S.la S.nl (x, 0, nI 0, nI 0, false)), S.2.2))) else .inl 1
def aS.doOil (S : aS) (x : Int32) : aR := bif inR x (nI 1) (nI 200) then (if nI 500 < S.oil + x then .inl 2 else .inr (S.oil + x, S.wOil (S.oil + x))) else .inl 1
def aS.doLease (S : aS) (x y h : Int32) : aR := bif S.ixS x && S.ixL y then
    bif inR h (nI 1) (nI 24) then
      bif Nat.blt 0 (S.la (tn y)).le then .inl 3
      else if (S.sh (tn x)).1 < (S.la (tn y)).lv * h then .inl 4
      else .inr (S.hour + h, (S.pays (tn x) ((S.la (tn y)).lv * h)).wLa (tn y) ((S.la (tn y)).lv, tn x + 1, S.hour + h, (S.la (tn y)).br, (S.la (tn y)).was))
    else .inl 2
  else .inl 1
def aS.doReq (S : aS) (y h : Int32) : aR := bif S.ixL y then
    bif inR h (nI 1) (nI 24) then
      bif Nat.blt 0 (S.la (tn y)).le then
        bif S.isReq (tn y) then .inl 4 else .inr (nI S.nr, S.wRq (S.nr + 1) (va_up S.rq S.nr (tn y, h)))
      else .inl 3
    else .inl 2
  else .inl 1
def aS.doDrop (S : aS) (y : Int32) : aR := bif S.ixL y then bif Nat.blt 0 (S.la (tn y)).le then .inr ((S.la (tn y)).en - S.hour, S.frees (tn y)) else .inl 2 else .inl 1
def aS.doWait (S : aS) (h : Int32) : aR := bif inR h (nI 1) (nI 48) then .inr (S.passN (tn h), S.passTo (tn h)) else .inl 1
/-! what the model's row of numbers says -/
def fS (f : Nat → Int32) (S : aS) : Prop := (f 0 = nI S.ns ∧ f 1 = nI S.nl ∧ f 2 = S.oil ∧ f 3 = S.hour ∧ f 4 = S.refused ∧ f 5 = S.office ∧ f 6 = nI S.nr) ∧
  (∀ i, i < S.ns → f (7 + 3 * i + 0) = (S.sh i).1 ∧ f (7 + 3 * i + 1) = (S.sh i).2.1 ∧ f (7 + 3 * i + 2) = (S.sh i).2.2) ∧
  (∀ i, i < S.nl → f (25 + 5 * i + 0) = (S.la i).lv ∧ f (25 + 5 * i + 1) = nI (S.la i).le ∧ (f (25 + 5 * i + 2) = if (S.la i).le = 0 then nI 0 else (S.la i).en) ∧ f (25 + 5 * i + 3) = (S.la i).br ∧ f (25 + 5 * i + 4) = bI (S.la i).was) ∧
  (∀ k, k < S.nr → f (65 + 2 * k) = nI (S.rq k).1 ∧ f (65 + 2 * k + 1) = (S.rq k).2)
