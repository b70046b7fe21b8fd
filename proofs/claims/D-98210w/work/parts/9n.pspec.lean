set_option maxRecDepth 100000
/-! THE READER's spec: over lists of tokens -/
def hdT (ts : List Tk) : Tk := ts.headD (0, 0, 0)
def erT (k : Nat) (ts : List Tk) : Nat := k + 16 * (hdT ts).2.2
def isW (w : Nat) (ts : List Tk) : Bool := decide ((hdT ts).1 = 1 ∧ (hdT ts).2.1 = w)
def isG (c : Nat) (ts : List Tk) : Bool := decide ((hdT ts).1 = 3 ∧ (hdT ts).2.1 = c)
/-- which of some words stands there -/
def whW : List Nat → List Tk → Option Nat
  | [], _ => none
  | w :: l, ts => if isW w ts = true then some 0 else (whW l ts).map (· + 1)
abbrev hkL : List Nat := [8434683, 256855, 1758676, 3328, 410684]
abbrev dkL : List Nat := [259565, 5496521294, 51442444, 1755475, 5505641866, 40484]
abbrev kpL : List Nat := [158575, 6941854, 382984, 10998956, 90090, 279252, 283616147, 108802051, 4134649, 555, 6476936, 121890, 10631, 1111, 423]
abbrev flL : List Nat := [168984, 2968, 223845421, 10998956, 10815598, 4419]
abbrev feL : List Nat := [168984, 2968, 257105, 12387257]
abbrev hwL : List Nat := [380396, 223845421]
def isN (ts : List Tk) : Bool := decide ((hdT ts).1 = 1 ∧ whW kpL ts = none ∧ whW hkL ts = none ∧ whW dkL ts = none)
def pNum (lo hi : Nat) (ts : List Tk) : Except Nat (Nat × List Tk) := if (hdT ts).1 = 2 then (if lo ≤ (hdT ts).2.1 ∧ (hdT ts).2.1 ≤ hi then .ok ((hdT ts).2.1, ts.tail) else .error (erT 4 ts)) else .error (erT 1 ts)
def pWd (w : Nat) (ts : List Tk) : Except Nat (List Tk) := if isW w ts = true then .ok ts.tail else .error (erT 1 ts)
def pSg (c : Nat) (ts : List Tk) : Except Nat (List Tk) := if isG c ts = true then .ok ts.tail else .error (erT 1 ts)
/-- the first of n names -/
def fnd (N : Nat → Int64) (w : Int64) : Nat → Option Nat
  | 0 => none
  | k + 1 => match fnd N w k with
    | some i => some i
    | none => if N k = w then some k else none
def vWd (ts : List Tk) : Int64 := lN (hdT ts).2.1
def pHd (q : QT) (ts : List Tk) : Except Nat Nat := if isN ts = true then (match fnd (qN q) (vWd ts) (qH q) with
    | some h => .ok h
    | none => .error (erT 2 ts)) else .error (erT 1 ts)
def pDr (q : QT) (ts : List Tk) : Except Nat Nat := if isN ts = true then (match fnd (qDn q) (vWd ts) (qD q) with
    | some h => .ok h
    | none => .error (erT 2 ts)) else .error (erT 1 ts)
def pNw (q : QT) (ts : List Tk) : Except Nat Unit := if isN ts = true then (if fnd (qN q) (vWd ts) (qH q) = none ∧ fnd (qDn q) (vWd ts) (qD q) = none then .ok () else .error (erT 3 ts)) else .error (erT 1 ts)
/-! expressions: what they mean, their codes -/
abbrev Ex : Type := Law × List Nat
abbrev PEx : Type := Except Nat (Ex × List Tk)
def fcI (fl : Bool) (ts : List Tk) : Option Nat := whW (if fl = true then feL else flL) ts
def fcC (fl : Bool) (i : Nat) : Nat := if fl = true then ixE i else ixL i
def pTm (part : List Tk → PEx) : Nat → Ex → List Tk → PEx
  | 0, x, ts => .ok (x, ts)
  | f + 1, x, ts => if isG 42 ts = true then (match part ts.tail with
      | .error k => .error k
      | .ok (y, t) => pTm part f (fun φ => x.1 φ * y.1 φ, x.2 ++ 22 :: y.2) t) else .ok (x, ts)
def pTerm (part : List Tk → PEx) (ts : List Tk) : PEx := match part ts with
  | .error k => .error k
  | .ok (x, t) => pTm part t.length x t
def pSm (part : List Tk → PEx) : Nat → Ex → List Tk → PEx
  | 0, x, ts => .ok (x, ts)
  | f + 1, x, ts => if isG 43 ts = true ∨ isG 45 ts = true then (match pTerm part ts.tail with
      | .error k => .error k
      | .ok (y, t) => pSm part f (if isG 43 ts = true then (fun φ => x.1 φ + y.1 φ, x.2 ++ 20 :: y.2) else (fun φ => x.1 φ - y.1 φ, x.2 ++ 21 :: y.2)) t) else .ok (x, ts)
def pSum (part : List Tk → PEx) (ts : List Tk) : PEx := match pTerm part ts with
  | .error k => .error k
  | .ok (x, t) => pSm part t.length x t
def pTest (part : List Tk → PEx) (ts : List Tk) : PEx := match pSum part ts with
  | .error k => .error k
  | .ok (x, t) => if isG 60 t = true ∨ isG 61 t = true then (match pSum part t.tail with
      | .error k => .error k
      | .ok (y, t') => .ok (if isG 60 t = true then (fun φ => if x.1 φ < y.1 φ then nI 1 else nI 0, x.2 ++ 24 :: y.2) else (fun φ => if x.1 φ = y.1 φ then nI 1 else nI 0, x.2 ++ 25 :: y.2), t')) else .ok (x, t)
def pAl (part : List Tk → PEx) : Nat → Ex → List Tk → PEx
  | 0, x, ts => .ok (x, ts)
  | f + 1, x, ts => if isW 1111 ts = true ∨ isW 423 ts = true then (match pTest part ts.tail with
      | .error k => .error k
      | .ok (y, t) => pAl part f (if isW 1111 ts = true then (fun φ => if x.1 φ ≠ 0 ∧ y.1 φ ≠ 0 then nI 1 else nI 0, x.2 ++ 26 :: y.2) else (fun φ => if x.1 φ ≠ 0 ∨ y.1 φ ≠ 0 then nI 1 else nI 0, x.2 ++ 27 :: y.2)) t) else .ok (x, ts)
def pAll (part : List Tk → PEx) (ts : List Tk) : PEx := match pTest part ts with
  | .error k => .error k
  | .ok (x, t) => pAl part t.length x t
def isB (fl : Bool) (ts : List Tk) : Bool := (fcI fl ts).isSome || isW 10631 ts || isG 40 ts || decide ((hdT ts).1 = 2)
def pPart (fl : Bool) : Nat → List Tk → PEx
  | 0, ts => if isB fl ts = true then .error (erT 5 ts) else .error (erT 1 ts)
  | n + 1, ts => if isB fl ts = true then (match fcI fl ts with
      | some i => .ok ((fun φ => φ i, [fcC fl i]), ts.tail)
      | none => if (hdT ts).1 = 2 then .ok ((fun _ => nI (hdT ts).2.1, [100 + (hdT ts).2.1]), ts.tail)
        else if isW 10631 ts = true then (match pPart fl n ts.tail with
          | .error k => .error k
          | .ok (x, t) => .ok ((fun φ => ntI (x.1 φ), 30 :: x.2), t))
        else (match pAll (pPart fl n) ts.tail with
          | .error k => .error k
          | .ok (x, t) => (match pSg 41 t with
            | .error k => .error k
            | .ok t' => .ok ((x.1, 28 :: x.2 ++ [29]), t')))) else .error (erT 1 ts)
def pExp (fl : Bool) (ts : List Tk) : PEx := pAll (pPart fl 5) ts
/-! quarters -/
def qC (q : QT) (i v : Nat) : QT := (upN q.1 i v, q.2)
def qV (q : QT) (k i v : Nat) : QT := (q.1, fun a => if a = k then upN (q.2.1 a) i v else q.2.1 a, q.2.2)
def qF (q : QT) (k : Nat) (F : Law) : QT := (q.1, q.2.1, q.2.2.1, fun a => if a = k then some F else q.2.2.2 a)
def qP : QT := (fun _ => 0, fun _ _ => 0, fun _ _ => 0, fun _ => none)
/-- four marks -/
def pMk : Nat → (Nat → Nat) → Nat → List Tk → Except Nat ((Nat → Nat) × List Tk)
  | 0, m, _, ts => .ok (m, ts)
  | n + 1, m, i, ts => match pNum 0 9 ts with
    | .error k => .error k
    | .ok (v, t) => pMk n (upN m i v) (i + 1) t
def pMs (q : QT) (kd : Nat) (ts : List Tk) : Except Nat ((Nat → Nat) × List Tk) := if kd = 4 then (match pHd q ts with
    | .error k => .error k
    | .ok h => .ok (fun i => qM q (4 * h + i), ts.tail)) else (match pWd 6941854 ts with
    | .error k => .error k
    | .ok t => pMk 4 (fun _ => 0) 0 t)
/-- a hand more -/
def qAH (q : QT) (nm : Int64) (kd : Nat) (m : Nat → Nat) (sl tr : Nat) : QT := (upN q.1 0 (qH q + 1), fun a => if a = 1 then (fun i => if 4 * qH q ≤ i then m (i - 4 * qH q) else q.2.1 1 i) else if a = 2 then upN (q.2.1 2) (qH q) kd else if a = 3 then upN (q.2.1 3) (qH q) sl else if a = 4 then upN (q.2.1 4) (qH q) tr else q.2.1 a, fun a j => if a = 0 ∧ j = qH q then nm else q.2.2.1 a j, q.2.2.2)
/-- a door more -/
def qAD (q : QT) (nm : Int64) (kd nr : Nat) : QT := (upN q.1 1 (qD q + 1), fun a => if a = 5 then upN (q.2.1 5) (qD q) kd else if a = 6 then upN (q.2.1 6) (qD q) nr else if a = 9 then upN (q.2.1 9) (qD q) kd else if a = 10 then upN (q.2.1 10) (qD q) nr else q.2.1 a, fun a j => if a = 1 ∧ j = qD q then nm else q.2.2.1 a j, q.2.2.2)
def pWN (w lo hi : Nat) (ts : List Tk) : Except Nat (Nat × List Tk) := match pWd w ts with
  | .error k => .error k
  | .ok t => pNum lo hi t
def pEnd (q : QT) (ts : List Tk) : Except Nat (QT × List Tk) := match pSg 59 ts with
  | .error k => .error k
  | .ok t => .ok (q, t)
def pHand (q : QT) (ts : List Tk) : Except Nat (QT × List Tk) := if qH q = 7 then .error (erT 5 ts) else (match pNw q ts.tail with
  | .error k => .error k
  | .ok _ => (match whW hkL ts.tail.tail with
    | none => .error (erT 1 ts.tail.tail)
    | some kd => (match pMs q kd ts.tail.tail.tail with
      | .error k => .error k
      | .ok (m, t) => (match pWN 382984 0 3 t with
        | .error k => .error k
        | .ok (sl, t) => (match pWN 10998956 0 9 t with
          | .error k => .error k
          | .ok (tr, t) => pEnd (qAH q (vWd ts.tail) kd m sl tr) t)))))
def pDoor (q : QT) (ts : List Tk) : Except Nat (QT × List Tk) := if qD q = 5 then .error (erT 5 ts) else (match pNw q ts.tail with
  | .error k => .error k
  | .ok _ => (match whW dkL ts.tail.tail with
    | none => .error (erT 1 ts.tail.tail)
    | some kd => (match pWN 279252 0 99 ts.tail.tail.tail with
      | .error k => .error k
      | .ok (nr, t) => pEnd (qAD q (vWd ts.tail) kd nr) t)))
/-- whether two doors have a street -/
def hasS (q : QT) (a b : Nat) : Nat → Bool
  | 0 => false
  | n + 1 => hasS q a b n || decide (qA q n = a ∧ qB q n = b ∨ qA q n = b ∧ qB q n = a)
def pStr (q : QT) (ts : List Tk) : Except Nat (QT × List Tk) := match pDr q ts.tail with
  | .error k => .error k
  | .ok a => (match pDr q ts.tail.tail with
    | .error k => .error k
    | .ok b => if a = b ∨ hasS q a b (qS q) = true then .error (erT 3 ts.tail.tail) else pEnd (qC (qV (qV q 7 (qS q) a) 8 (qS q) b) 2 (qS q + 1)) ts.tail.tail.tail)
def pGos (q : QT) (g : Bool) (ts : List Tk) : Except Nat (QT × List Tk) := if g = true then .error (erT 3 ts) else (match pNum 0 9 ts.tail with
  | .error k => .error k
  | .ok (v, t) => pEnd (qV q 0 0 v) t)
def pGrd (q : QT) (ts : List Tk) : Except Nat (QT × List Tk) := if qX q = 1 then .error (erT 3 ts) else (match pNum 0 23 ts.tail with
  | .error k => .error k
  | .ok (a, t) => (match pWN 555 a 23 t with
    | .error k => .error k
    | .ok (b, t) => pEnd (qC (qV (qV q 0 1 a) 0 2 b) 3 1) t))
def pLaw (q : QT) (ln : Nat) (ts : List Tk) : Except Nat (QT × List Tk) := if (q.2.2.2 ln).isSome = true then .error (erT 3 ts) else (match pExp (decide (ln = 1)) ts.tail with
  | .error k => .error k
  | .ok (x, t) => pEnd (qF q ln x.1) t)
def pStm (q : QT) (g : Bool) (ts : List Tk) : Except Nat ((QT × Bool) × List Tk) :=
  let r (g' : Bool) (x : Except Nat (QT × List Tk)) : Except Nat ((QT × Bool) × List Tk) := match x with
    | .error k => .error k
    | .ok (q', t) => .ok ((q', g'), t)
  if isW 158575 ts = true then r g (pHand q ts) else if isW 90090 ts = true then r g (pDoor q ts) else if isW 283616147 ts = true then r g (pStr q ts) else if isW 108802051 ts = true then r true (pGos q g ts) else if isW 4134649 ts = true then r g (pGrd q ts) else if isW 6476936 ts = true then r g (pLaw q 0 ts) else if isW 121890 ts = true then r g (pLaw q 1 ts) else .error (erT 1 ts)
def pQrs : Nat → QT → Bool → List Tk → Except Nat QT
  | 0, q, _, _ => .ok q
  | f + 1, q, g, ts => if (hdT ts).1 = 0 then .ok q else (match pStm q g ts with
    | .error k => .error k
    | .ok ((q', g'), t) => pQrs f q' g' t)
def pQr (ts : List Tk) : Except Nat QT := pQrs ts.length qP false ts
/-! histories -/
def pTry (q : QT) (L : List It) (ts : List Tk) : Except Nat (List It × List Tk) := if trN L = 24 then .error (erT 5 ts) else (match pHd q ts.tail with
  | .error k => .error k
  | .ok h => (match pDr q ts.tail.tail with
    | .error k => .error k
    | .ok d => (match whW hwL ts.tail.tail.tail with
      | none => .error (erT 1 ts.tail.tail.tail)
      | some w => (match pSg 59 ts.tail.tail.tail.tail with
        | .error k => .error k
        | .ok t => .ok (L ++ [some (h, d, decide (w = 1))], t)))))
def pNgt (L : List It) (ts : List Tk) : Except Nat (List It × List Tk) := if ngN L = 12 then .error (erT 5 ts) else (match pSg 59 ts.tail with
  | .error k => .error k
  | .ok t => .ok (L ++ [none], t))
def pHis (q : QT) : Nat → List It → List Tk → Except Nat (List It)
  | 0, L, _ => .ok L
  | f + 1, L, ts => if (hdT ts).1 = 0 then .ok L else (match (if isW 15091 ts = true then pTry q L ts else if isW 7622660 ts = true then pNgt L ts else .error (erT 1 ts)) with
    | .error k => .error k
    | .ok (L', t) => pHis q f L' t)
