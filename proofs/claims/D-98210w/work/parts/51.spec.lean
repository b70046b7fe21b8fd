/-! THE SPEC: quarters, doors, nights, in plain numbers -/
/-- a quarter: counts (0 hands, 1 doors, 2 streets, 3 guard or not), numbers by kind (0: gossip, from, to; 1 marks, 2 kinds of hands, 3 slips, 4 trusts, 5 kinds of doors, 6 nears, 7 and 8 streets), names (0 hands', 1 doors'), laws (0 learn, 1 feel) -/
abbrev Law : Type := (Nat → Int32) → Int32
abbrev QT : Type := (Nat → Nat) × (Nat → Nat → Nat) × (Nat → Nat → Int64) × (Nat → Option Law)
def qH (q : QT) : Nat := q.1 0
def qD (q : QT) : Nat := q.1 1
def qS (q : QT) : Nat := q.1 2
def qX (q : QT) : Nat := q.1 3
def qG (q : QT) : Nat := q.2.1 0 0
def qFr (q : QT) : Nat := q.2.1 0 1
def qTo (q : QT) : Nat := q.2.1 0 2
def qM (q : QT) (i : Nat) : Nat := q.2.1 1 i
def qK (q : QT) (h : Nat) : Nat := q.2.1 2 h
def qSl (q : QT) (h : Nat) : Nat := q.2.1 3 h
def qTr (q : QT) (h : Nat) : Nat := q.2.1 4 h
def qDk (q : QT) (d : Nat) : Nat := q.2.1 5 d
def qNr (q : QT) (d : Nat) : Nat := q.2.1 6 d
def qA (q : QT) (k : Nat) : Nat := q.2.1 7 k
def qB (q : QT) (k : Nat) : Nat := q.2.1 8 k
def qN (q : QT) (h : Nat) : Int64 := q.2.2.1 0 h
def qDn (q : QT) (d : Nat) : Int64 := q.2.2.1 1 d
def qL (q : QT) : Option Law := q.2.2.2 0
def qE (q : QT) : Option Law := q.2.2.2 1
/-- a quarter as the reader lets it be -/
def QOK (q : QT) : Prop := (qH q ≤ 7 ∧ qD q ≤ 5 ∧ qS q ≤ 10 ∧ qX q ≤ 1 ∧ qG q ≤ 9) ∧ (qX q = 1 → qFr q ≤ qTo q ∧ qTo q ≤ 23) ∧ (∀ h, h < qH q → qK q h ≤ 4 ∧ qSl q h ≤ 3 ∧ qTr q h ≤ 9 ∧ ∀ k, k < 4 → qM q (4 * h + k) ≤ 9) ∧ (∀ d, d < qD q → qDk q d ≤ 5 ∧ qNr q d ≤ 99) ∧ ∀ k, k < qS q → qA q k < qD q ∧ qB q k < qD q ∧ qA q k ≠ qB q k
/-- bound to 0 .. hi -/
def clpN (v : Int32) (hi : Nat) : Nat := if v < 0 then 0 else if nI hi < v then hi else v.toNatClampNeg
def fc4 (a b c e : Int32) : Nat → Int32 := fun i => if i = 0 then a else if i = 1 then b else if i = 2 then c else e
def fc6 (a b c e f g : Int32) : Nat → Int32 := fun i => if i = 0 then a else if i = 1 then b else if i = 2 then c else if i = 3 then e else if i = 4 then f else g
/-- the mark k of a hand as it is felt, with a slip g - 3 -/
def ftS (q : QT) (hour day h k g : Nat) : Nat := match qE q with
  | none => min 9 (qM q (4 * h + k) + g - 3)
  | some F => clpN (F (fc4 (nI hour) (nI day) (nI (min 9 (qM q (4 * h + k) + g - 3))) (nI k))) 9
def blS (q : QT) (h : Nat) : Nat := if qK q h = 1 then 2 * qTr q h else if qK q h = 2 ∨ qK q h = 3 then 0 else qTr q h
def awN (a b : Nat) : Nat := if a < b then b - a else a - b
def nrS (r f : Nat → Nat) : Nat → Option Nat
  | 0 => none
  | n + 1 => match nrS r f n with
    | none => some (awN (r (12 + 4 * n)) (f 0) + (awN (r (12 + (4 * n + 1))) (f 1) + (awN (r (12 + (4 * n + 2))) (f 2) + awN (r (12 + (4 * n + 3))) (f 3))))
    | some b => some (if awN (r (12 + 4 * n)) (f 0) + (awN (r (12 + (4 * n + 1))) (f 1) + (awN (r (12 + (4 * n + 2))) (f 2) + awN (r (12 + (4 * n + 3))) (f 3))) < b then awN (r (12 + 4 * n)) (f 0) + (awN (r (12 + (4 * n + 1))) (f 1) + (awN (r (12 + (4 * n + 2))) (f 2) + awN (r (12 + (4 * n + 3))) (f 3))) else b)
/-- how far: a door's kind, its row, what is felt -/
def faS (kd : Nat) (r f : Nat → Nat) : Option Nat :=
  if kd = 5 then none
  else if kd = 2 then some (r (36 + f 0) + (r (46 + f 1) + (r (56 + f 2) + r (66 + f 3))))
  else if kd = 1 then (nrS r f (r 11)).map (fun n => 10 * n)
  else if r 10 = 0 then none
  else some (10 * (awN (r 6) (r 10 * f 0) + (awN (r 7) (r 10 * f 1) + (awN (r 8) (r 10 * f 2) + awN (r 9) (r 10 * f 3)))) / r 10)
def opF (kd near : Nat) (x : Option Nat) : Bool := match x with
  | none => false
  | some n => if kd = 2 then decide (near ≤ n) else decide (n ≤ near)
def opS (kd hk : Nat) (r f : Nat → Nat) : Bool := !decide (kd = 5) && (decide (hk = 2) || (!decide (r 5 = 1) && opF kd (r 0) (faS kd r f)))
/-- rows of marks go one back, from mark j on -/
def shS (r : Nat → Nat) (j : Nat) : Nat → Nat := fun i => if 16 + j ≤ i ∧ i < 36 then r (i - 4) else r i
/-- a door learns -/
def lrS (kd : Nat) (r f : Nat → Nat) (m : Nat) : Nat → Nat :=
  if kd = 5 then r
  else if kd = 2 then upN (upN (upN (upN r (36 + f 0) (min 9999 (r (36 + f 0) + m))) (46 + f 1) (min 9999 (r (46 + f 1) + m))) (56 + f 2) (min 9999 (r (56 + f 2) + m))) (66 + f 3) (min 9999 (r (66 + f 3) + m))
  else if kd = 1 then (if m = 0 then r else upN (upN (upN (upN (upN (shS r 0) 12 (f 0)) 13 (f 1)) 14 (f 2)) 15 (f 3)) 11 (min 6 (r 11 + 1)))
  else upN (upN (upN (upN (upN r 6 (r 6 + m * f 0)) 7 (r 7 + m * f 1)) 8 (r 8 + m * f 2)) 9 (r 9 + m * f 3)) 10 (r 10 + m)
/-- by how much -/
def hwS (L : Option Law) (is : Bool) (bel tm : Nat) (far : Option Nat) (hour day : Nat) : Nat := match L with
  | none => if is = true then 2 else 1
  | some g => clpN (g (fc6 (nI hour) (nI day) (bI is) (nI bel) (nI tm) (faV far))) 9
/-- the numbers of a door behind a try that it opened to or not -/
def cnS (kd : Nat) (is : Bool) (r : Nat → Nat) : Nat → Nat :=
  if kd = 4 ∧ is = false ∧ r 4 = 2 then upN (upN (upN (upN (upN r 1 (r 1 + 1)) 2 (r 2 + 1)) 3 (r 3 + is.toNat)) 4 (if is = true then 0 else r 4 + 1)) 5 1
  else upN (upN (upN (upN r 1 (r 1 + 1)) 2 (r 2 + 1)) 3 (r 3 + is.toNat)) 4 (if is = true then 0 else r 4 + 1)
def trS (L : Option Law) (kd hk bel : Nat) (r f : Nat → Nat) (hour day : Nat) : Nat → Nat :=
  cnS kd (opS kd hk r f) (if hk = 2 ∨ kd = 5 then r else lrS kd r f (hwS L (opS kd hk r f) bel (r 1) (faS kd r f) hour day))
/-- a door at midnight -/
def hvS (r : Nat → Nat) : Nat → Nat := upN (upN (upN (upN (upN r 6 (r 6 / 2)) 7 (r 7 / 2)) 8 (r 8 / 2)) 9 (r 9 / 2)) 10 (r 10 / 2)
def mdS (kd : Nat) (r : Nat → Nat) : Nat → Nat := upN (upN (upN (if kd = 3 then hvS r else r) 1 0) 4 0) 5 0
/-- the place of the most of ten numbers -/
def mxS (r : Nat → Nat) (at0 : Nat) : Nat → Nat
  | 0 => 0
  | n + 1 => if r (at0 + mxS r at0 n) < r (at0 + n) then n else mxS r at0 n
def anS (r : Nat → Nat) (at0 : Nat) : Nat → Bool
  | 0 => false
  | n + 1 => anS r at0 n || decide (0 < r (at0 + n))
/-- whether a door tells, what -/
def tbS (kd : Nat) (r : Nat → Nat) : Bool := if kd = 5 then false else if kd = 2 then anS r 36 10 else if kd = 1 then decide (0 < r 11) else decide (0 < r 10)
def tvS (kd : Nat) (r : Nat → Nat) (k : Nat) : Nat := if kd = 2 then mxS r (36 + 10 * k) 10 else if kd = 1 then r (12 + k) else min 9 (r (6 + k) / r 10)
/-- all doors at midnight, before they tell -/
def m1T (q : QT) (s : Nat → Nat) (n : Nat) : Nat → Nat := fun j => if j < 80 * n then mdS (qDk q (j / 80)) (rowOf s (j / 80)) (j % 80) else s j
def m1S (q : QT) (s : Nat → Nat) : Nat → Nat := m1T q s (qD q)
/-- a tells b -/
def heS (q : QT) (s1 : Nat → Nat) (a b : Nat) (s : Nat → Nat) : Nat → Nat := if tbS (qDk q a) (rowOf s1 a) = true then setRow s b (lrS (qDk q b) (rowOf s b) (tvS (qDk q a) (rowOf s1 a)) (qG q)) else s
def stS (q : QT) (s1 : Nat → Nat) : Nat → (Nat → Nat)
  | 0 => s1
  | n + 1 => heS q s1 (qB q n) (qA q n) (heS q s1 (qA q n) (qB q n) (stS q s1 n))
def mnS (q : QT) (s : Nat → Nat) : Nat → Nat := stS q (m1S q s) (qS q)
def psS (q : QT) (s : Nat → Nat) : Nat → Nat := if s 400 + 1 < 24 then upN s 400 (s 400 + 1) else mnS q (upN (upN s 400 0) 401 (s 401 + 1))
def fnS (q : QT) (s : Nat → Nat) (h : Nat) (g : Nat → Nat) : Nat → Nat := fun k => ftS q (s 400) (s 401) h k (g k)
def noG : Nat → Nat := fun _ => 3
/-- whether a door opens to a hand with slips; a try -/
def oS (q : QT) (s : Nat → Nat) (d h : Nat) (g : Nat → Nat) : Bool := opS (qDk q d) (qK q h) (rowOf s d) (fnS q s h g)
def tS (q : QT) (s : Nat → Nat) (d h : Nat) (g : Nat → Nat) : Nat → Nat := setRow s d (trS (qL q) (qDk q d) (qK q h) (blS q h) (rowOf s d) (fnS q s h g) (s 400) (s 401))
