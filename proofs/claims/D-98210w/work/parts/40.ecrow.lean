/-! ROWS of the component's runs: one an instruction, as an iff that simp can use; P: what is wanted of the end -/
def EC (zs : Nat → Nat) (J : CJ) (d : Nat) (c : ByteArray) (rt : Option FieldType) (o md : Nat) (pc : Nat) (ls : LsT) (st : List Value) (σ : CM) (P : CR → Prop) : Prop := Ep (cstep zs J) d ((c, rt, o, md), none, pc, ls, st, σ) P
def ET (zs : Nat → Nat) (J : CJ) (d : Nat) (c : ByteArray) (rt : Option FieldType) (o md : Nat) (x : Nat) (pc : Nat) (ls : LsT) (st : List Value) (σ : CM) (P : CR → Prop) : Prop := Ep (cstep zs J) d ((c, rt, o, md), some x, pc, ls, st, σ) P
/-- behind a call -/
def EK (zs : Nat → Nat) (J : CJ) (d : Nat) (c : ByteArray) (rt : Option FieldType) (o md : Nat) (pc : Nat) (ls : LsT) (st : List Value) (P : CR → Prop) (q : CR) : Prop := match q.1 with
  | .inl v => EC zs J d c rt o md (pc + 3) ls (v.toList ++ st) q.2 P
  | .inr x => ET zs J d c rt o md x pc ls st q.2 P
/-- what goes on, named -/
def eI (zs : Nat → Nat) (J : CJ) (d : Nat) (c : ByteArray) (rt : Option FieldType) (o md : Nat) (pc : Nat) (ls : LsT) (st : List Value) (σ : CM) (P : CR → Prop) (x : Int32) : Prop := EC zs J d c rt o md pc ls (.int x :: st) σ P
def eLg (zs : Nat → Nat) (J : CJ) (d : Nat) (c : ByteArray) (rt : Option FieldType) (o md : Nat) (pc : Nat) (ls : LsT) (st : List Value) (σ : CM) (P : CR → Prop) (x : Int64) : Prop := EC zs J d c rt o md pc ls (.long x :: st) σ P
def eV (zs : Nat → Nat) (J : CJ) (d : Nat) (c : ByteArray) (rt : Option FieldType) (o md : Nat) (pc : Nat) (ls : LsT) (st : List Value) (σ : CM) (P : CR → Prop) (x : Value) : Prop := EC zs J d c rt o md pc ls (x :: st) σ P
def eInc (zs : Nat → Nat) (J : CJ) (d : Nat) (c : ByteArray) (rt : Option FieldType) (o md : Nat) (pc : Nat) (ls : LsT) (st : List Value) (σ : CM) (P : CR → Prop) (k : Nat) (v x : Int32) : Prop := EC zs J d c rt o md pc (ls1 ls k (.int (x + v))) st σ P
def eN (zs : Nat → Nat) (J : CJ) (d : Nat) (c : ByteArray) (rt : Option FieldType) (o md : Nat) (pc : Nat) (ls : LsT) (st : List Value) (σ : CM) (P : CR → Prop) (n : Nat) : Prop := EC zs J d c rt o md pc ls (.int (Int32.ofNat n) :: st) σ P
def eS (zs : Nat → Nat) (J : CJ) (d : Nat) (c : ByteArray) (rt : Option FieldType) (o md : Nat) (pc : Nat) (ls : LsT) (st : List Value) (P : CR → Prop) (σ : CM) : Prop := EC zs J d c rt o md pc ls st σ P
def eJ (zs : Nat → Nat) (J : CJ) (d : Nat) (c : ByteArray) (rt : Option FieldType) (o md : Nat) (pc : Nat) (ls : LsT) (st : List Value) (P : CR → Prop) (v : Option Value) (σ : CM) : Prop := EC zs J d c rt o md pc ls (v.toList ++ st) σ P
def eCl (zs : Nat → Nat) (J : CJ) (d : Nat) (c : ByteArray) (rt : Option FieldType) (o md : Nat) (pc : Nat) (ls : LsT) (st : List Value) (σ : CM) (P : CR → Prop) (al : List Value) (cc : ByteArray) (rt2 : Option FieldType) (o2 nL : Nat) : Prop := catB st 8 = true ∧ catB al nL = true ∧ EC zs J d cc rt2 o2 0 0 (lent al nL) [] σ (EK zs J (d + 1) c rt o md pc ls st P)
section
variable {zs : Nat → Nat} {J : CJ} {d : Nat} {c : ByteArray} {rt : Option FieldType} {o md : Nat} {pc : Nat} {ls : LsT} {st : List Value} {σ : CM} {P : CR → Prop}
theorem eI_ {x : Int32} : eI zs J d c rt o md pc ls st σ P x = EC zs J d c rt o md pc ls (.int x :: st) σ P := rfl
theorem eLg_ {x : Int64} : eLg zs J d c rt o md pc ls st σ P x = EC zs J d c rt o md pc ls (.long x :: st) σ P := rfl
theorem eV_ {x : Value} : eV zs J d c rt o md pc ls st σ P x = EC zs J d c rt o md pc ls (x :: st) σ P := rfl
theorem eInc_ {k : Nat} {v x : Int32} : eInc zs J d c rt o md pc ls st σ P k v x = EC zs J d c rt o md pc (ls1 ls k (.int (x + v))) st σ P := rfl
theorem eN_ {n : Nat} : eN zs J d c rt o md pc ls st σ P n = EC zs J d c rt o md pc ls (.int (Int32.ofNat n) :: st) σ P := rfl
theorem eS_ : eS zs J d c rt o md pc ls st P σ = EC zs J d c rt o md pc ls st σ P := rfl
theorem eJ_ {v : Option Value} : eJ zs J d c rt o md pc ls st P v σ = EC zs J d c rt o md pc ls (v.toList ++ st) σ P := rfl
theorem eCl_ {al : List Value} {cc : ByteArray} {rt2 : Option FieldType} {o2 nL : Nat} : eCl zs J d c rt o md pc ls st σ P al cc rt2 o2 nL = (catB st 8 = true ∧ catB al nL = true ∧ EC zs J d cc rt2 o2 0 0 (lent al nL) [] σ (EK zs J (d + 1) c rt o md pc ls st P)) := rfl
end
def vin : List Value → Nat → Bool
  | [], _ => false
  | _ :: _, 0 => true
  | _ :: l, i + 1 => vin l i
theorem vin_0 {x : Value} {l : List Value} : vin (x :: l) 0 = true := rfl
theorem vin_s {x : Value} {l : List Value} {i : Nat} : vin (x :: l) (i + 1) = vin l i := rfl
theorem vin_lt : ∀ {l : List Value} {i : Nat}, vin l i = true ↔ i < l.length
  | [], i => by simp [vin]
  | _ :: l, 0 => by simp [vin]
  | _ :: l, i + 1 => by rw [vin_s, vin_lt (l := l)]; simp
/-- a field's value -/
def aE (fs : List Value) (p : Nat) (K : Value → Prop) : Prop := match fs[p]? with
  | some v => K v
  | none => False
theorem aE_0 {x : Value} {l : List Value} {K : Value → Prop} : aE (x :: l) 0 K = K x := rfl
theorem aE_s {x : Value} {l : List Value} {i : Nat} {K : Value → Prop} : aE (x :: l) (i + 1) K = aE l i K := rfl
def gE (o idx : Nat) (x : Option Cl) (K : Value → Prop) : Prop := match x with
  | some (.inl (ci, fs)) => match fpk o idx ci with
    | some p => aE fs p K
    | none => False
  | _ => False
theorem gE_o {o idx ci p : Nat} (h : fpk o idx ci = some p) {fs : List Value} {K : Value → Prop} : gE o idx (some (.inl (ci, fs))) K = aE fs p K := by simp only [gE, h]
def pE (o md idx a : Nat) (v : Value) (σ : CM) (x : Option Cl) (K : CM → Prop) : Prop := match x with
  | some (.inl (ci, fs)) => match fpk o idx ci with
    | some p => (vin fs p = true ∧ ci ≠ 39 ∧ okV (cTy ci p) v = true ∧ fwr o md ci p = true) ∧ K (pC σ a (.inl (ci, fs.set p v)))
    | none => False
  | _ => False
section
variable {o md idx a ci p : Nat} {σ : CM} {fs : List Value} {K : CM → Prop}
theorem pE_I (h : fpk o idx ci = some p) (hc : Nat.beq ci 39 = false) (ht : cTy ci p = .int) (hw : fwr o md ci p = true) {x : Int32} : pE o md idx a (.int x) σ (some (.inl (ci, fs))) K ↔ vin fs p = true ∧ K (pC σ a (.inl (ci, fs.set p (.int x)))) := by
  have : ci ≠ 39 := Nat.ne_of_beq_eq_false hc
  simp only [pE, h, ht, hw, okV, ne_eq, this, not_false_iff, true_and, and_true]
theorem pE_Z (h : fpk o idx ci = some p) (hc : Nat.beq ci 39 = false) (ht : cTy ci p = .boolean) (hw : fwr o md ci p = true) {x : Int32} : pE o md idx a (.int x) σ (some (.inl (ci, fs))) K ↔ (x = 0 ∨ x = 1) ∧ vin fs p = true ∧ K (pC σ a (.inl (ci, fs.set p (.int x)))) := by
  have : ci ≠ 39 := Nat.ne_of_beq_eq_false hc
  simp only [pE, h, ht, hw, okV, ne_eq, this, not_false_iff, true_and, and_true, decide_eq_true_eq]
  constructor
  · intro ⟨⟨h1, h2⟩, h3⟩; exact ⟨h2, h1, h3⟩
  · intro ⟨h2, h1, h3⟩; exact ⟨⟨h1, h2⟩, h3⟩
theorem pE_L (h : fpk o idx ci = some p) (hc : Nat.beq ci 39 = false) (ht : cTy ci p = .long) (hw : fwr o md ci p = true) {x : Int64} : pE o md idx a (.long x) σ (some (.inl (ci, fs))) K ↔ vin fs p = true ∧ K (pC σ a (.inl (ci, fs.set p (.long x)))) := by
  have : ci ≠ 39 := Nat.ne_of_beq_eq_false hc
  simp only [pE, h, ht, hw, okV, ne_eq, this, not_false_iff, true_and, and_true]
theorem pE_O {C : String} (h : fpk o idx ci = some p) (hc : Nat.beq ci 39 = false) (ht : cTy ci p = .object C) (hw : fwr o md ci p = true) {x : Nat} : pE o md idx a (.ref x) σ (some (.inl (ci, fs))) K ↔ vin fs p = true ∧ K (pC σ a (.inl (ci, fs.set p (.ref x)))) := by
  have : ci ≠ 39 := Nat.ne_of_beq_eq_false hc
  simp only [pE, h, ht, hw, okV, ne_eq, this, not_false_iff, true_and, and_true]
theorem pE_A {T : FieldType} (h : fpk o idx ci = some p) (hc : Nat.beq ci 39 = false) (ht : cTy ci p = .array T) (hw : fwr o md ci p = true) {x : Nat} : pE o md idx a (.ref x) σ (some (.inl (ci, fs))) K ↔ vin fs p = true ∧ K (pC σ a (.inl (ci, fs.set p (.ref x)))) := by
  have : ci ≠ 39 := Nat.ne_of_beq_eq_false hc
  simp only [pE, h, ht, hw, okV, ne_eq, this, not_false_iff, true_and, and_true]
theorem pE_ON {C : String} (h : fpk o idx ci = some p) (hc : Nat.beq ci 39 = false) (ht : cTy ci p = .object C) (hw : fwr o md ci p = true) : pE o md idx a .null σ (some (.inl (ci, fs))) K ↔ vin fs p = true ∧ K (pC σ a (.inl (ci, fs.set p .null))) := by
  have : ci ≠ 39 := Nat.ne_of_beq_eq_false hc
  simp only [pE, h, ht, hw, okV, ne_eq, this, not_false_iff, true_and, and_true]
end
/-- elements -/
def iaE (t : Nat) (i : Int32) (x : Option Cl) (K : Int32 → Prop) : Prop := match x with
  | some (.inr (kd, n, .inl f)) => kd = t ∧ inb i n = true ∧ K (f i.toNatClampNeg)
  | _ => False
theorem iaE_i {t n : Nat} {i : Int32} {f : Nat → Int32} {K : Int32 → Prop} : iaE t i (some (.inr (t, n, .inl f))) K ↔ inb i n = true ∧ K (f i.toNatClampNeg) := by simp only [iaE, true_and]
def laE (i : Int32) (x : Option Cl) (K : Int64 → Prop) : Prop := match x with
  | some (.inr (kd, n, .inr (.inl f))) => kd = 2 ∧ inb i n = true ∧ K (f i.toNatClampNeg)
  | _ => False
theorem laE_l {n : Nat} {i : Int32} {f : Nat → Int64} {K : Int64 → Prop} : laE i (some (.inr (2, n, .inr (.inl f)))) K ↔ inb i n = true ∧ K (f i.toNatClampNeg) := by simp only [laE, true_and]
def raE (i : Int32) (x : Option Cl) (K : Value → Prop) : Prop := match x with
  | some (.inr (kd, n, .inr (.inr (.inr (.inr f))))) => (4 ≤ kd ∧ kd ≤ 9) ∧ inb i n = true ∧ K (va_rf (f i.toNatClampNeg))
  | _ => False
theorem raE_r {kd n : Nat} {i : Int32} {f : Nat → Option Nat} {K : Value → Prop} (h : Nat.ble 4 kd = true) (h2 : Nat.ble kd 9 = true) : raE i (some (.inr (kd, n, .inr (.inr (.inr (.inr f)))))) K ↔ inb i n = true ∧ K (va_rf (f i.toNatClampNeg)) := by
  simp only [raE, Nat.le_of_ble_eq_true h, Nat.le_of_ble_eq_true h2, true_and]
def isE (t a : Nat) (i v : Int32) (σ : CM) (x : Option Cl) (K : CM → Prop) : Prop := match x with
  | some (.inr (kd, n, .inl f)) => kd = t ∧ inb i n = true ∧ (t = 1 → v = 0 ∨ v = 1) ∧ K (pC σ a (.inr (kd, n, .inl (upd f i.toNatClampNeg v))))
  | _ => False
theorem isE_0 {a n : Nat} {i v : Int32} {σ : CM} {f : Nat → Int32} {K : CM → Prop} : isE 0 a i v σ (some (.inr (0, n, .inl f))) K ↔ inb i n = true ∧ K (pC σ a (.inr (0, n, .inl (upd f i.toNatClampNeg v)))) := by simp [isE]
theorem isE_1 {a n : Nat} {i v : Int32} {σ : CM} {f : Nat → Int32} {K : CM → Prop} : isE 1 a i v σ (some (.inr (1, n, .inl f))) K ↔ inb i n = true ∧ (v = 0 ∨ v = 1) ∧ K (pC σ a (.inr (1, n, .inl (upd f i.toNatClampNeg v)))) := by simp [isE]
def lsE (a : Nat) (i : Int32) (v : Int64) (σ : CM) (x : Option Cl) (K : CM → Prop) : Prop := match x with
  | some (.inr (kd, n, .inr (.inl f))) => kd = 2 ∧ inb i n = true ∧ K (pC σ a (.inr (kd, n, .inr (.inl (vp_updL f i.toNatClampNeg v)))))
  | _ => False
theorem lsE_l {a n : Nat} {i : Int32} {v : Int64} {σ : CM} {f : Nat → Int64} {K : CM → Prop} : lsE a i v σ (some (.inr (2, n, .inr (.inl f)))) K ↔ inb i n = true ∧ K (pC σ a (.inr (2, n, .inr (.inl (vp_updL f i.toNatClampNeg v))))) := by simp [lsE]
/-- an element that is a reference: kd the array's kind, y what is laid -/
def rok (kd : Nat) (y : Option Cl) (b : Bool) : Bool := match y with
  | some (.inr (kd2, _)) => decide (kd = 4 ∧ kd2 = 0)
  | some (.inl (ci, _)) => decide ((kd = 5 ∧ ci = 5) ∨ (kd = 6 ∧ ci = 30) ∨ kd = 4)
  | none => decide (kd = 7) && b
theorem rok_4 {ci : Nat} {fs : List Value} {b : Bool} : rok 4 (some (.inl (ci, fs))) b = true := by simp [rok]
theorem rok_4a {x : vp_A} {b : Bool} : rok 4 (some (.inr (0, x))) b = true := by simp [rok]
theorem rok_5 {fs : List Value} {b : Bool} : rok 5 (some (.inl (5, fs))) b = true := by simp [rok]
theorem rok_6 {fs : List Value} {b : Bool} : rok 6 (some (.inl (30, fs))) b = true := by simp [rok]
theorem rok_7 {b : Bool} : rok 7 none b = b := by simp [rok]
def rsE (b : Bool) (a : Nat) (i : Int32) (v : Nat) (σ : CM) (x y : Option Cl) (K : CM → Prop) : Prop := match x with
  | some (.inr (kd, n, .inr (.inr (.inr (.inr f))))) => rok kd y b = true ∧ inb i n = true ∧ K (pC σ a (.inr (kd, n, .inr (.inr (.inr (.inr (va_up f i.toNatClampNeg (some v))))))))
  | _ => False
theorem rsE_r {b : Bool} {a kd n v : Nat} {i : Int32} {σ : CM} {f : Nat → Option Nat} {y : Option Cl} {K : CM → Prop} : rsE b a i v σ (some (.inr (kd, n, .inr (.inr (.inr (.inr f)))))) y K ↔ rok kd y b = true ∧ inb i n = true ∧ K (pC σ a (.inr (kd, n, .inr (.inr (.inr (.inr (va_up f i.toNatClampNeg (some v)))))))) := Iff.rfl
def nsE (a : Nat) (i : Int32) (σ : CM) (x : Option Cl) (K : CM → Prop) : Prop := match x with
  | some (.inr (kd, n, .inr (.inr (.inr (.inr f))))) => (4 ≤ kd ∧ kd ≤ 7) ∧ inb i n = true ∧ K (pC σ a (.inr (kd, n, .inr (.inr (.inr (.inr (va_up f i.toNatClampNeg none)))))))
  | _ => False
theorem nsE_r {a kd n : Nat} {i : Int32} {σ : CM} {f : Nat → Option Nat} {K : CM → Prop} (h : Nat.ble 4 kd = true) (h2 : Nat.ble kd 7 = true) : nsE a i σ (some (.inr (kd, n, .inr (.inr (.inr (.inr f)))))) K ↔ inb i n = true ∧ K (pC σ a (.inr (kd, n, .inr (.inr (.inr (.inr (va_up f i.toNatClampNeg none))))))) := by
  simp only [nsE, Nat.le_of_ble_eq_true h, Nat.le_of_ble_eq_true h2, true_and]
def leE (x : Option Cl) (K : Nat → Prop) : Prop := match x with
  | some (.inr (kd, y)) => kd < 10 ∧ K y.1
  | _ => False
theorem leE_a {kd : Nat} {y : vp_A} {K : Nat → Prop} (h : Nat.blt kd 10 = true) : leE (some (.inr (kd, y))) K ↔ K y.1 := by simp only [leE, Nat.le_of_ble_eq_true h, true_and, Nat.lt_iff_add_one_le, Nat.le_of_ble_eq_true h]
/-- casts -/
def kE (o idx : Nat) (x : Option Cl) (K : Prop) : Prop := match x with
  | some (.inl (ci, _)) => kcc o idx ci = true ∧ K
  | some (.inr (kd, _)) => (kd = 0 ∧ kca o idx = true) ∧ K
  | none => False
theorem kE_o {o idx ci : Nat} (h : kcc o idx ci = true) {fs : List Value} {K : Prop} : kE o idx (some (.inl (ci, fs))) K ↔ K := by simp only [kE, h, true_and]
theorem kE_a {o idx : Nat} (h : kca o idx = true) {x : vp_A} {K : Prop} : kE o idx (some (.inr (0, x))) K ↔ K := by simp only [kE, h, true_and]
/-- null or not -/
def nuE (v : Value) (A B : Prop) : Prop := match v with
  | .ref _ => B
  | .null => A
  | _ => False
theorem nuE_r {x : Nat} {A B : Prop} : nuE (.ref x) A B = B := rfl
theorem nuE_n {A B : Prop} : nuE .null A B = A := rfl
/-- a reference that is called on -/
def vE (v : Value) (K : Nat → Prop) : Prop := match v with
  | .ref a => K a
  | _ => False
theorem vE_r {a : Nat} {K : Nat → Prop} : vE (.ref a) K = K a := rfl
section
variable {zs : Nat → Nat} {J : CJ} {d : Nat} {c : ByteArray} {rt : Option FieldType} {o md : Nat} {pc : Nat} {ls : LsT} {st : List Value} {σ : CM} {P P' : CR → Prop}
theorem EC.mono (h : EC zs J d c rt o md pc ls st σ P) (hp : ∀ r, P r → P' r) : EC zs J d c rt o md pc ls st σ P' := Ep.mono h hp
theorem EC.deep {d' : Nat} (hd : d ≤ d') (h : EC zs J d c rt o md pc ls st σ P) : EC zs J d' c rt o md pc ls st σ P := Ep.deep hd h
theorem EK_r {v : Option Value} : EK zs J d c rt o md pc ls st P (.inl v, σ) = EC zs J d c rt o md (pc + 3) ls (v.toList ++ st) σ P := rfl
theorem EK_t {x : Nat} : EK zs J d c rt o md pc ls st P (.inr x, σ) = ET zs J d c rt o md x pc ls st σ P := rfl
theorem thrP_a (hd : decode c pc = .ok (.athrow, 1)) : thrP c o pc = true := by simp only [thrP, hd]
theorem thrP_c {idx : Nat} (hd : decode c pc = .ok (.invokevirtual idx, 3)) (ht : thrB o idx = true) : thrP c o pc = true := by simp only [thrP, hd, ht]
theorem ET_0 (ht : thrP c o pc = true) {x : Nat} : ET zs J d c rt o 0 x pc ls st σ P ↔ P (.inr x, σ) := Ep.ret (by simp only [cstep, cthrow, ht, hnd, Bool.true_eq_false, if_false])
theorem ET_1 (ht : thrP c o pc = true) (hp : pc < 40) {x : Nat} {fs : List Value} (hx : gC σ x = some (.inl (35, fs))) : ET zs J d c rt o 1 x pc ls st σ P ↔ EC zs J d c rt o 1 41 ls [.ref x] σ P := Ep.next (by simp only [cstep, cthrow, ht, hnd, Bool.true_eq_false, if_false, hx, hp, Nat.zero_le, true_and, and_self, if_true, cN])
theorem ET_2 (ht : thrP c o pc = true) (hp : pc < 16) {x : Nat} {fs : List Value} (hx : gC σ x = some (.inl (35, fs))) : ET zs J d c rt o 2 x pc ls st σ P ↔ EC zs J d c rt o 2 17 ls [.ref x] σ P := Ep.next (by simp only [cstep, cthrow, ht, hnd, Bool.true_eq_false, if_false, hx, hp, Nat.zero_le, true_and, and_self, if_true, cN])
theorem ec_of {i : Instr} {len : Nat} {q : StT} (hd : decode c pc = .ok (i, len)) (h : cstep zs J ((c, rt, o, md), none, pc, ls, st, σ) = (stp i len pc ls st).map (fun q => .inr (.inl ((c, rt, o, md), none, q.1, q.2.1, q.2.2, σ)))) (hs : stp i len pc ls st = some q) : EC zs J d c rt o md pc ls st σ P ↔ EC zs J d c rt o md q.1 q.2.1 q.2.2 σ P := by
  rw [hs] at h
  exact Ep.next h
theorem ec_to {i : Instr} {len : Nat} {pc' : Nat} {ls' : LsT} {st' : List Value} (hd : decode c pc = .ok (i, len)) (h : cstep zs J ((c, rt, o, md), none, pc, ls, st, σ) = (stp i len pc ls st).map (fun q => .inr (.inl ((c, rt, o, md), none, q.1, q.2.1, q.2.2, σ)))) (hs : stp i len pc ls st = some (pc', ls', st')) : EC zs J d c rt o md pc ls st σ P ↔ EC zs J d c rt o md pc' ls' st' σ P := ec_of hd h hs
theorem ec_iconst {n : Int} {v : Int32} (hd : decode c pc = .ok (.iconst n, 1)) (hv : Int32.ofInt n = v) : EC zs J d c rt o md pc ls st σ P ↔ EC zs J d c rt o md (pc + 1) ls (.int v :: st) σ P := by
  subst hv; exact ec_to hd (by simp only [cstep, hd]) rfl
theorem ec_bipush {n : Int} {v : Int32} (hd : decode c pc = .ok (.bipush n, 2)) (hv : (Int8.ofInt n).toInt32 = v) : EC zs J d c rt o md pc ls st σ P ↔ EC zs J d c rt o md (pc + 2) ls (.int v :: st) σ P := by
  subst hv; exact ec_to hd (by simp only [cstep, hd]) rfl
theorem ec_sipush {n : Int} {v : Int32} (hd : decode c pc = .ok (.sipush n, 3)) (hv : (Int16.ofInt n).toInt32 = v) : EC zs J d c rt o md pc ls st σ P ↔ EC zs J d c rt o md (pc + 3) ls (.int v :: st) σ P := by
  subst hv; exact ec_to hd (by simp only [cstep, hd]) rfl
theorem ec_lconst {n : Fin 2} {v : Int64} (hd : decode c pc = .ok (.lconst n, 1)) (hv : Int64.ofNat (n : Nat) = v) : EC zs J d c rt o md pc ls st σ P ↔ EC zs J d c rt o md (pc + 1) ls (.long v :: st) σ P := by
  subst hv; exact ec_to hd (by simp only [cstep, hd]) rfl
theorem ec_iload_n {k : Fin 4} {i : Nat} (hd : decode c pc = .ok (.iload_n k, 1)) (hi : (k : Nat) = i) : EC zs J d c rt o md pc ls st σ P ↔ ldEI (lg ls i) (eI zs J d c rt o md (pc + 1) ls st σ P) := by
  subst hi
  cases h : lg ls k with
  | none => exact ep_none (by simp only [cstep, hd, stp, ldI, h]; rfl)
  | some v =>
    cases v with
    | int x => exact ec_to hd (by simp only [cstep, hd]) (by simp only [stp, ldI, h]; rfl)
    | _ => exact ep_none (by simp only [cstep, hd, stp, ldI, h]; rfl)
theorem ec_iload {k : Nat} (hd : decode c pc = .ok (.iload k, 2)) : EC zs J d c rt o md pc ls st σ P ↔ ldEI (lg ls k) (eI zs J d c rt o md (pc + 2) ls st σ P) := by
  cases h : lg ls k with
  | none => exact ep_none (by simp only [cstep, hd, stp, ldI, h]; rfl)
  | some v =>
    cases v with
    | int x => exact ec_to hd (by simp only [cstep, hd]) (by simp only [stp, ldI, h]; rfl)
    | _ => exact ep_none (by simp only [cstep, hd, stp, ldI, h]; rfl)
theorem ec_lload_n {k : Fin 4} {i : Nat} (hd : decode c pc = .ok (.lload_n k, 1)) (hi : (k : Nat) = i) : EC zs J d c rt o md pc ls st σ P ↔ ldEL (lg ls i) (eLg zs J d c rt o md (pc + 1) ls st σ P) := by
  subst hi
  cases h : lg ls k with
  | none => exact ep_none (by simp only [cstep, hd, stp, ldL, h]; rfl)
  | some v =>
    cases v with
    | long x => exact ec_to hd (by simp only [cstep, hd]) (by simp only [stp, ldL, h]; rfl)
    | _ => exact ep_none (by simp only [cstep, hd, stp, ldL, h]; rfl)
theorem ec_lload {k : Nat} (hd : decode c pc = .ok (.lload k, 2)) : EC zs J d c rt o md pc ls st σ P ↔ ldEL (lg ls k) (eLg zs J d c rt o md (pc + 2) ls st σ P) := by
  cases h : lg ls k with
  | none => exact ep_none (by simp only [cstep, hd, stp, ldL, h]; rfl)
  | some v =>
    cases v with
    | long x => exact ec_to hd (by simp only [cstep, hd]) (by simp only [stp, ldL, h]; rfl)
    | _ => exact ep_none (by simp only [cstep, hd, stp, ldL, h]; rfl)
theorem ec_aload_n {k : Fin 4} {i : Nat} (hd : decode c pc = .ok (.aload_n k, 1)) (hi : (k : Nat) = i) : EC zs J d c rt o md pc ls st σ P ↔ ldEA (lg ls i) (eV zs J d c rt o md (pc + 1) ls st σ P) := by
  subst hi
  cases h : lg ls k with
  | none => exact ep_none (by simp only [cstep, hd, stp, ldA, h]; rfl)
  | some v =>
    cases v with
    | ref x => exact ec_to hd (by simp only [cstep, hd]) (by simp only [stp, ldA, h]; rfl)
    | null => exact ec_to hd (by simp only [cstep, hd]) (by simp only [stp, ldA, h]; rfl)
    | _ => exact ep_none (by simp only [cstep, hd, stp, ldA, h]; rfl)
theorem ec_aload {k : Nat} (hd : decode c pc = .ok (.aload k, 2)) : EC zs J d c rt o md pc ls st σ P ↔ ldEA (lg ls k) (eV zs J d c rt o md (pc + 2) ls st σ P) := by
  cases h : lg ls k with
  | none => exact ep_none (by simp only [cstep, hd, stp, ldA, h]; rfl)
  | some v =>
    cases v with
    | ref x => exact ec_to hd (by simp only [cstep, hd]) (by simp only [stp, ldA, h]; rfl)
    | null => exact ec_to hd (by simp only [cstep, hd]) (by simp only [stp, ldA, h]; rfl)
    | _ => exact ep_none (by simp only [cstep, hd, stp, ldA, h]; rfl)
theorem ec_istore_n {k : Fin 4} {i : Nat} {x : Int32} (hd : decode c pc = .ok (.istore_n k, 1)) (hi : (k : Nat) = i) : EC zs J d c rt o md pc ls (.int x :: st) σ P ↔ lin ls i = true ∧ EC zs J d c rt o md (pc + 1) (ls1 ls i (.int x)) st σ P := by
  subst hi
  by_cases h : lin ls k = true
  · rw [show (lin ls k = true) = True from eq_true h, true_and]
    exact ec_to hd (by simp only [cstep, hd]) (by simp only [stp, svI, if_pos (lin_lt.mp h)]; rfl)
  · rw [show (lin ls k = true) = False from eq_false h, false_and]
    exact ep_none (by simp only [cstep, hd, stp, svI, if_neg (fun z => h (lin_lt.mpr z))]; rfl)
theorem ec_istore {k : Nat} {x : Int32} (hd : decode c pc = .ok (.istore k, 2)) : EC zs J d c rt o md pc ls (.int x :: st) σ P ↔ lin ls k = true ∧ EC zs J d c rt o md (pc + 2) (ls1 ls k (.int x)) st σ P := by
  by_cases h : lin ls k = true
  · rw [show (lin ls k = true) = True from eq_true h, true_and]
    exact ec_to hd (by simp only [cstep, hd]) (by simp only [stp, svI, if_pos (lin_lt.mp h)]; rfl)
  · rw [show (lin ls k = true) = False from eq_false h, false_and]
    exact ep_none (by simp only [cstep, hd, stp, svI, if_neg (fun z => h (lin_lt.mpr z))]; rfl)
theorem ec_lstore {k : Nat} {x : Int64} (hd : decode c pc = .ok (.lstore k, 2)) : EC zs J d c rt o md pc ls (.long x :: st) σ P ↔ lin ls (k + 1) = true ∧ EC zs J d c rt o md (pc + 2) (ls2 ls k (.long x)) st σ P := by
  by_cases h : lin ls (k + 1) = true
  · rw [show (lin ls (k + 1) = true) = True from eq_true h, true_and]
    exact ec_to hd (by simp only [cstep, hd]) (by simp only [stp, svL, if_pos (lin_lt.mp h)]; rfl)
  · rw [show (lin ls (k + 1) = true) = False from eq_false h, false_and]
    exact ep_none (by simp only [cstep, hd, stp, svL, if_neg (fun z => h (lin_lt.mpr z))]; rfl)
theorem ec_iinc {k : Nat} {n : Int} {v : Int32} (hd : decode c pc = .ok (.iinc k n, 3)) (hv : Int32.ofInt n = v) : EC zs J d c rt o md pc ls st σ P ↔ ldEI (lg ls k) (eInc zs J d c rt o md (pc + 3) ls st σ P k v) := by
  subst hv
  cases h : lg ls k with
  | none => exact ep_none (by simp only [cstep, hd, stp, h]; rfl)
  | some w =>
    cases w with
    | int x => exact ec_to hd (by simp only [cstep, hd]) (by simp only [stp, h, if_pos (lin_lt.mp (lin_lg h))]; rfl)
    | _ => exact ep_none (by simp only [cstep, hd, stp, h]; rfl)
theorem ec_iadd {x y : Int32} (hd : decode c pc = .ok (.iadd, 1)) : EC zs J d c rt o md pc ls (.int y :: .int x :: st) σ P ↔ EC zs J d c rt o md (pc + 1) ls (.int (x + y) :: st) σ P := by
  exact ec_to hd (by simp only [cstep, hd]) rfl
theorem ec_isub {x y : Int32} (hd : decode c pc = .ok (.isub, 1)) : EC zs J d c rt o md pc ls (.int y :: .int x :: st) σ P ↔ EC zs J d c rt o md (pc + 1) ls (.int (x - y) :: st) σ P := by
  exact ec_to hd (by simp only [cstep, hd]) rfl
theorem ec_imul {x y : Int32} (hd : decode c pc = .ok (.imul, 1)) : EC zs J d c rt o md pc ls (.int y :: .int x :: st) σ P ↔ EC zs J d c rt o md (pc + 1) ls (.int (x * y) :: st) σ P := by
  exact ec_to hd (by simp only [cstep, hd]) rfl
theorem ec_iand {x y : Int32} (hd : decode c pc = .ok (.iand, 1)) : EC zs J d c rt o md pc ls (.int y :: .int x :: st) σ P ↔ EC zs J d c rt o md (pc + 1) ls (.int (x &&& y) :: st) σ P := by
  exact ec_to hd (by simp only [cstep, hd]) rfl
theorem ec_ior {x y : Int32} (hd : decode c pc = .ok (.ior, 1)) : EC zs J d c rt o md pc ls (.int y :: .int x :: st) σ P ↔ EC zs J d c rt o md (pc + 1) ls (.int (x ||| y) :: st) σ P := by
  exact ec_to hd (by simp only [cstep, hd]) rfl
theorem ec_ishl {x y : Int32} (hd : decode c pc = .ok (.ishl, 1)) : EC zs J d c rt o md pc ls (.int y :: .int x :: st) σ P ↔ EC zs J d c rt o md (pc + 1) ls (.int (x <<< (y &&& 31)) :: st) σ P := by
  exact ec_to hd (by simp only [cstep, hd]) rfl
theorem ec_ishr {x y : Int32} (hd : decode c pc = .ok (.ishr, 1)) : EC zs J d c rt o md pc ls (.int y :: .int x :: st) σ P ↔ EC zs J d c rt o md (pc + 1) ls (.int (x >>> (y &&& 31)) :: st) σ P := by
  exact ec_to hd (by simp only [cstep, hd]) rfl
theorem ec_idiv {x y : Int32} (hd : decode c pc = .ok (.idiv, 1)) : EC zs J d c rt o md pc ls (.int y :: .int x :: st) σ P ↔ ¬ y = 0 ∧ EC zs J d c rt o md (pc + 1) ls (.int (x / y) :: st) σ P := by
  by_cases hy : y = 0
  · rw [iff_false_intro (show ¬ (¬ y = 0 ∧ _) from fun h => h.1 hy)]
    exact ep_none (by simp only [cstep, hd, stp, sII, if_pos hy]; rfl)
  · rw [show (¬ y = 0) = True from eq_true hy, true_and]
    exact ec_to hd (by simp only [cstep, hd]) (by simp only [stp, sII, if_neg hy]; rfl)
theorem ec_irem {x y : Int32} (hd : decode c pc = .ok (.irem, 1)) : EC zs J d c rt o md pc ls (.int y :: .int x :: st) σ P ↔ ¬ y = 0 ∧ EC zs J d c rt o md (pc + 1) ls (.int (x - x / y * y) :: st) σ P := by
  by_cases hy : y = 0
  · rw [iff_false_intro (show ¬ (¬ y = 0 ∧ _) from fun h => h.1 hy)]
    exact ep_none (by simp only [cstep, hd, stp, sII, if_pos hy]; rfl)
  · rw [show (¬ y = 0) = True from eq_true hy, true_and]
    exact ec_to hd (by simp only [cstep, hd]) (by simp only [stp, sII, if_neg hy]; rfl)
theorem ec_ldiv {x y : Int64} (hd : decode c pc = .ok (.ldiv, 1)) : EC zs J d c rt o md pc ls (.long y :: .long x :: st) σ P ↔ ¬ y = 0 ∧ EC zs J d c rt o md (pc + 1) ls (.long (x / y) :: st) σ P := by
  by_cases hy : y = 0
  · rw [iff_false_intro (show ¬ (¬ y = 0 ∧ _) from fun h => h.1 hy)]
    exact ep_none (by simp only [cstep, hd, stp, sLL, if_pos hy]; rfl)
  · rw [show (¬ y = 0) = True from eq_true hy, true_and]
    exact ec_to hd (by simp only [cstep, hd]) (by simp only [stp, sLL, if_neg hy]; rfl)
theorem ec_lrem {x y : Int64} (hd : decode c pc = .ok (.lrem, 1)) : EC zs J d c rt o md pc ls (.long y :: .long x :: st) σ P ↔ ¬ y = 0 ∧ EC zs J d c rt o md (pc + 1) ls (.long (x - x / y * y) :: st) σ P := by
  by_cases hy : y = 0
  · rw [iff_false_intro (show ¬ (¬ y = 0 ∧ _) from fun h => h.1 hy)]
    exact ep_none (by simp only [cstep, hd, stp, sLL, if_pos hy]; rfl)
  · rw [show (¬ y = 0) = True from eq_true hy, true_and]
    exact ec_to hd (by simp only [cstep, hd]) (by simp only [stp, sLL, if_neg hy]; rfl)
theorem ec_ladd {x y : Int64} (hd : decode c pc = .ok (.ladd, 1)) : EC zs J d c rt o md pc ls (.long y :: .long x :: st) σ P ↔ EC zs J d c rt o md (pc + 1) ls (.long (x + y) :: st) σ P := by
  exact ec_to hd (by simp only [cstep, hd]) rfl
theorem ec_lsub {x y : Int64} (hd : decode c pc = .ok (.lsub, 1)) : EC zs J d c rt o md pc ls (.long y :: .long x :: st) σ P ↔ EC zs J d c rt o md (pc + 1) ls (.long (x - y) :: st) σ P := by
  exact ec_to hd (by simp only [cstep, hd]) rfl
theorem ec_lmul {x y : Int64} (hd : decode c pc = .ok (.lmul, 1)) : EC zs J d c rt o md pc ls (.long y :: .long x :: st) σ P ↔ EC zs J d c rt o md (pc + 1) ls (.long (x * y) :: st) σ P := by
  exact ec_to hd (by simp only [cstep, hd]) rfl
theorem ec_land {x y : Int64} (hd : decode c pc = .ok (.land, 1)) : EC zs J d c rt o md pc ls (.long y :: .long x :: st) σ P ↔ EC zs J d c rt o md (pc + 1) ls (.long (x &&& y) :: st) σ P := by
  exact ec_to hd (by simp only [cstep, hd]) rfl
theorem ec_lushr {x : Int64} {y : Int32} (hd : decode c pc = .ok (.lushr, 1)) : EC zs J d c rt o md pc ls (.int y :: .long x :: st) σ P ↔ EC zs J d c rt o md (pc + 1) ls (.long (x.toUInt64 >>> (y.toInt64.toUInt64 &&& Int64.toUInt64 63)).toInt64 :: st) σ P := by
  exact ec_to hd (by simp only [cstep, hd]) rfl
theorem ec_lcmp {x y : Int64} (hd : decode c pc = .ok (.lcmp, 1)) : EC zs J d c rt o md pc ls (.long y :: .long x :: st) σ P ↔ EC zs J d c rt o md (pc + 1) ls (.int (lg_cmp x y) :: st) σ P := by
  exact ec_to hd (by simp only [cstep, hd]) rfl
theorem ec_i2l {x : Int32} (hd : decode c pc = .ok (.i2l, 1)) : EC zs J d c rt o md pc ls (.int x :: st) σ P ↔ EC zs J d c rt o md (pc + 1) ls (.long x.toInt64 :: st) σ P := by
  exact ec_to hd (by simp only [cstep, hd]) rfl
theorem ec_l2i {x : Int64} (hd : decode c pc = .ok (.l2i, 1)) : EC zs J d c rt o md pc ls (.long x :: st) σ P ↔ EC zs J d c rt o md (pc + 1) ls (.int x.toInt32 :: st) σ P := by
  exact ec_to hd (by simp only [cstep, hd]) rfl
theorem ec_dup {v : Value} (hd : decode c pc = .ok (.dup, 1)) : EC zs J d c rt o md pc ls (v :: st) σ P ↔ cat1 v = true ∧ EC zs J d c rt o md (pc + 1) ls (v :: v :: st) σ P := by
  by_cases hv : v.category = 1
  · rw [show (cat1 v = true) = True from eq_true (cat1_iff.mpr hv), true_and]
    exact ec_to hd (by simp only [cstep, hd]) (by simp only [stp, if_pos hv]; rfl)
  · rw [show (cat1 v = true) = False from eq_false (fun z => hv (cat1_iff.mp z)), false_and]
    exact ep_none (by simp only [cstep, hd, stp, if_neg hv]; rfl)
theorem ec_pop {v : Value} (hd : decode c pc = .ok (.pop, 1)) : EC zs J d c rt o md pc ls (v :: st) σ P ↔ cat1 v = true ∧ EC zs J d c rt o md (pc + 1) ls st σ P := by
  by_cases hv : v.category = 1
  · rw [show (cat1 v = true) = True from eq_true (cat1_iff.mpr hv), true_and]
    exact ec_to hd (by simp only [cstep, hd]) (by simp only [stp, if_pos hv]; rfl)
  · rw [show (cat1 v = true) = False from eq_false (fun z => hv (cat1_iff.mp z)), false_and]
    exact ep_none (by simp only [cstep, hd, stp, if_neg hv]; rfl)
theorem ec_dup2 {v w : Value} (hd : decode c pc = .ok (.dup2, 1)) : EC zs J d c rt o md pc ls (v :: w :: st) σ P ↔ cat1 v = true ∧ cat1 w = true ∧ EC zs J d c rt o md (pc + 1) ls (v :: w :: v :: w :: st) σ P := by
  by_cases hv : v.category = 1 ∧ w.category = 1
  · rw [show (cat1 v = true) = True from eq_true (cat1_iff.mpr hv.1), show (cat1 w = true) = True from eq_true (cat1_iff.mpr hv.2), true_and, true_and]
    exact ec_to hd (by simp only [cstep, hd]) (by simp only [stp, if_pos hv]; rfl)
  · rw [iff_false_intro (show ¬ (cat1 v = true ∧ cat1 w = true ∧ _) from fun z => hv ⟨cat1_iff.mp z.1, cat1_iff.mp z.2.1⟩)]
    exact ep_none (by simp only [cstep, hd, stp, if_neg hv]; rfl)
theorem ec_goto {off : Int} {t : Nat} (hd : decode c pc = .ok (.goto off, 3)) (ht : (pc : Int) + off = (t : Int)) : EC zs J d c rt o md pc ls st σ P ↔ EC zs J d c rt o md t ls st σ P := by
  exact ec_to hd (by simp only [cstep, hd]) (by simp only [stp, jmp_of ht]; rfl)
theorem ec_if_eq {x : Int32} {off : Int} {t : Nat} (hd : decode c pc = .ok (.ifCond .eq off, 3)) (ht : (pc : Int) + off = (t : Int)) : EC zs J d c rt o md pc ls (.int x :: st) σ P ↔ if x = 0 then EC zs J d c rt o md t ls st σ P else EC zs J d c rt o md (pc + 3) ls st σ P := by
  by_cases hp : x = 0
  · rw [if_pos hp]; exact ec_to hd (by simp only [cstep, hd]) (by simp [stp, sF1, jmp_of ht, hp])
  · rw [if_neg hp]; exact ec_to hd (by simp only [cstep, hd]) (by simp [stp, sF1, jmp_of ht, hp])
theorem ec_icmp_eq {x y : Int32} {off : Int} {t : Nat} (hd : decode c pc = .ok (.if_icmp .eq off, 3)) (ht : (pc : Int) + off = (t : Int)) : EC zs J d c rt o md pc ls (.int y :: .int x :: st) σ P ↔ if x = y then EC zs J d c rt o md t ls st σ P else EC zs J d c rt o md (pc + 3) ls st σ P := by
  by_cases hp : x = y
  · rw [if_pos hp]; exact ec_to hd (by simp only [cstep, hd]) (by simp [stp, sF2, jmp_of ht, hp])
  · rw [if_neg hp]; exact ec_to hd (by simp only [cstep, hd]) (by simp [stp, sF2, jmp_of ht, hp])
theorem ec_if_ne {x : Int32} {off : Int} {t : Nat} (hd : decode c pc = .ok (.ifCond .ne off, 3)) (ht : (pc : Int) + off = (t : Int)) : EC zs J d c rt o md pc ls (.int x :: st) σ P ↔ if x = 0 then EC zs J d c rt o md (pc + 3) ls st σ P else EC zs J d c rt o md t ls st σ P := by
  by_cases hp : x = 0
  · rw [if_pos hp]; exact ec_to hd (by simp only [cstep, hd]) (by simp [stp, sF1, jmp_of ht, hp])
  · rw [if_neg hp]; exact ec_to hd (by simp only [cstep, hd]) (by simp [stp, sF1, jmp_of ht, hp])
theorem ec_icmp_ne {x y : Int32} {off : Int} {t : Nat} (hd : decode c pc = .ok (.if_icmp .ne off, 3)) (ht : (pc : Int) + off = (t : Int)) : EC zs J d c rt o md pc ls (.int y :: .int x :: st) σ P ↔ if x = y then EC zs J d c rt o md (pc + 3) ls st σ P else EC zs J d c rt o md t ls st σ P := by
  by_cases hp : x = y
  · rw [if_pos hp]; exact ec_to hd (by simp only [cstep, hd]) (by simp [stp, sF2, jmp_of ht, hp])
  · rw [if_neg hp]; exact ec_to hd (by simp only [cstep, hd]) (by simp [stp, sF2, jmp_of ht, hp])
theorem ec_if_lt {x : Int32} {off : Int} {t : Nat} (hd : decode c pc = .ok (.ifCond .lt off, 3)) (ht : (pc : Int) + off = (t : Int)) : EC zs J d c rt o md pc ls (.int x :: st) σ P ↔ if x < 0 then EC zs J d c rt o md t ls st σ P else EC zs J d c rt o md (pc + 3) ls st σ P := by
  by_cases hp : x < 0
  · rw [if_pos hp]; exact ec_to hd (by simp only [cstep, hd]) (by simp [stp, sF1, jmp_of ht, hp])
  · rw [if_neg hp]; exact ec_to hd (by simp only [cstep, hd]) (by simp [stp, sF1, jmp_of ht, hp])
theorem ec_icmp_lt {x y : Int32} {off : Int} {t : Nat} (hd : decode c pc = .ok (.if_icmp .lt off, 3)) (ht : (pc : Int) + off = (t : Int)) : EC zs J d c rt o md pc ls (.int y :: .int x :: st) σ P ↔ if x < y then EC zs J d c rt o md t ls st σ P else EC zs J d c rt o md (pc + 3) ls st σ P := by
  by_cases hp : x < y
  · rw [if_pos hp]; exact ec_to hd (by simp only [cstep, hd]) (by simp [stp, sF2, jmp_of ht, hp])
  · rw [if_neg hp]; exact ec_to hd (by simp only [cstep, hd]) (by simp [stp, sF2, jmp_of ht, hp])
theorem ec_if_ge {x : Int32} {off : Int} {t : Nat} (hd : decode c pc = .ok (.ifCond .ge off, 3)) (ht : (pc : Int) + off = (t : Int)) : EC zs J d c rt o md pc ls (.int x :: st) σ P ↔ if 0 ≤ x then EC zs J d c rt o md t ls st σ P else EC zs J d c rt o md (pc + 3) ls st σ P := by
  by_cases hp : 0 ≤ x
  · rw [if_pos hp]; exact ec_to hd (by simp only [cstep, hd]) (by simp [stp, sF1, jmp_of ht, hp])
  · rw [if_neg hp]; exact ec_to hd (by simp only [cstep, hd]) (by simp [stp, sF1, jmp_of ht, hp])
theorem ec_icmp_ge {x y : Int32} {off : Int} {t : Nat} (hd : decode c pc = .ok (.if_icmp .ge off, 3)) (ht : (pc : Int) + off = (t : Int)) : EC zs J d c rt o md pc ls (.int y :: .int x :: st) σ P ↔ if y ≤ x then EC zs J d c rt o md t ls st σ P else EC zs J d c rt o md (pc + 3) ls st σ P := by
  by_cases hp : y ≤ x
  · rw [if_pos hp]; exact ec_to hd (by simp only [cstep, hd]) (by simp [stp, sF2, jmp_of ht, hp])
  · rw [if_neg hp]; exact ec_to hd (by simp only [cstep, hd]) (by simp [stp, sF2, jmp_of ht, hp])
theorem ec_if_gt {x : Int32} {off : Int} {t : Nat} (hd : decode c pc = .ok (.ifCond .gt off, 3)) (ht : (pc : Int) + off = (t : Int)) : EC zs J d c rt o md pc ls (.int x :: st) σ P ↔ if 0 < x then EC zs J d c rt o md t ls st σ P else EC zs J d c rt o md (pc + 3) ls st σ P := by
  by_cases hp : 0 < x
  · rw [if_pos hp]; exact ec_to hd (by simp only [cstep, hd]) (by simp [stp, sF1, jmp_of ht, hp])
  · rw [if_neg hp]; exact ec_to hd (by simp only [cstep, hd]) (by simp [stp, sF1, jmp_of ht, hp])
theorem ec_icmp_gt {x y : Int32} {off : Int} {t : Nat} (hd : decode c pc = .ok (.if_icmp .gt off, 3)) (ht : (pc : Int) + off = (t : Int)) : EC zs J d c rt o md pc ls (.int y :: .int x :: st) σ P ↔ if y < x then EC zs J d c rt o md t ls st σ P else EC zs J d c rt o md (pc + 3) ls st σ P := by
  by_cases hp : y < x
  · rw [if_pos hp]; exact ec_to hd (by simp only [cstep, hd]) (by simp [stp, sF2, jmp_of ht, hp])
  · rw [if_neg hp]; exact ec_to hd (by simp only [cstep, hd]) (by simp [stp, sF2, jmp_of ht, hp])
theorem ec_if_le {x : Int32} {off : Int} {t : Nat} (hd : decode c pc = .ok (.ifCond .le off, 3)) (ht : (pc : Int) + off = (t : Int)) : EC zs J d c rt o md pc ls (.int x :: st) σ P ↔ if x ≤ 0 then EC zs J d c rt o md t ls st σ P else EC zs J d c rt o md (pc + 3) ls st σ P := by
  by_cases hp : x ≤ 0
  · rw [if_pos hp]; exact ec_to hd (by simp only [cstep, hd]) (by simp [stp, sF1, jmp_of ht, hp])
  · rw [if_neg hp]; exact ec_to hd (by simp only [cstep, hd]) (by simp [stp, sF1, jmp_of ht, hp])
theorem ec_icmp_le {x y : Int32} {off : Int} {t : Nat} (hd : decode c pc = .ok (.if_icmp .le off, 3)) (ht : (pc : Int) + off = (t : Int)) : EC zs J d c rt o md pc ls (.int y :: .int x :: st) σ P ↔ if x ≤ y then EC zs J d c rt o md t ls st σ P else EC zs J d c rt o md (pc + 3) ls st σ P := by
  by_cases hp : x ≤ y
  · rw [if_pos hp]; exact ec_to hd (by simp only [cstep, hd]) (by simp [stp, sF2, jmp_of ht, hp])
  · rw [if_neg hp]; exact ec_to hd (by simp only [cstep, hd]) (by simp [stp, sF2, jmp_of ht, hp])
theorem ec_aconst_null (hd : decode c pc = .ok (.aconst_null, 1)) : EC zs J d c rt o md pc ls st σ P ↔ EC zs J d c rt o md (pc + 1) ls (.null :: st) σ P := ec_to hd (by simp only [cstep, hd]) rfl
theorem ec_lstore_n {k : Fin 4} {i : Nat} {x : Int64} (hd : decode c pc = .ok (.lstore_n k, 1)) (hi : (k : Nat) = i) : EC zs J d c rt o md pc ls (.long x :: st) σ P ↔ lin ls (i + 1) = true ∧ EC zs J d c rt o md (pc + 1) (ls2 ls i (.long x)) st σ P := by
  subst hi
  by_cases h : (k : Nat) + 1 < ls.length
  · rw [show (lin ls (k + 1) = true) = True from eq_true (lin_lt.mpr h), true_and]
    exact ec_to hd (by simp only [cstep, hd]) (by simp only [stp, svL, h]; rfl)
  · rw [show (lin ls (k + 1) = true) = False from eq_false (fun z => h (lin_lt.mp z)), false_and]
    exact ep_none (by simp only [cstep, hd, stp, svL, h]; rfl)
theorem ec_astore_n {k : Fin 4} {i : Nat} {x : Nat} (hd : decode c pc = .ok (.astore_n k, 1)) (hi : (k : Nat) = i) : EC zs J d c rt o md pc ls (.ref x :: st) σ P ↔ lin ls i = true ∧ EC zs J d c rt o md (pc + 1) (ls1 ls i (.ref x)) st σ P := by
  subst hi
  by_cases h : (k : Nat) < ls.length
  · rw [show (lin ls k = true) = True from eq_true (lin_lt.mpr h), true_and]
    exact ec_to hd (by simp only [cstep, hd]) (by simp only [stp, svA, h]; rfl)
  · rw [show (lin ls k = true) = False from eq_false (fun z => h (lin_lt.mp z)), false_and]
    exact ep_none (by simp only [cstep, hd, stp, svA, h]; rfl)
theorem ec_astore {k : Nat} {x : Nat} (hd : decode c pc = .ok (.astore k, 2)) : EC zs J d c rt o md pc ls (.ref x :: st) σ P ↔ lin ls k = true ∧ EC zs J d c rt o md (pc + 2) (ls1 ls k (.ref x)) st σ P := by
  by_cases h : k < ls.length
  · rw [show (lin ls k = true) = True from eq_true (lin_lt.mpr h), true_and]
    exact ec_to hd (by simp only [cstep, hd]) (by simp only [stp, svA, h]; rfl)
  · rw [show (lin ls k = true) = False from eq_false (fun z => h (lin_lt.mp z)), false_and]
    exact ep_none (by simp only [cstep, hd, stp, svA, h]; rfl)
theorem ec_astore_nN {k : Fin 4} {i : Nat} (hd : decode c pc = .ok (.astore_n k, 1)) (hi : (k : Nat) = i) : EC zs J d c rt o md pc ls (.null :: st) σ P ↔ lin ls i = true ∧ EC zs J d c rt o md (pc + 1) (ls1 ls i .null) st σ P := by
  subst hi
  by_cases h : (k : Nat) < ls.length
  · rw [show (lin ls k = true) = True from eq_true (lin_lt.mpr h), true_and]
    exact ec_to hd (by simp only [cstep, hd]) (by simp only [stp, svA, h]; rfl)
  · rw [show (lin ls k = true) = False from eq_false (fun z => h (lin_lt.mp z)), false_and]
    exact ep_none (by simp only [cstep, hd, stp, svA, h]; rfl)
theorem ec_astoreN {k : Nat} (hd : decode c pc = .ok (.astore k, 2)) : EC zs J d c rt o md pc ls (.null :: st) σ P ↔ lin ls k = true ∧ EC zs J d c rt o md (pc + 2) (ls1 ls k .null) st σ P := by
  by_cases h : k < ls.length
  · rw [show (lin ls k = true) = True from eq_true (lin_lt.mpr h), true_and]
    exact ec_to hd (by simp only [cstep, hd]) (by simp only [stp, svA, h]; rfl)
  · rw [show (lin ls k = true) = False from eq_false (fun z => h (lin_lt.mp z)), false_and]
    exact ep_none (by simp only [cstep, hd, stp, svA, h]; rfl)
theorem ec_ifnull {v : Value} {off : Int} {t : Nat} (hd : decode c pc = .ok (.ifnull off, 3)) (ht : (pc : Int) + off = (t : Int)) : EC zs J d c rt o md pc ls (v :: st) σ P ↔ nuE v (EC zs J d c rt o md t ls st σ P) (EC zs J d c rt o md (pc + 3) ls st σ P) := by
  cases v with
  | ref x => exact ec_to hd (by simp only [cstep, hd]) (by simp only [stp, sN]; rfl)
  | null => exact ec_to hd (by simp only [cstep, hd]) (by simp only [stp, sN, jmp_of ht]; rfl)
  | _ => exact ep_none (by simp only [cstep, hd, stp, sN]; rfl)
theorem ec_ifnonnull {v : Value} {off : Int} {t : Nat} (hd : decode c pc = .ok (.ifnonnull off, 3)) (ht : (pc : Int) + off = (t : Int)) : EC zs J d c rt o md pc ls (v :: st) σ P ↔ nuE v (EC zs J d c rt o md (pc + 3) ls st σ P) (EC zs J d c rt o md t ls st σ P) := by
  cases v with
  | ref x => exact ec_to hd (by simp only [cstep, hd]) (by simp only [stp, sN, jmp_of ht]; rfl)
  | null => exact ec_to hd (by simp only [cstep, hd]) (by simp only [stp, sN]; rfl)
  | _ => exact ep_none (by simp only [cstep, hd, stp, sN]; rfl)
theorem ec_acmp_ne {x y : Nat} {off : Int} {t : Nat} (hd : decode c pc = .ok (.if_acmp .ne off, 3)) (ht : (pc : Int) + off = (t : Int)) : EC zs J d c rt o md pc ls (.ref y :: .ref x :: st) σ P ↔ if x = y then EC zs J d c rt o md (pc + 3) ls st σ P else EC zs J d c rt o md t ls st σ P := by
  by_cases h : x = y
  · rw [if_pos h]; exact ec_to hd (by simp only [cstep, hd]) (by simp only [stp, sA2, rfo, jmp_of ht, Option.map_some, Option.some.injEq, h]; rfl)
  · rw [if_neg h]; exact ec_to hd (by simp only [cstep, hd]) (by simp only [stp, sA2, rfo, jmp_of ht, Option.map_some, Option.some.injEq, h]; rfl)
theorem ec_acmp_eq {x y : Nat} {off : Int} {t : Nat} (hd : decode c pc = .ok (.if_acmp .eq off, 3)) (ht : (pc : Int) + off = (t : Int)) : EC zs J d c rt o md pc ls (.ref y :: .ref x :: st) σ P ↔ if x = y then EC zs J d c rt o md t ls st σ P else EC zs J d c rt o md (pc + 3) ls st σ P := by
  by_cases h : x = y
  · rw [if_pos h]; exact ec_to hd (by simp only [cstep, hd]) (by simp only [stp, sA2, rfo, jmp_of ht, Option.map_some, Option.some.injEq, h]; rfl)
  · rw [if_neg h]; exact ec_to hd (by simp only [cstep, hd]) (by simp only [stp, sA2, rfo, jmp_of ht, Option.map_some, Option.some.injEq, h]; rfl)
theorem ec_dup_x1 {v w : Value} (hd : decode c pc = .ok (.dup_x1, 1)) : EC zs J d c rt o md pc ls (v :: w :: st) σ P ↔ cat1 v = true ∧ cat1 w = true ∧ EC zs J d c rt o md (pc + 1) ls (v :: w :: v :: st) σ P := by
  by_cases h : v.category = 1 ∧ w.category = 1
  · rw [show (cat1 v = true) = True from eq_true (cat1_iff.mpr h.1), show (cat1 w = true) = True from eq_true (cat1_iff.mpr h.2), true_and, true_and]
    exact ec_to hd (by simp only [cstep, hd]) (by simp only [stp, if_pos h]; rfl)
  · rw [iff_false_intro (show ¬ (cat1 v = true ∧ cat1 w = true ∧ _) from fun z => h ⟨cat1_iff.mp z.1, cat1_iff.mp z.2.1⟩)]
    exact ep_none (by simp only [cstep, hd, stp, if_neg h]; rfl)
theorem ec_tab {x : Int32} {df lo hi : Int} {offs : Array Int} {len : Nat} (hd : decode c pc = .ok (.tableswitch df lo hi offs, len)) : EC zs J d c rt o md pc ls (.int x :: st) σ P ↔ if x.toInt < lo ∨ hi < x.toInt then (∃ t, jmp pc df = some t ∧ EC zs J d c rt o md t ls st σ P) else (∃ off t, offs[(x.toInt - lo).toNat]? = some off ∧ jmp pc off = some t ∧ EC zs J d c rt o md t ls st σ P) := by
  by_cases h : x.toInt < lo ∨ hi < x.toInt
  · rw [if_pos h]
    cases hj : jmp pc df with
    | none => simp only [reduceCtorEq, false_and, exists_false]; exact ep_none (by simp only [cstep, hd, stp, sTab, if_pos h, hj]; rfl)
    | some t => simp only [Option.some.injEq, exists_eq_left']; exact ec_to hd (by simp only [cstep, hd]) (by simp only [stp, sTab, if_pos h, hj]; rfl)
  · rw [if_neg h]
    cases ho : offs[(x.toInt - lo).toNat]? with
    | none => simp only [reduceCtorEq, false_and, exists_false]; exact ep_none (by simp only [cstep, hd, stp, sTab, if_neg h, ho]; rfl)
    | some off =>
      simp only [Option.some.injEq, exists_and_left, exists_eq_left']
      cases hj : jmp pc off with
      | none => simp only [reduceCtorEq, false_and, exists_false]; exact ep_none (by simp only [cstep, hd, stp, sTab, if_neg h, ho, hj]; rfl)
      | some t => simp only [Option.some.injEq, exists_eq_left']; exact ec_to hd (by simp only [cstep, hd]) (by simp only [stp, sTab, if_neg h, ho, hj]; rfl)
theorem ec_ldc2 {idx : Nat} {v : Int64} (hd : decode c pc = .ok (.ldc2_w idx, 3)) (hv : lcc o idx = some v) : EC zs J d c rt o md pc ls st σ P ↔ EC zs J d c rt o md (pc + 3) ls (.long v :: st) σ P := Ep.next (by simp only [cstep, hd, hv]; rfl)
theorem ec_ldcI {idx : Nat} {v : Int32} (hd : decode c pc = .ok (.ldc idx, 2)) (hv : icc o idx = some v) : EC zs J d c rt o md pc ls st σ P ↔ EC zs J d c rt o md (pc + 2) ls (.int v :: st) σ P := Ep.next (by simp only [cstep, hd, cldc, hv]; rfl)
theorem ec_ldcS {idx i : Nat} (hd : decode c pc = .ok (.ldc idx, 2)) (hn : icc 1 idx = none) (hs : scp idx = some i) : EC zs J d c rt 1 md pc ls st σ P ↔ EC zs J d c rt 1 md (pc + 2) ls (.ref (zs i) :: st) σ P := Ep.next (by simp only [cstep, hd, cldc, hn, hs]; rfl)
theorem ec_ldcwS {idx i : Nat} (hd : decode c pc = .ok (.ldc_w idx, 3)) (hn : icc 1 idx = none) (hs : scp idx = some i) : EC zs J d c rt 1 md pc ls st σ P ↔ EC zs J d c rt 1 md (pc + 3) ls (.ref (zs i) :: st) σ P := Ep.next (by simp only [cstep, hd, cldc, hn, hs]; rfl)
theorem ec_stat0 (hd : decode c pc = .ok (.getstatic 15, 3)) : EC zs J d c rt 36 md pc ls st σ P ↔ EC zs J d c rt 36 md (pc + 3) ls (.ref (zs 100) :: st) σ P := Ep.next (by simp only [cstep, hd]; rfl)
theorem ec_stat1 (hd : decode c pc = .ok (.getstatic 39, 3)) : EC zs J d c rt 36 md pc ls st σ P ↔ EC zs J d c rt 36 md (pc + 3) ls (.ref (zs 101) :: st) σ P := Ep.next (by simp only [cstep, hd]; rfl)
theorem ec_get {idx a : Nat} (hd : decode c pc = .ok (.getfield idx, 3)) : EC zs J d c rt o md pc ls (.ref a :: st) σ P ↔ gE o idx (gC σ a) (eV zs J d c rt o md (pc + 3) ls st σ P) := by
  unfold gE aE
  split
  · rename_i ci fs hg
    split
    · rename_i p hp
      split
      · rename_i v hv
        exact Ep.next (by simp only [cstep, hd, cget, hg, hp, hv]; rfl)
      · rename_i hv
        exact ep_none (by simp only [cstep, hd, cget, hg, hp, hv]; rfl)
    · rename_i hp
      exact ep_none (by simp only [cstep, hd, cget, hg, hp]; rfl)
  · rename_i h
    refine ep_none ?_
    simp only [cstep, hd, cget, if_true]
    all_goals (split <;> first | (rename_i hg; exact absurd hg (h _ _)) | rfl)
theorem ec_put {idx a : Nat} {v : Value} (hd : decode c pc = .ok (.putfield idx, 3)) : EC zs J d c rt o md pc ls (v :: .ref a :: st) σ P ↔ pE o md idx a v σ (gC σ a) (eS zs J d c rt o md (pc + 3) ls st P) := by
  unfold pE
  split
  · rename_i ci fs hg
    split
    · rename_i p hp
      by_cases hc : p < fs.length ∧ ci ≠ 39 ∧ okV (cTy ci p) v = true ∧ fwr o md ci p = true
      · rw [show (vin fs p = true ∧ ci ≠ 39 ∧ okV (cTy ci p) v = true ∧ fwr o md ci p = true) = True from eq_true ⟨vin_lt.mpr hc.1, hc.2⟩, true_and]
        exact Ep.next (by simp only [cstep, hd, cput, hg, hp, if_pos hc]; rfl)
      · rw [show (vin fs p = true ∧ ci ≠ 39 ∧ okV (cTy ci p) v = true ∧ fwr o md ci p = true) = False from eq_false (fun z => hc ⟨vin_lt.mp z.1, z.2⟩), false_and]
        exact ep_none (by simp only [cstep, hd, cput, hg, hp, if_neg hc]; rfl)
    · rename_i hp
      exact ep_none (by simp only [cstep, hd, cput, hg, hp]; rfl)
  · rename_i h
    refine ep_none ?_
    simp only [cstep, hd, cput, if_true]
    all_goals (split <;> first | (rename_i hg; exact absurd hg (h _ _)) | rfl)
theorem ec_iald {i : Int32} {a : Nat} (hd : decode c pc = .ok (.iaload, 1)) : EC zs J d c rt o md pc ls (.int i :: .ref a :: st) σ P ↔ iaE 0 i (gC σ a) (eI zs J d c rt o md (pc + 1) ls st σ P) := by
  unfold iaE
  split
  · rename_i kd n f hg
    by_cases hc : kd = 0 ∧ inb i n = true
    · obtain ⟨rfl, h2⟩ := hc
      simp only [h2, true_and]
      exact Ep.next (by simp only [cstep, hd, if_true, cald, hg, h2]; rfl)
    · exact (ep_none (by simp only [cstep, hd, if_true, cald, hg]; exact if_neg (fun z => hc ⟨z.1, z.2.2⟩))).trans ⟨False.elim, fun z => hc ⟨z.1, z.2.1⟩⟩
  · rename_i h
    refine ep_none ?_
    simp only [cstep, hd, if_true, cald]
    all_goals (split <;> first | (rename_i hg; exact absurd hg (h _ _ _)) | simp | rfl)
theorem ec_bald {i : Int32} {a : Nat} (hd : decode c pc = .ok (.baload, 1)) : EC zs J d c rt o md pc ls (.int i :: .ref a :: st) σ P ↔ iaE 1 i (gC σ a) (eI zs J d c rt o md (pc + 1) ls st σ P) := by
  unfold iaE
  split
  · rename_i kd n f hg
    by_cases hc : kd = 1 ∧ inb i n = true
    · obtain ⟨rfl, h2⟩ := hc
      simp only [h2, true_and]
      exact Ep.next (by simp only [cstep, hd, if_true, cald, hg, h2]; rfl)
    · exact (ep_none (by simp only [cstep, hd, if_true, cald, hg]; exact if_neg (fun z => hc ⟨z.1, z.2.2⟩))).trans ⟨False.elim, fun z => hc ⟨z.1, z.2.1⟩⟩
  · rename_i h
    refine ep_none ?_
    simp only [cstep, hd, if_true, cald]
    all_goals (split <;> first | (rename_i hg; exact absurd hg (h _ _ _)) | simp | rfl)
theorem ec_lald {i : Int32} {a : Nat} (hd : decode c pc = .ok (.laload, 1)) : EC zs J d c rt o md pc ls (.int i :: .ref a :: st) σ P ↔ laE i (gC σ a) (eLg zs J d c rt o md (pc + 1) ls st σ P) := by
  unfold laE
  split
  · rename_i kd n f hg
    by_cases hc : kd = 2 ∧ inb i n = true
    · obtain ⟨rfl, h2⟩ := hc
      simp only [h2, true_and]
      exact Ep.next (by simp only [cstep, hd, if_true, cald, hg, h2]; rfl)
    · exact (ep_none (by simp only [cstep, hd, if_true, cald, hg]; exact if_neg (fun z => hc ⟨z.1, z.2.2⟩))).trans ⟨False.elim, fun z => hc ⟨z.1, z.2.1⟩⟩
  · rename_i h
    refine ep_none ?_
    simp only [cstep, hd, if_true, cald]
    all_goals (split <;> first | (rename_i hg; exact absurd hg (h _ _ _)) | simp | rfl)
theorem ec_aald {i : Int32} {a : Nat} (hd : decode c pc = .ok (.aaload, 1)) : EC zs J d c rt o md pc ls (.int i :: .ref a :: st) σ P ↔ raE i (gC σ a) (eV zs J d c rt o md (pc + 1) ls st σ P) := by
  unfold raE
  split
  · rename_i kd n f hg
    by_cases hc : (4 ≤ kd ∧ kd ≤ 9) ∧ inb i n = true
    · obtain ⟨⟨h0, h1⟩, h2⟩ := hc
      simp only [h0, h1, h2, true_and, and_self]
      exact Ep.next (by simp only [cstep, hd, if_true, cald, hg, h0, h1, h2]; rfl)
    · exact (ep_none (by simp only [cstep, hd, if_true, cald, hg]; exact if_neg (fun z => hc ⟨⟨z.1, z.2.1⟩, z.2.2.2⟩))).trans ⟨False.elim, fun z => hc ⟨z.1, z.2.1⟩⟩
  · rename_i h
    refine ep_none ?_
    simp only [cstep, hd, if_true, cald]
    all_goals (split <;> first | (rename_i hg; exact absurd hg (h _ _ _)) | simp | rfl)
theorem ec_iast {i v : Int32} {a : Nat} (hd : decode c pc = .ok (.iastore, 1)) : EC zs J d c rt o md pc ls (.int v :: .int i :: .ref a :: st) σ P ↔ isE 0 a i v σ (gC σ a) (eS zs J d c rt o md (pc + 1) ls st P) := by
  unfold isE
  split
  · rename_i kd n f hg
    by_cases hc : kd = 0 ∧ inb i n = true
    · obtain ⟨rfl, h2⟩ := hc
      simp only [h2, true_and, Nat.zero_ne_one, false_implies]
      exact Ep.next (by simp only [cstep, hd, if_true, cast_, hg, h2]; rfl)
    · exact (ep_none (by simp only [cstep, hd, if_true, cast_, hg]; exact if_neg (fun z => hc ⟨z.1, z.2.2.1⟩))).trans ⟨False.elim, fun z => hc ⟨z.1, z.2.1⟩⟩
  · rename_i h
    refine ep_none ?_
    simp only [cstep, hd, if_true, cast_]
    all_goals (split <;> first | (rename_i hg; exact absurd hg (h _ _ _)) | simp | rfl)
theorem ec_bast {i v : Int32} {a : Nat} (hd : decode c pc = .ok (.bastore, 1)) : EC zs J d c rt o md pc ls (.int v :: .int i :: .ref a :: st) σ P ↔ isE 1 a i v σ (gC σ a) (eS zs J d c rt o md (pc + 1) ls st P) := by
  unfold isE
  split
  · rename_i kd n f hg
    by_cases hc : kd = 1 ∧ inb i n = true ∧ (v = 0 ∨ v = 1)
    · obtain ⟨rfl, h2, h3⟩ := hc
      simp only [h2, h3, true_and, imp_self]
      exact Ep.next (by simp only [cstep, hd, if_true, cast_, hg, h2, h3]; rfl)
    · exact (ep_none (by simp only [cstep, hd, if_true, cast_, hg]; exact if_neg (fun z => hc ⟨z.1, z.2.2.1, z.2.2.2 trivial⟩))).trans ⟨False.elim, fun z => hc ⟨z.1, z.2.1, z.2.2.1 rfl⟩⟩
  · rename_i h
    refine ep_none ?_
    simp only [cstep, hd, if_true, cast_]
    all_goals (split <;> first | (rename_i hg; exact absurd hg (h _ _ _)) | simp | rfl)
theorem ec_last {i : Int32} {v : Int64} {a : Nat} (hd : decode c pc = .ok (.lastore, 1)) : EC zs J d c rt o md pc ls (.long v :: .int i :: .ref a :: st) σ P ↔ lsE a i v σ (gC σ a) (eS zs J d c rt o md (pc + 1) ls st P) := by
  unfold lsE
  split
  · rename_i kd n f hg
    by_cases hc : kd = 2 ∧ inb i n = true
    · obtain ⟨rfl, h2⟩ := hc
      simp only [h2, true_and]
      exact Ep.next (by simp only [cstep, hd, if_true, cast_, hg, h2]; rfl)
    · exact (ep_none (by simp only [cstep, hd, if_true, cast_, hg]; exact if_neg (fun z => hc ⟨z.1, z.2.2⟩))).trans ⟨False.elim, fun z => hc ⟨z.1, z.2.1⟩⟩
  · rename_i h
    refine ep_none ?_
    simp only [cstep, hd, if_true, cast_]
    all_goals (split <;> first | (rename_i hg; exact absurd hg (h _ _ _)) | simp | rfl)
theorem ec_aastN {i : Int32} {a : Nat} (hd : decode c pc = .ok (.aastore, 1)) : EC zs J d c rt o md pc ls (.null :: .int i :: .ref a :: st) σ P ↔ nsE a i σ (gC σ a) (eS zs J d c rt o md (pc + 1) ls st P) := by
  unfold nsE
  split
  · rename_i kd n f hg
    by_cases hc : (4 ≤ kd ∧ kd ≤ 7) ∧ inb i n = true
    · obtain ⟨⟨h0, h1⟩, h2⟩ := hc
      simp only [h0, h1, h2, true_and, and_self]
      exact Ep.next (by simp only [cstep, hd, if_true, cast_, hg, h0, h1, h2]; rfl)
    · exact (ep_none (by simp only [cstep, hd, if_true, cast_, hg]; exact if_neg (fun z => hc ⟨⟨z.1, z.2.1⟩, z.2.2.2⟩))).trans ⟨False.elim, fun z => hc ⟨z.1, z.2.1⟩⟩
  · rename_i h
    refine ep_none ?_
    simp only [cstep, hd, if_true, cast_]
    all_goals (split <;> first | (rename_i hg; exact absurd hg (h _ _ _)) | simp | rfl)
theorem ec_aast {i : Int32} {a v : Nat} (hd : decode c pc = .ok (.aastore, 1)) : EC zs J d c rt o md pc ls (.ref v :: .int i :: .ref a :: st) σ P ↔ rsE (strB zs v) a i v σ (gC σ a) (gC σ v) (eS zs J d c rt o md (pc + 1) ls st P) := by
  unfold rsE
  split
  · rename_i kd n f hg
    by_cases hc : rok kd (gC σ v) (strB zs v) = true ∧ inb i n = true
    · simp only [hc.1, hc.2, true_and]
      obtain ⟨h1, h2⟩ := hc
      unfold rok at h1
      split at h1
      · rename_i kd2 y hy
        obtain ⟨rfl, rfl⟩ := of_decide_eq_true h1
        exact Ep.next (by simp only [cstep, hd, if_true, cast_, hg, hy, h2]; rfl)
      · rename_i ci fs hy
        exact Ep.next (by simp only [cstep, hd, if_true, cast_, hg, hy, h2]; rw [if_pos ⟨of_decide_eq_true h1, trivial, trivial⟩]; rfl)
      · rename_i hy
        rw [Bool.and_eq_true] at h1
        obtain ⟨h1, h3⟩ := h1
        have h1 := of_decide_eq_true h1
        subst h1
        exact Ep.next (by simp only [cstep, hd, if_true, cast_, hg, hy, h2, h3]; rfl)
    · refine (ep_none ?_).trans ⟨False.elim, fun z => hc ⟨z.1, z.2.1⟩⟩
      simp only [cstep, hd, if_true, cast_, hg]
      split
      · rename_i hx hy
        cases hx
        refine if_neg (fun z => hc ⟨?_, z.2.2.2⟩)
        simp only [rok, hy, z.1, z.2.1, and_self, decide_true]
      · rename_i hx hy
        cases hx
        refine if_neg (fun z => hc ⟨?_, z.2.2⟩)
        simp only [rok, hy, z.1, decide_true]
      · rename_i hx hy
        cases hx
        refine if_neg (fun z => hc ⟨?_, z.2.2.1⟩)
        simp only [rok, hy, z.1, z.2.2.2, decide_true, Bool.and_self]
      · rfl
  · rename_i h
    refine ep_none ?_
    simp only [cstep, hd, if_true, cast_]
    all_goals (split <;> first | (rename_i hg _; exact absurd hg (h _ _ _)) | rfl)
theorem ec_alen {a : Nat} (hd : decode c pc = .ok (.arraylength, 1)) : EC zs J d c rt o md pc ls (.ref a :: st) σ P ↔ leE (gC σ a) (eN zs J d c rt o md (pc + 1) ls st σ P) := by
  unfold leE
  split
  · rename_i kd y hg
    by_cases hc : kd < 10
    · simp only [hc, true_and]
      exact Ep.next (by simp only [cstep, hd, if_true, clen, hg, hc]; rfl)
    · exact (ep_none (by simp only [cstep, hd, if_true, clen, hg]; exact if_neg hc)).trans ⟨False.elim, fun z => hc z.1⟩
  · rename_i h
    refine ep_none ?_
    simp only [cstep, hd, if_true, clen]
    all_goals (split <;> first | (rename_i hg; exact absurd hg (h _ _)) | rfl)
theorem ec_new {idx ci sz : Nat} {fs : List Value} (hd : decode c pc = .ok (.new idx, 3)) (hn : ncp o idx = some ci) (hs : cSz ci = sz) (hf : cDf ci = fs) : EC zs J d c rt o md pc ls st σ P ↔ EC zs J d c rt o md (pc + 3) ls (.ref σ.1 :: st) (aC σ sz (.inl (ci, fs))) P := Ep.next (by simp only [cstep, hd, if_true, cnew, hn, hs, hf]; rfl)
theorem ec_newaI {n : Int32} (hd : decode c pc = .ok (.newarray .int, 2)) : EC zs J d c rt o md pc ls (.int n :: st) σ P ↔ (0 ≤ n ∧ n ≤ 100000) ∧ EC zs J d c rt o md (pc + 2) ls (.ref σ.1 :: st) (aC σ n.toNatClampNeg (.inr (0, n.toNatClampNeg, .inl (fun _ => 0)))) P := by
  by_cases hc : 0 ≤ n ∧ n ≤ 100000
  · simp only [hc, and_self, true_and]
    exact Ep.next (by simp only [cstep, hd, if_true, cnewa, knd, hc]; rfl)
  · exact (ep_none (by simp only [cstep, hd, if_true, cnewa, knd]; exact if_neg hc)).trans ⟨False.elim, fun z => hc z.1⟩
theorem ec_newaZ {n : Int32} (hd : decode c pc = .ok (.newarray .boolean, 2)) : EC zs J d c rt o md pc ls (.int n :: st) σ P ↔ (0 ≤ n ∧ n ≤ 100000) ∧ EC zs J d c rt o md (pc + 2) ls (.ref σ.1 :: st) (aC σ n.toNatClampNeg (.inr (1, n.toNatClampNeg, .inl (fun _ => 0)))) P := by
  by_cases hc : 0 ≤ n ∧ n ≤ 100000
  · simp only [hc, and_self, true_and]
    exact Ep.next (by simp only [cstep, hd, if_true, cnewa, knd, hc]; rfl)
  · exact (ep_none (by simp only [cstep, hd, if_true, cnewa, knd]; exact if_neg hc)).trans ⟨False.elim, fun z => hc z.1⟩
theorem ec_newaL {n : Int32} (hd : decode c pc = .ok (.newarray .long, 2)) : EC zs J d c rt o md pc ls (.int n :: st) σ P ↔ (0 ≤ n ∧ n ≤ 100000) ∧ EC zs J d c rt o md (pc + 2) ls (.ref σ.1 :: st) (aC σ n.toNatClampNeg (.inr (2, n.toNatClampNeg, .inr (.inl (fun _ => 0))))) P := by
  by_cases hc : 0 ≤ n ∧ n ≤ 100000
  · simp only [hc, and_self, true_and]
    exact Ep.next (by simp only [cstep, hd, if_true, cnewa, knd, hc]; rfl)
  · exact (ep_none (by simp only [cstep, hd, if_true, cnewa, knd]; exact if_neg hc)).trans ⟨False.elim, fun z => hc z.1⟩
theorem ec_anew {n : Int32} {idx kd : Nat} (hd : decode c pc = .ok (.anewarray idx, 3)) (ha : acp o idx = some kd) : EC zs J d c rt o md pc ls (.int n :: st) σ P ↔ (0 ≤ n ∧ n ≤ 100000) ∧ EC zs J d c rt o md (pc + 3) ls (.ref σ.1 :: st) (aC σ n.toNatClampNeg (.inr (kd, n.toNatClampNeg, .inr (.inr (.inr (.inr (fun _ => none))))))) P := by
  by_cases hc : 0 ≤ n ∧ n ≤ 100000
  · simp only [hc, and_self, true_and]
    exact Ep.next (by simp only [cstep, hd, if_true, canew, ha, hc]; rfl)
  · exact (ep_none (by simp only [cstep, hd, if_true, canew, ha]; exact if_neg hc)).trans ⟨False.elim, fun z => hc z.1⟩
theorem ec_mul {n m : Int32} {idx : Nat} (hd : decode c pc = .ok (.multianewarray idx 2, 4)) (hm : mulK o idx = true) : EC zs J d c rt o md pc ls (.int m :: .int n :: st) σ P ↔ ((0 ≤ n ∧ n ≤ 100) ∧ 0 ≤ m ∧ m ≤ 100000) ∧ EC zs J d c rt o md (pc + 4) ls (.ref σ.1 :: st) (mC σ n.toNatClampNeg m.toNatClampNeg) P := by
  by_cases hc : (0 ≤ n ∧ n ≤ 100) ∧ 0 ≤ m ∧ m ≤ 100000
  · simp only [hc, and_self, true_and]
    exact Ep.next (by simp only [cstep, hd, if_true, cmul, hm, hc]; rfl)
  · exact (ep_none (by simp only [cstep, hd, if_true, cmul, hm]; exact if_neg (fun z => hc z.2))).trans ⟨False.elim, fun z => hc z.1⟩
theorem ec_castN {idx : Nat} (hd : decode c pc = .ok (.checkcast idx, 3)) : EC zs J d c rt o md pc ls (.null :: st) σ P ↔ EC zs J d c rt o md (pc + 3) ls (.null :: st) σ P := Ep.next (by simp only [cstep, hd, if_true, ccast]; rfl)
theorem ec_cast {idx a : Nat} (hd : decode c pc = .ok (.checkcast idx, 3)) : EC zs J d c rt o md pc ls (.ref a :: st) σ P ↔ kE o idx (gC σ a) (EC zs J d c rt o md (pc + 3) ls (.ref a :: st) σ P) := by
  unfold kE
  split
  · rename_i ci fs hg
    by_cases hc : kcc o idx ci = true
    · simp only [hc, true_and]
      exact Ep.next (by simp only [cstep, hd, if_true, ccast, hg, hc]; rfl)
    · exact (ep_none (by simp only [cstep, hd, if_true, ccast, hg]; exact if_neg hc)).trans ⟨False.elim, fun z => hc z.1⟩
  · rename_i kd y hg
    by_cases hc : kd = 0 ∧ kca o idx = true
    · simp only [hc, true_and, and_self]
      exact Ep.next (by simp only [cstep, hd, if_true, ccast, hg, hc]; rfl)
    · exact (ep_none (by simp only [cstep, hd, if_true, ccast, hg]; exact if_neg hc)).trans ⟨False.elim, fun z => hc z.1⟩
  · rename_i hg
    exact ep_none (by simp only [cstep, hd, if_true, ccast, hg])
theorem ec_iret {x : Int32} (hd : decode c pc = .ok (.ireturn, 1)) : EC zs J d c (some .int) o md pc ls [.int x] σ P ↔ P (.inl (some (.int x)), σ) := Ep.ret (by simp only [cstep, hd]; rfl)
theorem ec_zret {x : Int32} (hd : decode c pc = .ok (.ireturn, 1)) : EC zs J d c (some .boolean) o md pc ls [.int x] σ P ↔ (x = 0 ∨ x = 1) ∧ P (.inl (some (.int x)), σ) := by
  by_cases h : x = 0 ∨ x = 1
  · rw [show (x = 0 ∨ x = 1) = True from eq_true h, true_and]
    exact Ep.ret (by simp only [cstep, hd, if_true, cret, if_pos h]; rfl)
  · rw [show (x = 0 ∨ x = 1) = False from eq_false h, false_and]
    exact ep_none (by simp only [cstep, hd, if_true, cret, if_neg h]; rfl)
theorem ec_lret {x : Int64} (hd : decode c pc = .ok (.lreturn, 1)) : EC zs J d c (some .long) o md pc ls [.long x] σ P ↔ P (.inl (some (.long x)), σ) := Ep.ret (by simp only [cstep, hd]; rfl)
theorem ec_aret {x : Nat} {C : String} (hd : decode c pc = .ok (.areturn, 1)) : EC zs J d c (some (.object C)) o md pc ls [.ref x] σ P ↔ P (.inl (some (.ref x)), σ) := Ep.ret (by simp only [cstep, hd]; rfl)
theorem ec_aretN {C : String} (hd : decode c pc = .ok (.areturn, 1)) : EC zs J d c (some (.object C)) o md pc ls [.null] σ P ↔ P (.inl (some .null), σ) := Ep.ret (by simp only [cstep, hd]; rfl)
theorem ec_aretA {x : Nat} {T : FieldType} (hd : decode c pc = .ok (.areturn, 1)) : EC zs J d c (some (.array T)) o md pc ls [.ref x] σ P ↔ P (.inl (some (.ref x)), σ) := Ep.ret (by simp only [cstep, hd]; rfl)
theorem ec_vret (hd : decode c pc = .ok (.return_, 1)) : EC zs J d c none o md pc ls [] σ P ↔ P (.inl none, σ) := Ep.ret (by simp only [cstep, hd]; rfl)
theorem ec_athrow {x : Nat} (hd : decode c pc = .ok (.athrow, 1)) : EC zs J d c rt o md pc ls (.ref x :: st) σ P ↔ ET zs J d c rt o md x pc ls [] σ P := Ep.next (by simp only [cstep, hd]; rfl)
end
def EZ (zs : Nat → Nat) (J : CJ) (d : Nat) (c : ByteArray) (rt : Option FieldType) (o md : Nat) (pc : Nat) (ls : LsT) (st : List Value) (σ : CM) (P : CR → Prop) : Prop := EC zs J d c rt o md pc ls st σ P
def vcE (o idx k : Nat) (x : Option Cl) (K : ByteArray → Option FieldType → Nat → Nat → Prop) (Z : Prop) : Prop := match x with
  | some (.inl (ci, _)) => match ccp o idx ci with
    | some (_, _, tg, rc, _, cc, rt, o2, nL, n) => if tg = 0 ∧ n = k ∧ rc = some ci then K cc rt o2 nL else Z
    | none => Z
  | _ => Z
theorem vcE_o {o idx ci k a1 a2 o2 nL : Nat} {y : MethodName} {cc : ByteArray} {rt : Option FieldType} (h : ccp o idx ci = some (a1, a2, 0, some ci, y, cc, rt, o2, nL, k)) {fs : List Value} {K : ByteArray → Option FieldType → Nat → Nat → Prop} {Z : Prop} : vcE o idx k (some (.inl (ci, fs))) K Z = K cc rt o2 nL := by simp only [vcE, h, and_self, if_true]
def scE (ci : Nat) (x : Option Cl) (K Z : Prop) : Prop := match x with
  | some (.inl (cj, _)) => if cj = ci then K else Z
  | _ => Z
theorem scE_o {ci : Nat} {fs : List Value} {K Z : Prop} : scE ci (some (.inl (ci, fs))) K Z = K := by simp only [scE, if_true]
def jE (x : Option (Option Value × CM)) (K : Option Value → CM → Prop) : Prop := match x with
  | some (v, σ) => K v σ
  | none => False
theorem jE_s {v : Option Value} {σ : CM} {K : Option Value → CM → Prop} : jE (some (v, σ)) K = K v σ := rfl
section
variable {zs : Nat → Nat} {J : CJ} {d : Nat} {c : ByteArray} {rt : Option FieldType} {o md : Nat} {pc : Nat} {ls : LsT} {st : List Value} {σ : CM} {P : CR → Prop}
theorem ec_cv0 {idx a : Nat} (hd : decode c pc = .ok (.invokevirtual idx, 3)) (hi : iT o idx = none) (hn : cna o idx = some 1) : EC zs J (d + 1) c rt o md pc ls (.ref a :: st) σ P ↔ vcE o idx 1 (gC σ a) (eCl zs J d c rt o md pc ls st σ P [.ref a]) (EZ zs J (d + 1) c rt o md pc ls (.ref a :: st) σ P) := by
  unfold vcE
  split
  · rename_i ci fs hg
    have hr : rcls σ (.ref a :: st) 1 = some ci := by simp [rcls, hg]
    split
    · rename_i a1 a2 tg rc y cc rt2 o2 nL n he
      split
      · rename_i hc
        obtain ⟨rfl, rfl, rfl⟩ := hc
        by_cases hc : catS st ≤ 8 ∧ (lg_sl [.ref a]).length ≤ nL
        · obtain ⟨e1, e2⟩ := hc
          simp only [eCl, catB_iff.mpr e1, catB_sl.mpr e2, true_and]
          refine (Ep.call (k := fun q => match q.1 with
          | .inl v => ((c, rt, o, md), none, pc + 3, ls, v.toList ++ st, q.2)
          | .inr x => ((c, rt, o, md), some x, pc, ls, st, q.2)) ?_).trans ⟨fun h => Ep.mono h fun q hq => ?_, fun h => Ep.mono h fun q hq => ?_⟩
          · simp only [cstep, hd, if_true, cinv, hi, ccall, hn, Option.bind_some, hr, he]
            simp [e1, e2, recvB, hg] <;> rfl
          · obtain ⟨q, σ'⟩ := q; cases q <;> exact hq
          · obtain ⟨q, σ'⟩ := q; cases q <;> exact hq
        · refine (ep_none ?_).trans ⟨False.elim, fun z => hc ⟨catB_iff.mp z.1, catB_sl.mp z.2.1⟩⟩
          simp only [cstep, hd, if_true, cinv, hi, ccall, hn, Option.bind_some, hr, he]
          simp
          intro h1 h2
          exact absurd ⟨h1, h2⟩ hc
      · exact Iff.rfl
    · exact Iff.rfl
  · exact Iff.rfl
theorem ec_ci0 {idx a a1 a2 o2 nL : Nat} {y : MethodName} {cc : ByteArray} {rt2 : Option FieldType} (hd : decode c pc = .ok (.invokespecial idx, 3)) (hi : iT o idx = none) (hm : ccp o idx 99 = some (a1, a2, 1, none, y, cc, rt2, o2, nL, 1)) : EC zs J (d + 1) c rt o md pc ls (.ref a :: st) σ P ↔ catB st 8 = true ∧ catB [.ref a] nL = true ∧ EC zs J d cc rt2 o2 9 0 (lent [.ref a] nL) [] σ (EK zs J (d + 1) c rt o md pc ls st P) := by
  by_cases hc : catS st ≤ 8 ∧ (lg_sl [.ref a]).length ≤ nL
  · obtain ⟨e1, e2⟩ := hc
    simp only [catB_iff.mpr e1, catB_sl.mpr e2, true_and]
    refine (Ep.call (k := fun q => match q.1 with
          | .inl v => ((c, rt, o, md), none, pc + 3, ls, v.toList ++ st, q.2)
          | .inr x => ((c, rt, o, md), some x, pc, ls, st, q.2)) ?_).trans ⟨fun h => Ep.mono h fun q hq => ?_, fun h => Ep.mono h fun q hq => ?_⟩
    · simp only [cstep, hd, if_true, cinv, hi, ccall, hm]
      simp [e1, e2, recvB] <;> rfl
    · obtain ⟨q, σ'⟩ := q; cases q <;> exact hq
    · obtain ⟨q, σ'⟩ := q; cases q <;> exact hq
  · refine (ep_none ?_).trans ⟨False.elim, fun z => hc ⟨catB_iff.mp z.1, catB_sl.mp z.2.1⟩⟩
    simp only [cstep, hd, if_true, cinv, hi, ccall, hm]
    simp
    intro h1 h2
    exact absurd ⟨h1, h2⟩ hc
theorem ec_su0 {idx a a1 a2 o2 nL ci : Nat} {y : MethodName} {cc : ByteArray} {rt2 : Option FieldType} (hd : decode c pc = .ok (.invokespecial idx, 3)) (hi : iT o idx = none) (hm : ccp o idx 99 = some (a1, a2, 1, some ci, y, cc, rt2, o2, nL, 1)) : EC zs J (d + 1) c rt o md pc ls (.ref a :: st) σ P ↔ scE ci (gC σ a) (catB st 8 = true ∧ catB [.ref a] nL = true ∧ EC zs J d cc rt2 o2 0 0 (lent [.ref a] nL) [] σ (EK zs J (d + 1) c rt o md pc ls st P)) (EZ zs J (d + 1) c rt o md pc ls (.ref a :: st) σ P) := by
  unfold scE
  split
  · rename_i cj fs hg
    split
    · rename_i hcj
      subst hcj
      by_cases hc : catS st ≤ 8 ∧ (lg_sl [.ref a]).length ≤ nL
      · obtain ⟨e1, e2⟩ := hc
        simp only [catB_iff.mpr e1, catB_sl.mpr e2, true_and]
        refine (Ep.call (k := fun q => match q.1 with
          | .inl v => ((c, rt, o, md), none, pc + 3, ls, v.toList ++ st, q.2)
          | .inr x => ((c, rt, o, md), some x, pc, ls, st, q.2)) ?_).trans ⟨fun h => Ep.mono h fun q hq => ?_, fun h => Ep.mono h fun q hq => ?_⟩
        · simp only [cstep, hd, if_true, cinv, hi, ccall, hm]
          simp [e1, e2, recvB, hg] <;> rfl
        · obtain ⟨q, σ'⟩ := q; cases q <;> exact hq
        · obtain ⟨q, σ'⟩ := q; cases q <;> exact hq
      · refine (ep_none ?_).trans ⟨False.elim, fun z => hc ⟨catB_iff.mp z.1, catB_sl.mp z.2.1⟩⟩
        simp only [cstep, hd, if_true, cinv, hi, ccall, hm]
        simp
        intro h1 h2
        exact absurd ⟨h1, h2⟩ hc
    · exact Iff.rfl
  · exact Iff.rfl
theorem ec_cv1 {idx a : Nat} {v1 : Value} (hd : decode c pc = .ok (.invokevirtual idx, 3)) (hi : iT o idx = none) (hn : cna o idx = some 2) : EC zs J (d + 1) c rt o md pc ls (v1 :: .ref a :: st) σ P ↔ vcE o idx 2 (gC σ a) (eCl zs J d c rt o md pc ls st σ P [.ref a, v1]) (EZ zs J (d + 1) c rt o md pc ls (v1 :: .ref a :: st) σ P) := by
  unfold vcE
  split
  · rename_i ci fs hg
    have hr : rcls σ (v1 :: .ref a :: st) 2 = some ci := by simp [rcls, hg]
    split
    · rename_i a1 a2 tg rc y cc rt2 o2 nL n he
      split
      · rename_i hc
        obtain ⟨rfl, rfl, rfl⟩ := hc
        by_cases hc : catS st ≤ 8 ∧ (lg_sl [.ref a, v1]).length ≤ nL
        · obtain ⟨e1, e2⟩ := hc
          simp only [eCl, catB_iff.mpr e1, catB_sl.mpr e2, true_and]
          refine (Ep.call (k := fun q => match q.1 with
          | .inl v => ((c, rt, o, md), none, pc + 3, ls, v.toList ++ st, q.2)
          | .inr x => ((c, rt, o, md), some x, pc, ls, st, q.2)) ?_).trans ⟨fun h => Ep.mono h fun q hq => ?_, fun h => Ep.mono h fun q hq => ?_⟩
          · simp only [cstep, hd, if_true, cinv, hi, ccall, hn, Option.bind_some, hr, he]
            simp [e1, e2, recvB, hg] <;> rfl
          · obtain ⟨q, σ'⟩ := q; cases q <;> exact hq
          · obtain ⟨q, σ'⟩ := q; cases q <;> exact hq
        · refine (ep_none ?_).trans ⟨False.elim, fun z => hc ⟨catB_iff.mp z.1, catB_sl.mp z.2.1⟩⟩
          simp only [cstep, hd, if_true, cinv, hi, ccall, hn, Option.bind_some, hr, he]
          simp
          intro h1 h2
          exact absurd ⟨h1, h2⟩ hc
      · exact Iff.rfl
    · exact Iff.rfl
  · exact Iff.rfl
theorem ec_ci1 {idx a a1 a2 o2 nL : Nat} {y : MethodName} {cc : ByteArray} {rt2 : Option FieldType} {v1 : Value} (hd : decode c pc = .ok (.invokespecial idx, 3)) (hi : iT o idx = none) (hm : ccp o idx 99 = some (a1, a2, 1, none, y, cc, rt2, o2, nL, 2)) : EC zs J (d + 1) c rt o md pc ls (v1 :: .ref a :: st) σ P ↔ catB st 8 = true ∧ catB [.ref a, v1] nL = true ∧ EC zs J d cc rt2 o2 9 0 (lent [.ref a, v1] nL) [] σ (EK zs J (d + 1) c rt o md pc ls st P) := by
  by_cases hc : catS st ≤ 8 ∧ (lg_sl [.ref a, v1]).length ≤ nL
  · obtain ⟨e1, e2⟩ := hc
    simp only [catB_iff.mpr e1, catB_sl.mpr e2, true_and]
    refine (Ep.call (k := fun q => match q.1 with
          | .inl v => ((c, rt, o, md), none, pc + 3, ls, v.toList ++ st, q.2)
          | .inr x => ((c, rt, o, md), some x, pc, ls, st, q.2)) ?_).trans ⟨fun h => Ep.mono h fun q hq => ?_, fun h => Ep.mono h fun q hq => ?_⟩
    · simp only [cstep, hd, if_true, cinv, hi, ccall, hm]
      simp [e1, e2, recvB] <;> rfl
    · obtain ⟨q, σ'⟩ := q; cases q <;> exact hq
    · obtain ⟨q, σ'⟩ := q; cases q <;> exact hq
  · refine (ep_none ?_).trans ⟨False.elim, fun z => hc ⟨catB_iff.mp z.1, catB_sl.mp z.2.1⟩⟩
    simp only [cstep, hd, if_true, cinv, hi, ccall, hm]
    simp
    intro h1 h2
    exact absurd ⟨h1, h2⟩ hc
theorem ec_cs1 {idx a1 a2 o2 nL : Nat} {rc : Option Nat} {y : MethodName} {cc : ByteArray} {rt2 : Option FieldType} {v1 : Value} (hd : decode c pc = .ok (.invokestatic idx, 3)) (hi : iT o idx = none) (hm : ccp o idx 99 = some (a1, a2, 2, rc, y, cc, rt2, o2, nL, 1)) : EC zs J (d + 1) c rt o md pc ls (v1 :: st) σ P ↔ catB st 8 = true ∧ catB [v1] nL = true ∧ EC zs J d cc rt2 o2 0 0 (lent [v1] nL) [] σ (EK zs J (d + 1) c rt o md pc ls st P) := by
  by_cases hc : catS st ≤ 8 ∧ (lg_sl [v1]).length ≤ nL
  · obtain ⟨e1, e2⟩ := hc
    simp only [catB_iff.mpr e1, catB_sl.mpr e2, true_and]
    refine (Ep.call (k := fun q => match q.1 with
          | .inl v => ((c, rt, o, md), none, pc + 3, ls, v.toList ++ st, q.2)
          | .inr x => ((c, rt, o, md), some x, pc, ls, st, q.2)) ?_).trans ⟨fun h => Ep.mono h fun q hq => ?_, fun h => Ep.mono h fun q hq => ?_⟩
    · simp only [cstep, hd, if_true, cinv, hi, ccall, hm]
      simp [e1, e2, recvB] <;> rfl
    · obtain ⟨q, σ'⟩ := q; cases q <;> exact hq
    · obtain ⟨q, σ'⟩ := q; cases q <;> exact hq
  · refine (ep_none ?_).trans ⟨False.elim, fun z => hc ⟨catB_iff.mp z.1, catB_sl.mp z.2.1⟩⟩
    simp only [cstep, hd, if_true, cinv, hi, ccall, hm]
    simp
    intro h1 h2
    exact absurd ⟨h1, h2⟩ hc
theorem ec_j01 {idx kind : Nat} {v1 : Value} (hd : decode c pc = .ok (.invokevirtual idx, 3)) (hi : iT o idx = some (kind, 0, 1)) : EC zs J d c rt o md pc ls (v1 :: st) σ P ↔ catB st 8 = true ∧ jE (J kind [v1] σ) (eJ zs J d c rt o md (pc + 3) ls st P) := by
  by_cases hc : catS st ≤ 8
  · simp only [catB_iff.mpr hc, true_and]
    unfold jE
    split
    · rename_i v σ' hj
      exact Ep.next (by simp only [cstep, hd, if_true, cinv, hi]; simp [hc, hj, cN])
    · rename_i hj
      exact ep_none (by simp only [cstep, hd, if_true, cinv, hi]; simp [hc, hj])
  · refine (ep_none ?_).trans ⟨False.elim, fun z => hc (catB_iff.mp z.1)⟩
    simp only [cstep, hd, if_true, cinv, hi]
    simp
    exact fun h => absurd h hc
theorem ec_j11 {idx kind : Nat} {v1 : Value} (hd : decode c pc = .ok (.invokespecial idx, 3)) (hi : iT o idx = some (kind, 1, 1)) : EC zs J d c rt o md pc ls (v1 :: st) σ P ↔ catB st 8 = true ∧ jE (J kind [v1] σ) (eJ zs J d c rt o md (pc + 3) ls st P) := by
  by_cases hc : catS st ≤ 8
  · simp only [catB_iff.mpr hc, true_and]
    unfold jE
    split
    · rename_i v σ' hj
      exact Ep.next (by simp only [cstep, hd, if_true, cinv, hi]; simp [hc, hj, cN])
    · rename_i hj
      exact ep_none (by simp only [cstep, hd, if_true, cinv, hi]; simp [hc, hj])
  · refine (ep_none ?_).trans ⟨False.elim, fun z => hc (catB_iff.mp z.1)⟩
    simp only [cstep, hd, if_true, cinv, hi]
    simp
    exact fun h => absurd h hc
theorem ec_j21 {idx kind : Nat} {v1 : Value} (hd : decode c pc = .ok (.invokestatic idx, 3)) (hi : iT o idx = some (kind, 2, 1)) : EC zs J d c rt o md pc ls (v1 :: st) σ P ↔ catB st 8 = true ∧ jE (J kind [v1] σ) (eJ zs J d c rt o md (pc + 3) ls st P) := by
  by_cases hc : catS st ≤ 8
  · simp only [catB_iff.mpr hc, true_and]
    unfold jE
    split
    · rename_i v σ' hj
      exact Ep.next (by simp only [cstep, hd, if_true, cinv, hi]; simp [hc, hj, cN])
    · rename_i hj
      exact ep_none (by simp only [cstep, hd, if_true, cinv, hi]; simp [hc, hj])
  · refine (ep_none ?_).trans ⟨False.elim, fun z => hc (catB_iff.mp z.1)⟩
    simp only [cstep, hd, if_true, cinv, hi]
    simp
    exact fun h => absurd h hc
theorem ec_cv2 {idx a : Nat} {v1 v2 : Value} (hd : decode c pc = .ok (.invokevirtual idx, 3)) (hi : iT o idx = none) (hn : cna o idx = some 3) : EC zs J (d + 1) c rt o md pc ls (v2 :: v1 :: .ref a :: st) σ P ↔ vcE o idx 3 (gC σ a) (eCl zs J d c rt o md pc ls st σ P [.ref a, v1, v2]) (EZ zs J (d + 1) c rt o md pc ls (v2 :: v1 :: .ref a :: st) σ P) := by
  unfold vcE
  split
  · rename_i ci fs hg
    have hr : rcls σ (v2 :: v1 :: .ref a :: st) 3 = some ci := by simp [rcls, hg]
    split
    · rename_i a1 a2 tg rc y cc rt2 o2 nL n he
      split
      · rename_i hc
        obtain ⟨rfl, rfl, rfl⟩ := hc
        by_cases hc : catS st ≤ 8 ∧ (lg_sl [.ref a, v1, v2]).length ≤ nL
        · obtain ⟨e1, e2⟩ := hc
          simp only [eCl, catB_iff.mpr e1, catB_sl.mpr e2, true_and]
          refine (Ep.call (k := fun q => match q.1 with
          | .inl v => ((c, rt, o, md), none, pc + 3, ls, v.toList ++ st, q.2)
          | .inr x => ((c, rt, o, md), some x, pc, ls, st, q.2)) ?_).trans ⟨fun h => Ep.mono h fun q hq => ?_, fun h => Ep.mono h fun q hq => ?_⟩
          · simp only [cstep, hd, if_true, cinv, hi, ccall, hn, Option.bind_some, hr, he]
            simp [e1, e2, recvB, hg] <;> rfl
          · obtain ⟨q, σ'⟩ := q; cases q <;> exact hq
          · obtain ⟨q, σ'⟩ := q; cases q <;> exact hq
        · refine (ep_none ?_).trans ⟨False.elim, fun z => hc ⟨catB_iff.mp z.1, catB_sl.mp z.2.1⟩⟩
          simp only [cstep, hd, if_true, cinv, hi, ccall, hn, Option.bind_some, hr, he]
          simp
          intro h1 h2
          exact absurd ⟨h1, h2⟩ hc
      · exact Iff.rfl
    · exact Iff.rfl
  · exact Iff.rfl
theorem ec_ci2 {idx a a1 a2 o2 nL : Nat} {y : MethodName} {cc : ByteArray} {rt2 : Option FieldType} {v1 v2 : Value} (hd : decode c pc = .ok (.invokespecial idx, 3)) (hi : iT o idx = none) (hm : ccp o idx 99 = some (a1, a2, 1, none, y, cc, rt2, o2, nL, 3)) : EC zs J (d + 1) c rt o md pc ls (v2 :: v1 :: .ref a :: st) σ P ↔ catB st 8 = true ∧ catB [.ref a, v1, v2] nL = true ∧ EC zs J d cc rt2 o2 9 0 (lent [.ref a, v1, v2] nL) [] σ (EK zs J (d + 1) c rt o md pc ls st P) := by
  by_cases hc : catS st ≤ 8 ∧ (lg_sl [.ref a, v1, v2]).length ≤ nL
  · obtain ⟨e1, e2⟩ := hc
    simp only [catB_iff.mpr e1, catB_sl.mpr e2, true_and]
    refine (Ep.call (k := fun q => match q.1 with
          | .inl v => ((c, rt, o, md), none, pc + 3, ls, v.toList ++ st, q.2)
          | .inr x => ((c, rt, o, md), some x, pc, ls, st, q.2)) ?_).trans ⟨fun h => Ep.mono h fun q hq => ?_, fun h => Ep.mono h fun q hq => ?_⟩
    · simp only [cstep, hd, if_true, cinv, hi, ccall, hm]
      simp [e1, e2, recvB] <;> rfl
    · obtain ⟨q, σ'⟩ := q; cases q <;> exact hq
    · obtain ⟨q, σ'⟩ := q; cases q <;> exact hq
  · refine (ep_none ?_).trans ⟨False.elim, fun z => hc ⟨catB_iff.mp z.1, catB_sl.mp z.2.1⟩⟩
    simp only [cstep, hd, if_true, cinv, hi, ccall, hm]
    simp
    intro h1 h2
    exact absurd ⟨h1, h2⟩ hc
theorem ec_cs2 {idx a1 a2 o2 nL : Nat} {rc : Option Nat} {y : MethodName} {cc : ByteArray} {rt2 : Option FieldType} {v1 v2 : Value} (hd : decode c pc = .ok (.invokestatic idx, 3)) (hi : iT o idx = none) (hm : ccp o idx 99 = some (a1, a2, 2, rc, y, cc, rt2, o2, nL, 2)) : EC zs J (d + 1) c rt o md pc ls (v2 :: v1 :: st) σ P ↔ catB st 8 = true ∧ catB [v1, v2] nL = true ∧ EC zs J d cc rt2 o2 0 0 (lent [v1, v2] nL) [] σ (EK zs J (d + 1) c rt o md pc ls st P) := by
  by_cases hc : catS st ≤ 8 ∧ (lg_sl [v1, v2]).length ≤ nL
  · obtain ⟨e1, e2⟩ := hc
    simp only [catB_iff.mpr e1, catB_sl.mpr e2, true_and]
    refine (Ep.call (k := fun q => match q.1 with
          | .inl v => ((c, rt, o, md), none, pc + 3, ls, v.toList ++ st, q.2)
          | .inr x => ((c, rt, o, md), some x, pc, ls, st, q.2)) ?_).trans ⟨fun h => Ep.mono h fun q hq => ?_, fun h => Ep.mono h fun q hq => ?_⟩
    · simp only [cstep, hd, if_true, cinv, hi, ccall, hm]
      simp [e1, e2, recvB] <;> rfl
    · obtain ⟨q, σ'⟩ := q; cases q <;> exact hq
    · obtain ⟨q, σ'⟩ := q; cases q <;> exact hq
  · refine (ep_none ?_).trans ⟨False.elim, fun z => hc ⟨catB_iff.mp z.1, catB_sl.mp z.2.1⟩⟩
    simp only [cstep, hd, if_true, cinv, hi, ccall, hm]
    simp
    intro h1 h2
    exact absurd ⟨h1, h2⟩ hc
theorem ec_j02 {idx kind : Nat} {v1 v2 : Value} (hd : decode c pc = .ok (.invokevirtual idx, 3)) (hi : iT o idx = some (kind, 0, 2)) : EC zs J d c rt o md pc ls (v2 :: v1 :: st) σ P ↔ catB st 8 = true ∧ jE (J kind [v1, v2] σ) (eJ zs J d c rt o md (pc + 3) ls st P) := by
  by_cases hc : catS st ≤ 8
  · simp only [catB_iff.mpr hc, true_and]
    unfold jE
    split
    · rename_i v σ' hj
      exact Ep.next (by simp only [cstep, hd, if_true, cinv, hi]; simp [hc, hj, cN])
    · rename_i hj
      exact ep_none (by simp only [cstep, hd, if_true, cinv, hi]; simp [hc, hj])
  · refine (ep_none ?_).trans ⟨False.elim, fun z => hc (catB_iff.mp z.1)⟩
    simp only [cstep, hd, if_true, cinv, hi]
    simp
    exact fun h => absurd h hc
theorem ec_j22 {idx kind : Nat} {v1 v2 : Value} (hd : decode c pc = .ok (.invokestatic idx, 3)) (hi : iT o idx = some (kind, 2, 2)) : EC zs J d c rt o md pc ls (v2 :: v1 :: st) σ P ↔ catB st 8 = true ∧ jE (J kind [v1, v2] σ) (eJ zs J d c rt o md (pc + 3) ls st P) := by
  by_cases hc : catS st ≤ 8
  · simp only [catB_iff.mpr hc, true_and]
    unfold jE
    split
    · rename_i v σ' hj
      exact Ep.next (by simp only [cstep, hd, if_true, cinv, hi]; simp [hc, hj, cN])
    · rename_i hj
      exact ep_none (by simp only [cstep, hd, if_true, cinv, hi]; simp [hc, hj])
  · refine (ep_none ?_).trans ⟨False.elim, fun z => hc (catB_iff.mp z.1)⟩
    simp only [cstep, hd, if_true, cinv, hi]
    simp
    exact fun h => absurd h hc
theorem ec_cv3 {idx a : Nat} {v1 v2 v3 : Value} (hd : decode c pc = .ok (.invokevirtual idx, 3)) (hi : iT o idx = none) (hn : cna o idx = some 4) : EC zs J (d + 1) c rt o md pc ls (v3 :: v2 :: v1 :: .ref a :: st) σ P ↔ vcE o idx 4 (gC σ a) (eCl zs J d c rt o md pc ls st σ P [.ref a, v1, v2, v3]) (EZ zs J (d + 1) c rt o md pc ls (v3 :: v2 :: v1 :: .ref a :: st) σ P) := by
  unfold vcE
  split
  · rename_i ci fs hg
    have hr : rcls σ (v3 :: v2 :: v1 :: .ref a :: st) 4 = some ci := by simp [rcls, hg]
    split
    · rename_i a1 a2 tg rc y cc rt2 o2 nL n he
      split
      · rename_i hc
        obtain ⟨rfl, rfl, rfl⟩ := hc
        by_cases hc : catS st ≤ 8 ∧ (lg_sl [.ref a, v1, v2, v3]).length ≤ nL
        · obtain ⟨e1, e2⟩ := hc
          simp only [eCl, catB_iff.mpr e1, catB_sl.mpr e2, true_and]
          refine (Ep.call (k := fun q => match q.1 with
          | .inl v => ((c, rt, o, md), none, pc + 3, ls, v.toList ++ st, q.2)
          | .inr x => ((c, rt, o, md), some x, pc, ls, st, q.2)) ?_).trans ⟨fun h => Ep.mono h fun q hq => ?_, fun h => Ep.mono h fun q hq => ?_⟩
          · simp only [cstep, hd, if_true, cinv, hi, ccall, hn, Option.bind_some, hr, he]
            simp [e1, e2, recvB, hg] <;> rfl
          · obtain ⟨q, σ'⟩ := q; cases q <;> exact hq
          · obtain ⟨q, σ'⟩ := q; cases q <;> exact hq
        · refine (ep_none ?_).trans ⟨False.elim, fun z => hc ⟨catB_iff.mp z.1, catB_sl.mp z.2.1⟩⟩
          simp only [cstep, hd, if_true, cinv, hi, ccall, hn, Option.bind_some, hr, he]
          simp
          intro h1 h2
          exact absurd ⟨h1, h2⟩ hc
      · exact Iff.rfl
    · exact Iff.rfl
  · exact Iff.rfl
theorem ec_ci3 {idx a a1 a2 o2 nL : Nat} {y : MethodName} {cc : ByteArray} {rt2 : Option FieldType} {v1 v2 v3 : Value} (hd : decode c pc = .ok (.invokespecial idx, 3)) (hi : iT o idx = none) (hm : ccp o idx 99 = some (a1, a2, 1, none, y, cc, rt2, o2, nL, 4)) : EC zs J (d + 1) c rt o md pc ls (v3 :: v2 :: v1 :: .ref a :: st) σ P ↔ catB st 8 = true ∧ catB [.ref a, v1, v2, v3] nL = true ∧ EC zs J d cc rt2 o2 9 0 (lent [.ref a, v1, v2, v3] nL) [] σ (EK zs J (d + 1) c rt o md pc ls st P) := by
  by_cases hc : catS st ≤ 8 ∧ (lg_sl [.ref a, v1, v2, v3]).length ≤ nL
  · obtain ⟨e1, e2⟩ := hc
    simp only [catB_iff.mpr e1, catB_sl.mpr e2, true_and]
    refine (Ep.call (k := fun q => match q.1 with
          | .inl v => ((c, rt, o, md), none, pc + 3, ls, v.toList ++ st, q.2)
          | .inr x => ((c, rt, o, md), some x, pc, ls, st, q.2)) ?_).trans ⟨fun h => Ep.mono h fun q hq => ?_, fun h => Ep.mono h fun q hq => ?_⟩
    · simp only [cstep, hd, if_true, cinv, hi, ccall, hm]
      simp [e1, e2, recvB] <;> rfl
    · obtain ⟨q, σ'⟩ := q; cases q <;> exact hq
    · obtain ⟨q, σ'⟩ := q; cases q <;> exact hq
  · refine (ep_none ?_).trans ⟨False.elim, fun z => hc ⟨catB_iff.mp z.1, catB_sl.mp z.2.1⟩⟩
    simp only [cstep, hd, if_true, cinv, hi, ccall, hm]
    simp
    intro h1 h2
    exact absurd ⟨h1, h2⟩ hc
theorem ec_cs3 {idx a1 a2 o2 nL : Nat} {rc : Option Nat} {y : MethodName} {cc : ByteArray} {rt2 : Option FieldType} {v1 v2 v3 : Value} (hd : decode c pc = .ok (.invokestatic idx, 3)) (hi : iT o idx = none) (hm : ccp o idx 99 = some (a1, a2, 2, rc, y, cc, rt2, o2, nL, 3)) : EC zs J (d + 1) c rt o md pc ls (v3 :: v2 :: v1 :: st) σ P ↔ catB st 8 = true ∧ catB [v1, v2, v3] nL = true ∧ EC zs J d cc rt2 o2 0 0 (lent [v1, v2, v3] nL) [] σ (EK zs J (d + 1) c rt o md pc ls st P) := by
  by_cases hc : catS st ≤ 8 ∧ (lg_sl [v1, v2, v3]).length ≤ nL
  · obtain ⟨e1, e2⟩ := hc
    simp only [catB_iff.mpr e1, catB_sl.mpr e2, true_and]
    refine (Ep.call (k := fun q => match q.1 with
          | .inl v => ((c, rt, o, md), none, pc + 3, ls, v.toList ++ st, q.2)
          | .inr x => ((c, rt, o, md), some x, pc, ls, st, q.2)) ?_).trans ⟨fun h => Ep.mono h fun q hq => ?_, fun h => Ep.mono h fun q hq => ?_⟩
    · simp only [cstep, hd, if_true, cinv, hi, ccall, hm]
      simp [e1, e2, recvB] <;> rfl
    · obtain ⟨q, σ'⟩ := q; cases q <;> exact hq
    · obtain ⟨q, σ'⟩ := q; cases q <;> exact hq
  · refine (ep_none ?_).trans ⟨False.elim, fun z => hc ⟨catB_iff.mp z.1, catB_sl.mp z.2.1⟩⟩
    simp only [cstep, hd, if_true, cinv, hi, ccall, hm]
    simp
    intro h1 h2
    exact absurd ⟨h1, h2⟩ hc
theorem ec_j23 {idx kind : Nat} {v1 v2 v3 : Value} (hd : decode c pc = .ok (.invokestatic idx, 3)) (hi : iT o idx = some (kind, 2, 3)) : EC zs J d c rt o md pc ls (v3 :: v2 :: v1 :: st) σ P ↔ catB st 8 = true ∧ jE (J kind [v1, v2, v3] σ) (eJ zs J d c rt o md (pc + 3) ls st P) := by
  by_cases hc : catS st ≤ 8
  · simp only [catB_iff.mpr hc, true_and]
    unfold jE
    split
    · rename_i v σ' hj
      exact Ep.next (by simp only [cstep, hd, if_true, cinv, hi]; simp [hc, hj, cN])
    · rename_i hj
      exact ep_none (by simp only [cstep, hd, if_true, cinv, hi]; simp [hc, hj])
  · refine (ep_none ?_).trans ⟨False.elim, fun z => hc (catB_iff.mp z.1)⟩
    simp only [cstep, hd, if_true, cinv, hi]
    simp
    exact fun h => absurd h hc
theorem ec_cv4 {idx a : Nat} {v1 v2 v3 v4 : Value} (hd : decode c pc = .ok (.invokevirtual idx, 3)) (hi : iT o idx = none) (hn : cna o idx = some 5) : EC zs J (d + 1) c rt o md pc ls (v4 :: v3 :: v2 :: v1 :: .ref a :: st) σ P ↔ vcE o idx 5 (gC σ a) (eCl zs J d c rt o md pc ls st σ P [.ref a, v1, v2, v3, v4]) (EZ zs J (d + 1) c rt o md pc ls (v4 :: v3 :: v2 :: v1 :: .ref a :: st) σ P) := by
  unfold vcE
  split
  · rename_i ci fs hg
    have hr : rcls σ (v4 :: v3 :: v2 :: v1 :: .ref a :: st) 5 = some ci := by simp [rcls, hg]
    split
    · rename_i a1 a2 tg rc y cc rt2 o2 nL n he
      split
      · rename_i hc
        obtain ⟨rfl, rfl, rfl⟩ := hc
        by_cases hc : catS st ≤ 8 ∧ (lg_sl [.ref a, v1, v2, v3, v4]).length ≤ nL
        · obtain ⟨e1, e2⟩ := hc
          simp only [eCl, catB_iff.mpr e1, catB_sl.mpr e2, true_and]
          refine (Ep.call (k := fun q => match q.1 with
          | .inl v => ((c, rt, o, md), none, pc + 3, ls, v.toList ++ st, q.2)
          | .inr x => ((c, rt, o, md), some x, pc, ls, st, q.2)) ?_).trans ⟨fun h => Ep.mono h fun q hq => ?_, fun h => Ep.mono h fun q hq => ?_⟩
          · simp only [cstep, hd, if_true, cinv, hi, ccall, hn, Option.bind_some, hr, he]
            simp [e1, e2, recvB, hg] <;> rfl
          · obtain ⟨q, σ'⟩ := q; cases q <;> exact hq
          · obtain ⟨q, σ'⟩ := q; cases q <;> exact hq
        · refine (ep_none ?_).trans ⟨False.elim, fun z => hc ⟨catB_iff.mp z.1, catB_sl.mp z.2.1⟩⟩
          simp only [cstep, hd, if_true, cinv, hi, ccall, hn, Option.bind_some, hr, he]
          simp
          intro h1 h2
          exact absurd ⟨h1, h2⟩ hc
      · exact Iff.rfl
    · exact Iff.rfl
  · exact Iff.rfl
theorem ec_ci4 {idx a a1 a2 o2 nL : Nat} {y : MethodName} {cc : ByteArray} {rt2 : Option FieldType} {v1 v2 v3 v4 : Value} (hd : decode c pc = .ok (.invokespecial idx, 3)) (hi : iT o idx = none) (hm : ccp o idx 99 = some (a1, a2, 1, none, y, cc, rt2, o2, nL, 5)) : EC zs J (d + 1) c rt o md pc ls (v4 :: v3 :: v2 :: v1 :: .ref a :: st) σ P ↔ catB st 8 = true ∧ catB [.ref a, v1, v2, v3, v4] nL = true ∧ EC zs J d cc rt2 o2 9 0 (lent [.ref a, v1, v2, v3, v4] nL) [] σ (EK zs J (d + 1) c rt o md pc ls st P) := by
  by_cases hc : catS st ≤ 8 ∧ (lg_sl [.ref a, v1, v2, v3, v4]).length ≤ nL
  · obtain ⟨e1, e2⟩ := hc
    simp only [catB_iff.mpr e1, catB_sl.mpr e2, true_and]
    refine (Ep.call (k := fun q => match q.1 with
          | .inl v => ((c, rt, o, md), none, pc + 3, ls, v.toList ++ st, q.2)
          | .inr x => ((c, rt, o, md), some x, pc, ls, st, q.2)) ?_).trans ⟨fun h => Ep.mono h fun q hq => ?_, fun h => Ep.mono h fun q hq => ?_⟩
    · simp only [cstep, hd, if_true, cinv, hi, ccall, hm]
      simp [e1, e2, recvB] <;> rfl
    · obtain ⟨q, σ'⟩ := q; cases q <;> exact hq
    · obtain ⟨q, σ'⟩ := q; cases q <;> exact hq
  · refine (ep_none ?_).trans ⟨False.elim, fun z => hc ⟨catB_iff.mp z.1, catB_sl.mp z.2.1⟩⟩
    simp only [cstep, hd, if_true, cinv, hi, ccall, hm]
    simp
    intro h1 h2
    exact absurd ⟨h1, h2⟩ hc
theorem ec_cs4 {idx a1 a2 o2 nL : Nat} {rc : Option Nat} {y : MethodName} {cc : ByteArray} {rt2 : Option FieldType} {v1 v2 v3 v4 : Value} (hd : decode c pc = .ok (.invokestatic idx, 3)) (hi : iT o idx = none) (hm : ccp o idx 99 = some (a1, a2, 2, rc, y, cc, rt2, o2, nL, 4)) : EC zs J (d + 1) c rt o md pc ls (v4 :: v3 :: v2 :: v1 :: st) σ P ↔ catB st 8 = true ∧ catB [v1, v2, v3, v4] nL = true ∧ EC zs J d cc rt2 o2 0 0 (lent [v1, v2, v3, v4] nL) [] σ (EK zs J (d + 1) c rt o md pc ls st P) := by
  by_cases hc : catS st ≤ 8 ∧ (lg_sl [v1, v2, v3, v4]).length ≤ nL
  · obtain ⟨e1, e2⟩ := hc
    simp only [catB_iff.mpr e1, catB_sl.mpr e2, true_and]
    refine (Ep.call (k := fun q => match q.1 with
          | .inl v => ((c, rt, o, md), none, pc + 3, ls, v.toList ++ st, q.2)
          | .inr x => ((c, rt, o, md), some x, pc, ls, st, q.2)) ?_).trans ⟨fun h => Ep.mono h fun q hq => ?_, fun h => Ep.mono h fun q hq => ?_⟩
    · simp only [cstep, hd, if_true, cinv, hi, ccall, hm]
      simp [e1, e2, recvB] <;> rfl
    · obtain ⟨q, σ'⟩ := q; cases q <;> exact hq
    · obtain ⟨q, σ'⟩ := q; cases q <;> exact hq
  · refine (ep_none ?_).trans ⟨False.elim, fun z => hc ⟨catB_iff.mp z.1, catB_sl.mp z.2.1⟩⟩
    simp only [cstep, hd, if_true, cinv, hi, ccall, hm]
    simp
    intro h1 h2
    exact absurd ⟨h1, h2⟩ hc
theorem ec_j24 {idx kind : Nat} {v1 v2 v3 v4 : Value} (hd : decode c pc = .ok (.invokestatic idx, 3)) (hi : iT o idx = some (kind, 2, 4)) : EC zs J d c rt o md pc ls (v4 :: v3 :: v2 :: v1 :: st) σ P ↔ catB st 8 = true ∧ jE (J kind [v1, v2, v3, v4] σ) (eJ zs J d c rt o md (pc + 3) ls st P) := by
  by_cases hc : catS st ≤ 8
  · simp only [catB_iff.mpr hc, true_and]
    unfold jE
    split
    · rename_i v σ' hj
      exact Ep.next (by simp only [cstep, hd, if_true, cinv, hi]; simp [hc, hj, cN])
    · rename_i hj
      exact ep_none (by simp only [cstep, hd, if_true, cinv, hi]; simp [hc, hj])
  · refine (ep_none ?_).trans ⟨False.elim, fun z => hc (catB_iff.mp z.1)⟩
    simp only [cstep, hd, if_true, cinv, hi]
    simp
    exact fun h => absurd h hc
theorem ec_cv5 {idx a : Nat} {v1 v2 v3 v4 v5 : Value} (hd : decode c pc = .ok (.invokevirtual idx, 3)) (hi : iT o idx = none) (hn : cna o idx = some 6) : EC zs J (d + 1) c rt o md pc ls (v5 :: v4 :: v3 :: v2 :: v1 :: .ref a :: st) σ P ↔ vcE o idx 6 (gC σ a) (eCl zs J d c rt o md pc ls st σ P [.ref a, v1, v2, v3, v4, v5]) (EZ zs J (d + 1) c rt o md pc ls (v5 :: v4 :: v3 :: v2 :: v1 :: .ref a :: st) σ P) := by
  unfold vcE
  split
  · rename_i ci fs hg
    have hr : rcls σ (v5 :: v4 :: v3 :: v2 :: v1 :: .ref a :: st) 6 = some ci := by simp [rcls, hg]
    split
    · rename_i a1 a2 tg rc y cc rt2 o2 nL n he
      split
      · rename_i hc
        obtain ⟨rfl, rfl, rfl⟩ := hc
        by_cases hc : catS st ≤ 8 ∧ (lg_sl [.ref a, v1, v2, v3, v4, v5]).length ≤ nL
        · obtain ⟨e1, e2⟩ := hc
          simp only [eCl, catB_iff.mpr e1, catB_sl.mpr e2, true_and]
          refine (Ep.call (k := fun q => match q.1 with
          | .inl v => ((c, rt, o, md), none, pc + 3, ls, v.toList ++ st, q.2)
          | .inr x => ((c, rt, o, md), some x, pc, ls, st, q.2)) ?_).trans ⟨fun h => Ep.mono h fun q hq => ?_, fun h => Ep.mono h fun q hq => ?_⟩
          · simp only [cstep, hd, if_true, cinv, hi, ccall, hn, Option.bind_some, hr, he]
            simp [e1, e2, recvB, hg] <;> rfl
          · obtain ⟨q, σ'⟩ := q; cases q <;> exact hq
          · obtain ⟨q, σ'⟩ := q; cases q <;> exact hq
        · refine (ep_none ?_).trans ⟨False.elim, fun z => hc ⟨catB_iff.mp z.1, catB_sl.mp z.2.1⟩⟩
          simp only [cstep, hd, if_true, cinv, hi, ccall, hn, Option.bind_some, hr, he]
          simp
          intro h1 h2
          exact absurd ⟨h1, h2⟩ hc
      · exact Iff.rfl
    · exact Iff.rfl
  · exact Iff.rfl
theorem ec_ci5 {idx a a1 a2 o2 nL : Nat} {y : MethodName} {cc : ByteArray} {rt2 : Option FieldType} {v1 v2 v3 v4 v5 : Value} (hd : decode c pc = .ok (.invokespecial idx, 3)) (hi : iT o idx = none) (hm : ccp o idx 99 = some (a1, a2, 1, none, y, cc, rt2, o2, nL, 6)) : EC zs J (d + 1) c rt o md pc ls (v5 :: v4 :: v3 :: v2 :: v1 :: .ref a :: st) σ P ↔ catB st 8 = true ∧ catB [.ref a, v1, v2, v3, v4, v5] nL = true ∧ EC zs J d cc rt2 o2 9 0 (lent [.ref a, v1, v2, v3, v4, v5] nL) [] σ (EK zs J (d + 1) c rt o md pc ls st P) := by
  by_cases hc : catS st ≤ 8 ∧ (lg_sl [.ref a, v1, v2, v3, v4, v5]).length ≤ nL
  · obtain ⟨e1, e2⟩ := hc
    simp only [catB_iff.mpr e1, catB_sl.mpr e2, true_and]
    refine (Ep.call (k := fun q => match q.1 with
          | .inl v => ((c, rt, o, md), none, pc + 3, ls, v.toList ++ st, q.2)
          | .inr x => ((c, rt, o, md), some x, pc, ls, st, q.2)) ?_).trans ⟨fun h => Ep.mono h fun q hq => ?_, fun h => Ep.mono h fun q hq => ?_⟩
    · simp only [cstep, hd, if_true, cinv, hi, ccall, hm]
      simp [e1, e2, recvB] <;> rfl
    · obtain ⟨q, σ'⟩ := q; cases q <;> exact hq
    · obtain ⟨q, σ'⟩ := q; cases q <;> exact hq
  · refine (ep_none ?_).trans ⟨False.elim, fun z => hc ⟨catB_iff.mp z.1, catB_sl.mp z.2.1⟩⟩
    simp only [cstep, hd, if_true, cinv, hi, ccall, hm]
    simp
    intro h1 h2
    exact absurd ⟨h1, h2⟩ hc
theorem ec_cs5 {idx a1 a2 o2 nL : Nat} {rc : Option Nat} {y : MethodName} {cc : ByteArray} {rt2 : Option FieldType} {v1 v2 v3 v4 v5 : Value} (hd : decode c pc = .ok (.invokestatic idx, 3)) (hi : iT o idx = none) (hm : ccp o idx 99 = some (a1, a2, 2, rc, y, cc, rt2, o2, nL, 5)) : EC zs J (d + 1) c rt o md pc ls (v5 :: v4 :: v3 :: v2 :: v1 :: st) σ P ↔ catB st 8 = true ∧ catB [v1, v2, v3, v4, v5] nL = true ∧ EC zs J d cc rt2 o2 0 0 (lent [v1, v2, v3, v4, v5] nL) [] σ (EK zs J (d + 1) c rt o md pc ls st P) := by
  by_cases hc : catS st ≤ 8 ∧ (lg_sl [v1, v2, v3, v4, v5]).length ≤ nL
  · obtain ⟨e1, e2⟩ := hc
    simp only [catB_iff.mpr e1, catB_sl.mpr e2, true_and]
    refine (Ep.call (k := fun q => match q.1 with
          | .inl v => ((c, rt, o, md), none, pc + 3, ls, v.toList ++ st, q.2)
          | .inr x => ((c, rt, o, md), some x, pc, ls, st, q.2)) ?_).trans ⟨fun h => Ep.mono h fun q hq => ?_, fun h => Ep.mono h fun q hq => ?_⟩
    · simp only [cstep, hd, if_true, cinv, hi, ccall, hm]
      simp [e1, e2, recvB] <;> rfl
    · obtain ⟨q, σ'⟩ := q; cases q <;> exact hq
    · obtain ⟨q, σ'⟩ := q; cases q <;> exact hq
  · refine (ep_none ?_).trans ⟨False.elim, fun z => hc ⟨catB_iff.mp z.1, catB_sl.mp z.2.1⟩⟩
    simp only [cstep, hd, if_true, cinv, hi, ccall, hm]
    simp
    intro h1 h2
    exact absurd ⟨h1, h2⟩ hc
theorem ec_j25 {idx kind : Nat} {v1 v2 v3 v4 v5 : Value} (hd : decode c pc = .ok (.invokestatic idx, 3)) (hi : iT o idx = some (kind, 2, 5)) : EC zs J d c rt o md pc ls (v5 :: v4 :: v3 :: v2 :: v1 :: st) σ P ↔ catB st 8 = true ∧ jE (J kind [v1, v2, v3, v4, v5] σ) (eJ zs J d c rt o md (pc + 3) ls st P) := by
  by_cases hc : catS st ≤ 8
  · simp only [catB_iff.mpr hc, true_and]
    unfold jE
    split
    · rename_i v σ' hj
      exact Ep.next (by simp only [cstep, hd, if_true, cinv, hi]; simp [hc, hj, cN])
    · rename_i hj
      exact ep_none (by simp only [cstep, hd, if_true, cinv, hi]; simp [hc, hj])
  · refine (ep_none ?_).trans ⟨False.elim, fun z => hc (catB_iff.mp z.1)⟩
    simp only [cstep, hd, if_true, cinv, hi]
    simp
    exact fun h => absurd h hc
theorem ec_cv6 {idx a : Nat} {v1 v2 v3 v4 v5 v6 : Value} (hd : decode c pc = .ok (.invokevirtual idx, 3)) (hi : iT o idx = none) (hn : cna o idx = some 7) : EC zs J (d + 1) c rt o md pc ls (v6 :: v5 :: v4 :: v3 :: v2 :: v1 :: .ref a :: st) σ P ↔ vcE o idx 7 (gC σ a) (eCl zs J d c rt o md pc ls st σ P [.ref a, v1, v2, v3, v4, v5, v6]) (EZ zs J (d + 1) c rt o md pc ls (v6 :: v5 :: v4 :: v3 :: v2 :: v1 :: .ref a :: st) σ P) := by
  unfold vcE
  split
  · rename_i ci fs hg
    have hr : rcls σ (v6 :: v5 :: v4 :: v3 :: v2 :: v1 :: .ref a :: st) 7 = some ci := by simp [rcls, hg]
    split
    · rename_i a1 a2 tg rc y cc rt2 o2 nL n he
      split
      · rename_i hc
        obtain ⟨rfl, rfl, rfl⟩ := hc
        by_cases hc : catS st ≤ 8 ∧ (lg_sl [.ref a, v1, v2, v3, v4, v5, v6]).length ≤ nL
        · obtain ⟨e1, e2⟩ := hc
          simp only [eCl, catB_iff.mpr e1, catB_sl.mpr e2, true_and]
          refine (Ep.call (k := fun q => match q.1 with
          | .inl v => ((c, rt, o, md), none, pc + 3, ls, v.toList ++ st, q.2)
          | .inr x => ((c, rt, o, md), some x, pc, ls, st, q.2)) ?_).trans ⟨fun h => Ep.mono h fun q hq => ?_, fun h => Ep.mono h fun q hq => ?_⟩
          · simp only [cstep, hd, if_true, cinv, hi, ccall, hn, Option.bind_some, hr, he]
            simp [e1, e2, recvB, hg] <;> rfl
          · obtain ⟨q, σ'⟩ := q; cases q <;> exact hq
          · obtain ⟨q, σ'⟩ := q; cases q <;> exact hq
        · refine (ep_none ?_).trans ⟨False.elim, fun z => hc ⟨catB_iff.mp z.1, catB_sl.mp z.2.1⟩⟩
          simp only [cstep, hd, if_true, cinv, hi, ccall, hn, Option.bind_some, hr, he]
          simp
          intro h1 h2
          exact absurd ⟨h1, h2⟩ hc
      · exact Iff.rfl
    · exact Iff.rfl
  · exact Iff.rfl
theorem ec_cs6 {idx a1 a2 o2 nL : Nat} {rc : Option Nat} {y : MethodName} {cc : ByteArray} {rt2 : Option FieldType} {v1 v2 v3 v4 v5 v6 : Value} (hd : decode c pc = .ok (.invokestatic idx, 3)) (hi : iT o idx = none) (hm : ccp o idx 99 = some (a1, a2, 2, rc, y, cc, rt2, o2, nL, 6)) : EC zs J (d + 1) c rt o md pc ls (v6 :: v5 :: v4 :: v3 :: v2 :: v1 :: st) σ P ↔ catB st 8 = true ∧ catB [v1, v2, v3, v4, v5, v6] nL = true ∧ EC zs J d cc rt2 o2 0 0 (lent [v1, v2, v3, v4, v5, v6] nL) [] σ (EK zs J (d + 1) c rt o md pc ls st P) := by
  by_cases hc : catS st ≤ 8 ∧ (lg_sl [v1, v2, v3, v4, v5, v6]).length ≤ nL
  · obtain ⟨e1, e2⟩ := hc
    simp only [catB_iff.mpr e1, catB_sl.mpr e2, true_and]
    refine (Ep.call (k := fun q => match q.1 with
          | .inl v => ((c, rt, o, md), none, pc + 3, ls, v.toList ++ st, q.2)
          | .inr x => ((c, rt, o, md), some x, pc, ls, st, q.2)) ?_).trans ⟨fun h => Ep.mono h fun q hq => ?_, fun h => Ep.mono h fun q hq => ?_⟩
    · simp only [cstep, hd, if_true, cinv, hi, ccall, hm]
      simp [e1, e2, recvB] <;> rfl
    · obtain ⟨q, σ'⟩ := q; cases q <;> exact hq
    · obtain ⟨q, σ'⟩ := q; cases q <;> exact hq
  · refine (ep_none ?_).trans ⟨False.elim, fun z => hc ⟨catB_iff.mp z.1, catB_sl.mp z.2.1⟩⟩
    simp only [cstep, hd, if_true, cinv, hi, ccall, hm]
    simp
    intro h1 h2
    exact absurd ⟨h1, h2⟩ hc
theorem ec_cs7 {idx a1 a2 o2 nL : Nat} {rc : Option Nat} {y : MethodName} {cc : ByteArray} {rt2 : Option FieldType} {v1 v2 v3 v4 v5 v6 v7 : Value} (hd : decode c pc = .ok (.invokestatic idx, 3)) (hi : iT o idx = none) (hm : ccp o idx 99 = some (a1, a2, 2, rc, y, cc, rt2, o2, nL, 7)) : EC zs J (d + 1) c rt o md pc ls (v7 :: v6 :: v5 :: v4 :: v3 :: v2 :: v1 :: st) σ P ↔ catB st 8 = true ∧ catB [v1, v2, v3, v4, v5, v6, v7] nL = true ∧ EC zs J d cc rt2 o2 0 0 (lent [v1, v2, v3, v4, v5, v6, v7] nL) [] σ (EK zs J (d + 1) c rt o md pc ls st P) := by
  by_cases hc : catS st ≤ 8 ∧ (lg_sl [v1, v2, v3, v4, v5, v6, v7]).length ≤ nL
  · obtain ⟨e1, e2⟩ := hc
    simp only [catB_iff.mpr e1, catB_sl.mpr e2, true_and]
    refine (Ep.call (k := fun q => match q.1 with
          | .inl v => ((c, rt, o, md), none, pc + 3, ls, v.toList ++ st, q.2)
          | .inr x => ((c, rt, o, md), some x, pc, ls, st, q.2)) ?_).trans ⟨fun h => Ep.mono h fun q hq => ?_, fun h => Ep.mono h fun q hq => ?_⟩
    · simp only [cstep, hd, if_true, cinv, hi, ccall, hm]
      simp [e1, e2, recvB] <;> rfl
    · obtain ⟨q, σ'⟩ := q; cases q <;> exact hq
    · obtain ⟨q, σ'⟩ := q; cases q <;> exact hq
  · refine (ep_none ?_).trans ⟨False.elim, fun z => hc ⟨catB_iff.mp z.1, catB_sl.mp z.2.1⟩⟩
    simp only [cstep, hd, if_true, cinv, hi, ccall, hm]
    simp
    intro h1 h2
    exact absurd ⟨h1, h2⟩ hc
end
