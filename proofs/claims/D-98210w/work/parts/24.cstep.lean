/-! ONE STEP of the component's code, whole -/
/-- an object's fields when it is new -/
def cDf (ci : Nat) : List Value := (List.range (cCl.getD ci ("", (fun _ => ("", "", "", false)), 0)).2.2).map (fun k => defaultValue (cTy ci k))
def cnew (k : CK) (pc : Nat) (ls : LsT) (st : List Value) (σ : CM) (idx : Nat) : CS := match ncp k.2.2.1 idx with
  | some ci => cN k (pc + 3) ls (.ref σ.1 :: st) (aC σ (cSz ci) (.inl (ci, cDf ci)))
  | none => none
def knd (t : ArrayType) : Option Nat := match t with
  | .int => some 0
  | .boolean => some 1
  | .long => some 2
  | _ => none
def cnewa (k : CK) (pc : Nat) (ls : LsT) (st : List Value) (σ : CM) (t : ArrayType) : CS := match st with
  | .int n :: r => match knd t with
    | some kd => if 0 ≤ n ∧ n ≤ 100000 then cN k (pc + 2) ls (.ref σ.1 :: r) (aC σ n.toNatClampNeg (.inr (kd, n.toNatClampNeg, if kd = 2 then .inr (.inl (fun _ => 0)) else .inl (fun _ => 0)))) else none
    | none => none
  | _ => none
def canew (k : CK) (pc : Nat) (ls : LsT) (st : List Value) (σ : CM) (idx : Nat) : CS := match st with
  | .int n :: r => match acp k.2.2.1 idx with
    | some kd => if 0 ≤ n ∧ n ≤ 100000 then cN k (pc + 3) ls (.ref σ.1 :: r) (aC σ n.toNatClampNeg (.inr (kd, n.toNatClampNeg, .inr (.inr (.inr (.inr (fun _ => none))))))) else none
    | none => none
  | _ => none
/-- an array of N arrays of M ints -/
def mC (σ : CM) (N M : Nat) : CM := (σ.1 + (1 + N), σ.2.1 + (N + N * M), fun b => if b = σ.1 then some (.inr (8, N, .inr (.inr (.inr (.inr (fun j => if j < N then some (σ.1 + 1 + j) else none)))))) else if σ.1 < b ∧ b < σ.1 + (1 + N) then some (.inr (0, M, .inl (fun _ => 0))) else σ.2.2 b)
def mulK (o idx : Nat) : Bool := decide ((o = 2 ∧ idx = 24) ∨ (o = 33 ∧ idx = 15))
def cmul (k : CK) (pc : Nat) (ls : LsT) (st : List Value) (σ : CM) (idx : Nat) : CS := match st with
  | .int m :: .int n :: r => if mulK k.2.2.1 idx = true ∧ (0 ≤ n ∧ n ≤ 100) ∧ 0 ≤ m ∧ m ≤ 100000 then cN k (pc + 4) ls (.ref σ.1 :: r) (mC σ n.toNatClampNeg m.toNatClampNeg) else none
  | _ => none
def ccast (k : CK) (pc : Nat) (ls : LsT) (st : List Value) (σ : CM) (idx : Nat) : CS := match st with
  | .null :: r => cN k (pc + 3) ls (.null :: r) σ
  | .ref a :: r => match gC σ a with
    | some (.inl (ci, _)) => if kcc k.2.2.1 idx ci = true then cN k (pc + 3) ls (.ref a :: r) σ else none
    | some (.inr (kd, _)) => if kd = 0 ∧ kca k.2.2.1 idx = true then cN k (pc + 3) ls (.ref a :: r) σ else none
    | none => none
  | _ => none
/-- statics: the JDK's two empty arrays -/
def cstat (zs : Nat → Nat) (k : CK) (pc : Nat) (ls : LsT) (st : List Value) (σ : CM) (idx : Nat) : CS :=
  if k.2.2.1 = 36 ∧ idx = 15 then cN k (pc + 3) ls (.ref (zs 100) :: st) σ
  else if k.2.2.1 = 36 ∧ idx = 39 then cN k (pc + 3) ls (.ref (zs 101) :: st) σ
  else none
/-- the number of a String constant of Reader's -/
def scp (idx : Nat) : Option Nat := (sStr.zipIdx.find? (fun x => x.1.1 == idx)).map (fun x => x.2)
def cldc (zs : Nat → Nat) (k : CK) (len pc : Nat) (ls : LsT) (st : List Value) (σ : CM) (idx : Nat) : CS := match icc k.2.2.1 idx with
  | some v => cN k (pc + len) ls (.int v :: st) σ
  | none => if k.2.2.1 = 1 then (match scp idx with
    | some i => cN k (pc + len) ls (.ref (zs i) :: st) σ
    | none => none) else none
def recvB (σ : CM) (tag : Nat) (rc : Option Nat) (As : List Value) : Bool := if tag = 2 then true else match As with
  | .ref b :: _ => match rc with
    | some ci => match gC σ b with
      | some (.inl (cj, _)) => decide (cj = ci)
      | _ => false
    | none => true
  | _ => false
/-- the class of the object that a virtual call goes to -/
def rcls (σ : CM) (st : List Value) (n : Nat) : Option Nat := match st[n - 1]? with
  | some (.ref a) => match gC σ a with
    | some (.inl (ci, _)) => some ci
    | _ => none
  | _ => none
def ccall (k : CK) (pc : Nat) (ls : LsT) (st : List Value) (σ : CM) (idx tag : Nat) : CS :=
  match (if tag = 0 then (cna k.2.2.1 idx).bind (fun n => (rcls σ st n).bind (fun ci => ccp k.2.2.1 idx ci)) else ccp k.2.2.1 idx 99) with
  | some (_, _, tg, rc, _, cc, rt, o2, nL, n) =>
    if tg = tag ∧ n ≤ st.length ∧ catS (st.drop n) ≤ 8 ∧ (lg_sl (st.take n).reverse).length ≤ nL ∧ recvB σ tag rc (st.take n).reverse = true then
      some (.inr (.inr (((cc, rt, o2, if tag = 1 ∧ rc = none then 9 else 0), none, 0, lent (st.take n).reverse nL, [], σ), fun q => match q.1 with
        | .inl v => (k, none, pc + 3, ls, v.toList ++ st.drop n, q.2)
        | .inr x => (k, some x, pc, ls, st.drop n, q.2))))
    else none
  | none => none
/-- what a call that is taken as one step does: its kind, its arguments, the heap -/
abbrev CJ : Type := Nat → List Value → CM → Option (Option Value × CM)
def cinv (J : CJ) (k : CK) (pc : Nat) (ls : LsT) (st : List Value) (σ : CM) (idx tag : Nat) : CS := match iT k.2.2.1 idx with
  | some (kind, tg, n) => if tg = tag ∧ n ≤ st.length ∧ catS (st.drop n) ≤ 8 then (J kind (st.take n).reverse σ).bind (fun q => cN k (pc + 3) ls (q.1.toList ++ st.drop n) q.2) else none
  | none => ccall k pc ls st σ idx tag
def cret (rt : Option FieldType) (st : List Value) : Option (Option Value) := match rt, st with
  | some .int, [.int v] => some (some (.int v))
  | some .boolean, [.int v] => if v = 0 ∨ v = 1 then some (some (.int v)) else none
  | _, _ => none
def creta (rt : Option FieldType) (st : List Value) : Option (Option Value) := match rt, st with
  | some (.object _), [.ref a] => some (some (.ref a))
  | some (.object _), [.null] => some (some .null)
  | some (.array _), [.ref a] => some (some (.ref a))
  | some (.array _), [.null] => some (some .null)
  | _, _ => none
/-- handlers: both catch Wrong -/
def hnd (mode : Nat) : Option (Nat × Nat × Nat) := match mode with
  | 1 => some (0, 40, 41)
  | 2 => some (0, 16, 17)
  | _ => none
/-- calls that may throw: Reader's own ones, and KnowLocks' of Reader's -/
def thrB (o idx : Nat) : Bool := if o = 0 then decide (idx = 131 ∨ idx = 146) else if o = 1 then ([199, 201, 203, 205, 207, 209, 211, 213, 216, 220, 244, 248, 260, 287, 305, 312, 328, 338, 346, 362, 371, 380] : List Nat).contains idx else false
/-- where a throw may come to a method: at athrow, at a call that may throw -/
def thrP (c : ByteArray) (o pc : Nat) : Bool := match decode c pc with
  | .ok (.athrow, 1) => true
  | .ok (.invokevirtual idx, 3) => thrB o idx
  | _ => false
def cthrow (k : CK) (x pc : Nat) (ls : LsT) (σ : CM) : CS := if thrP k.1 k.2.2.1 pc = false then none else match hnd k.2.2.2 with
  | some (a, b, t) => if a ≤ pc ∧ pc < b then (match gC σ x with
    | some (.inl (ci, _)) => if ci = 35 then cN k t ls [.ref x] σ else none
    | _ => none) else some (.inl (.inr x, σ))
  | none => some (.inl (.inr x, σ))
def cstep (zs : Nat → Nat) (J : CJ) (f : CF) : CS := match f with
  | (k, some x, pc, ls, _, σ) => cthrow k x pc ls σ
  | (k, none, pc, ls, st, σ) => match decode k.1 pc with
    | .error _ => none
    | .ok (i, len) => match i with
      | .getfield idx => if len = 3 then cget k pc ls st σ idx else none
      | .putfield idx => if len = 3 then cput k pc ls st σ idx else none
      | .iaload => if len = 1 then cald k pc ls st σ 0 else none
      | .baload => if len = 1 then cald k pc ls st σ 1 else none
      | .laload => if len = 1 then cald k pc ls st σ 2 else none
      | .aaload => if len = 1 then cald k pc ls st σ 4 else none
      | .iastore => if len = 1 then cast_ zs k pc ls st σ 0 else none
      | .bastore => if len = 1 then cast_ zs k pc ls st σ 1 else none
      | .lastore => if len = 1 then cast_ zs k pc ls st σ 2 else none
      | .aastore => if len = 1 then cast_ zs k pc ls st σ 4 else none
      | .arraylength => if len = 1 then clen k pc ls st σ else none
      | .new idx => if len = 3 then cnew k pc ls st σ idx else none
      | .newarray t => if len = 2 then cnewa k pc ls st σ t else none
      | .anewarray idx => if len = 3 then canew k pc ls st σ idx else none
      | .multianewarray idx dm => if len = 4 then (if dm = 2 then cmul k pc ls st σ idx else none) else none
      | .checkcast idx => if len = 3 then ccast k pc ls st σ idx else none
      | .getstatic idx => if len = 3 then cstat zs k pc ls st σ idx else none
      | .ldc idx => if len = 2 then cldc zs k 2 pc ls st σ idx else none
      | .ldc_w idx => if len = 3 then cldc zs k 3 pc ls st σ idx else none
      | .ldc2_w idx => if len = 3 then (match lcc k.2.2.1 idx with
        | some v => cN k (pc + 3) ls (.long v :: st) σ
        | none => none) else none
      | .invokevirtual idx => if len = 3 then cinv J k pc ls st σ idx 0 else none
      | .invokespecial idx => if len = 3 then cinv J k pc ls st σ idx 1 else none
      | .invokestatic idx => if len = 3 then cinv J k pc ls st σ idx 2 else none
      | .ireturn => if len = 1 then (cret k.2.1 st).map (fun v => .inl (.inl v, σ)) else none
      | .lreturn => if len = 1 then (match k.2.1, st with
        | some .long, [.long v] => some (.inl (.inl (some (.long v)), σ))
        | _, _ => none) else none
      | .areturn => if len = 1 then (creta k.2.1 st).map (fun v => .inl (.inl v, σ)) else none
      | .return_ => if len = 1 then (match k.2.1, st with
        | none, [] => some (.inl (.inl none, σ))
        | _, _ => none) else none
      | .athrow => if len = 1 then (match st with
        | .ref x :: _ => some (.inr (.inl (k, some x, pc, ls, [], σ)))
        | _ => none) else none
      | i => (stp i len pc ls st).map (fun q => .inr (.inl (k, none, q.1, q.2.1, q.2.2, σ)))
