/-! ONE INSTRUCTION THAT NEEDS NO HEAP: where it goes on, with which locals and stack -/
abbrev StT : Type := Nat × LsT × List Value
def jmp (pc : Nat) (off : Int) : Option Nat := if 0 ≤ (pc : Int) + off then some ((pc : Int) + off).toNat else none
def pus (n pc : Nat) (ls : LsT) (st : List Value) (v : Value) : Option StT := some (pc + n, ls, v :: st)
def ldI (n pc : Nat) (ls : LsT) (st : List Value) (i : Nat) : Option StT := match lg ls i with
  | some (.int x) => some (pc + n, ls, .int x :: st)
  | _ => none
def ldL (n pc : Nat) (ls : LsT) (st : List Value) (i : Nat) : Option StT := match lg ls i with
  | some (.long x) => some (pc + n, ls, .long x :: st)
  | _ => none
def ldA (n pc : Nat) (ls : LsT) (st : List Value) (i : Nat) : Option StT := match lg ls i with
  | some (.ref x) => some (pc + n, ls, .ref x :: st)
  | some .null => some (pc + n, ls, .null :: st)
  | _ => none
def svI (n pc : Nat) (ls : LsT) (st : List Value) (i : Nat) : Option StT := match st with
  | .int x :: r => if i < ls.length then some (pc + n, ls1 ls i (.int x), r) else none
  | _ => none
def svL (n pc : Nat) (ls : LsT) (st : List Value) (i : Nat) : Option StT := match st with
  | .long x :: r => if i + 1 < ls.length then some (pc + n, ls2 ls i (.long x), r) else none
  | _ => none
def svA (n pc : Nat) (ls : LsT) (st : List Value) (i : Nat) : Option StT := match st with
  | .ref x :: r => if i < ls.length then some (pc + n, ls1 ls i (.ref x), r) else none
  | .null :: r => if i < ls.length then some (pc + n, ls1 ls i .null, r) else none
  | _ => none
def sII (f : Int32 → Int32 → Option Value) (pc : Nat) (ls : LsT) (st : List Value) : Option StT := match st with
  | .int y :: .int x :: r => (f x y).map (fun v => (pc + 1, ls, v :: r))
  | _ => none
def sLL (f : Int64 → Int64 → Option Value) (pc : Nat) (ls : LsT) (st : List Value) : Option StT := match st with
  | .long y :: .long x :: r => (f x y).map (fun v => (pc + 1, ls, v :: r))
  | _ => none
def sLI (f : Int64 → Int32 → Option Value) (pc : Nat) (ls : LsT) (st : List Value) : Option StT := match st with
  | .int y :: .long x :: r => (f x y).map (fun v => (pc + 1, ls, v :: r))
  | _ => none
def sI (f : Int32 → Value) (pc : Nat) (ls : LsT) (st : List Value) : Option StT := match st with
  | .int x :: r => some (pc + 1, ls, f x :: r)
  | _ => none
def sL (f : Int64 → Value) (pc : Nat) (ls : LsT) (st : List Value) : Option StT := match st with
  | .long x :: r => some (pc + 1, ls, f x :: r)
  | _ => none
def sF1 (P : Int32 → Bool) (pc : Nat) (off : Int) (ls : LsT) (st : List Value) : Option StT := match st with
  | .int x :: r => (jmp pc off).map (fun t => (if P x = true then t else pc + 3, ls, r))
  | _ => none
def sF2 (P : Int32 → Int32 → Bool) (pc : Nat) (off : Int) (ls : LsT) (st : List Value) : Option StT := match st with
  | .int y :: .int x :: r => (jmp pc off).map (fun t => (if P x y = true then t else pc + 3, ls, r))
  | _ => none
def sN (P : Bool) (pc : Nat) (off : Int) (ls : LsT) (st : List Value) : Option StT := match st with
  | .ref _ :: r => if P = false then (jmp pc off).map (fun t => (t, ls, r)) else some (pc + 3, ls, r)
  | .null :: r => if P = true then (jmp pc off).map (fun t => (t, ls, r)) else some (pc + 3, ls, r)
  | _ => none
def rfo (v : Value) : Option (Option Nat) := match v with
  | .ref a => some (some a)
  | .null => some none
  | _ => none
def sA2 (P : Bool) (pc : Nat) (off : Int) (ls : LsT) (st : List Value) : Option StT := match st with
  | y :: x :: r => match rfo y, rfo x with
    | some b, some a => (jmp pc off).map (fun t => (if decide (a = b) = P then t else pc + 3, ls, r))
    | _, _ => none
  | _ => none
def sTab (pc : Nat) (dflt lo hi : Int) (offs : Array Int) (ls : LsT) (st : List Value) : Option StT := match st with
  | .int x :: r => if x.toInt < lo ∨ hi < x.toInt then (jmp pc dflt).map (fun t => (t, ls, r)) else match offs[(x.toInt - lo).toNat]? with
    | some off => (jmp pc off).map (fun t => (t, ls, r))
    | none => none
  | _ => none
def stp (i : Instr) (len pc : Nat) (ls : LsT) (st : List Value) : Option StT := match i with
  | .iconst n => if len = 1 then pus 1 pc ls st (.int (Int32.ofInt n)) else none
  | .bipush n => if len = 2 then pus 2 pc ls st (.int (Int8.ofInt n).toInt32) else none
  | .sipush n => if len = 3 then pus 3 pc ls st (.int (Int16.ofInt n).toInt32) else none
  | .lconst n => if len = 1 then pus 1 pc ls st (.long (Int64.ofNat (n : Nat))) else none
  | .aconst_null => if len = 1 then pus 1 pc ls st .null else none
  | .iload_n k => if len = 1 then ldI 1 pc ls st k else none
  | .iload k => if len = 2 then ldI 2 pc ls st k else none
  | .lload_n k => if len = 1 then ldL 1 pc ls st k else none
  | .lload k => if len = 2 then ldL 2 pc ls st k else none
  | .aload_n k => if len = 1 then ldA 1 pc ls st k else none
  | .aload k => if len = 2 then ldA 2 pc ls st k else none
  | .istore_n k => if len = 1 then svI 1 pc ls st k else none
  | .istore k => if len = 2 then svI 2 pc ls st k else none
  | .lstore_n k => if len = 1 then svL 1 pc ls st k else none
  | .lstore k => if len = 2 then svL 2 pc ls st k else none
  | .astore_n k => if len = 1 then svA 1 pc ls st k else none
  | .astore k => if len = 2 then svA 2 pc ls st k else none
  | .iinc k n => if len = 3 then (match lg ls k with | some (.int x) => if k < ls.length then some (pc + 3, ls1 ls k (.int (x + Int32.ofInt n)), st) else none | _ => none) else none
  | .iadd => if len = 1 then sII (fun x y => some (.int (x + y))) pc ls st else none
  | .isub => if len = 1 then sII (fun x y => some (.int (x - y))) pc ls st else none
  | .imul => if len = 1 then sII (fun x y => some (.int (x * y))) pc ls st else none
  | .iand => if len = 1 then sII (fun x y => some (.int (x &&& y))) pc ls st else none
  | .ior => if len = 1 then sII (fun x y => some (.int (x ||| y))) pc ls st else none
  | .ixor => if len = 1 then sII (fun x y => some (.int (x ^^^ y))) pc ls st else none
  | .idiv => if len = 1 then sII (fun x y => if y = 0 then none else some (.int (x / y))) pc ls st else none
  | .irem => if len = 1 then sII (fun x y => if y = 0 then none else some (.int (x - x / y * y))) pc ls st else none
  | .ishl => if len = 1 then sII (fun x y => some (.int (x <<< (y &&& 31)))) pc ls st else none
  | .ishr => if len = 1 then sII (fun x y => some (.int (x >>> (y &&& 31)))) pc ls st else none
  | .ineg => if len = 1 then sI (fun x => .int (-x)) pc ls st else none
  | .ladd => if len = 1 then sLL (fun x y => some (.long (x + y))) pc ls st else none
  | .lsub => if len = 1 then sLL (fun x y => some (.long (x - y))) pc ls st else none
  | .lmul => if len = 1 then sLL (fun x y => some (.long (x * y))) pc ls st else none
  | .land => if len = 1 then sLL (fun x y => some (.long (x &&& y))) pc ls st else none
  | .lor => if len = 1 then sLL (fun x y => some (.long (x ||| y))) pc ls st else none
  | .ldiv => if len = 1 then sLL (fun x y => if y = 0 then none else some (.long (x / y))) pc ls st else none
  | .lrem => if len = 1 then sLL (fun x y => if y = 0 then none else some (.long (x - x / y * y))) pc ls st else none
  | .lcmp => if len = 1 then sLL (fun x y => some (.int (lg_cmp x y))) pc ls st else none
  | .lneg => if len = 1 then sL (fun x => .long (-x)) pc ls st else none
  | .lushr => if len = 1 then sLI (fun x y => some (.long (x.toUInt64 >>> (y.toInt64.toUInt64 &&& Int64.toUInt64 63)).toInt64)) pc ls st else none
  | .lshl => if len = 1 then sLI (fun x y => some (.long (x <<< (y.toInt64 &&& 63)))) pc ls st else none
  | .i2l => if len = 1 then sI (fun x => .long x.toInt64) pc ls st else none
  | .l2i => if len = 1 then sL (fun x => .int x.toInt32) pc ls st else none
  | .dup => if len = 1 then (match st with | v :: r => if v.category = 1 then some (pc + 1, ls, v :: v :: r) else none | _ => none) else none
  | .pop => if len = 1 then (match st with | v :: r => if v.category = 1 then some (pc + 1, ls, r) else none | _ => none) else none
  | .dup_x1 => if len = 1 then (match st with | v :: w :: r => if v.category = 1 ∧ w.category = 1 then some (pc + 1, ls, v :: w :: v :: r) else none | _ => none) else none
  | .dup2 => if len = 1 then (match st with | v :: w :: r => if v.category = 1 ∧ w.category = 1 then some (pc + 1, ls, v :: w :: v :: w :: r) else none | _ => none) else none
  | .ifCond .eq off => if len = 3 then sF1 (fun x => decide (x = 0)) pc off ls st else none
  | .ifCond .ne off => if len = 3 then sF1 (fun x => decide (¬ x = 0)) pc off ls st else none
  | .ifCond .lt off => if len = 3 then sF1 (fun x => decide (x < 0)) pc off ls st else none
  | .ifCond .ge off => if len = 3 then sF1 (fun x => decide (0 ≤ x)) pc off ls st else none
  | .ifCond .gt off => if len = 3 then sF1 (fun x => decide (0 < x)) pc off ls st else none
  | .ifCond .le off => if len = 3 then sF1 (fun x => decide (x ≤ 0)) pc off ls st else none
  | .if_icmp .eq off => if len = 3 then sF2 (fun x y => decide (x = y)) pc off ls st else none
  | .if_icmp .ne off => if len = 3 then sF2 (fun x y => decide (¬ x = y)) pc off ls st else none
  | .if_icmp .lt off => if len = 3 then sF2 (fun x y => decide (x < y)) pc off ls st else none
  | .if_icmp .ge off => if len = 3 then sF2 (fun x y => decide (y ≤ x)) pc off ls st else none
  | .if_icmp .gt off => if len = 3 then sF2 (fun x y => decide (y < x)) pc off ls st else none
  | .if_icmp .le off => if len = 3 then sF2 (fun x y => decide (x ≤ y)) pc off ls st else none
  | .ifnull off => if len = 3 then sN true pc off ls st else none
  | .ifnonnull off => if len = 3 then sN false pc off ls st else none
  | .if_acmp .eq off => if len = 3 then sA2 true pc off ls st else none
  | .if_acmp .ne off => if len = 3 then sA2 false pc off ls st else none
  | .goto off => if len = 3 then (jmp pc off).map (fun t => (t, ls, st)) else none
  | .tableswitch d lo hi offs => sTab pc d lo hi offs ls st
  | _ => none
theorem jmp_some {pc t : Nat} {off : Int} (h : jmp pc off = some t) : (pc : Int) + off = (t : Int) := by
  unfold jmp at h
  split at h
  · cases h; omega
  · cases h
theorem jmp_of {pc t : Nat} {off : Int} (h : (pc : Int) + off = (t : Int)) : jmp pc off = some t := by
  unfold jmp
  rw [if_pos (by omega), h]
  rfl
theorem sII_inv {f : Int32 → Int32 → Option Value} {pc : Nat} {ls : LsT} {st : List Value} {q : StT} (h : sII f pc ls st = some q) : ∃ x y r v, st = .int y :: .int x :: r ∧ f x y = some v ∧ q = (pc + 1, ls, v :: r) := by
  unfold sII at h
  split at h
  · obtain ⟨v, h1, h2⟩ := Option.map_eq_some_iff.mp h
    exact ⟨_, _, _, v, rfl, h1, h2.symm⟩
  · cases h
theorem sLL_inv {f : Int64 → Int64 → Option Value} {pc : Nat} {ls : LsT} {st : List Value} {q : StT} (h : sLL f pc ls st = some q) : ∃ x y r v, st = .long y :: .long x :: r ∧ f x y = some v ∧ q = (pc + 1, ls, v :: r) := by
  unfold sLL at h
  split at h
  · obtain ⟨v, h1, h2⟩ := Option.map_eq_some_iff.mp h
    exact ⟨_, _, _, v, rfl, h1, h2.symm⟩
  · cases h
theorem sLI_inv {f : Int64 → Int32 → Option Value} {pc : Nat} {ls : LsT} {st : List Value} {q : StT} (h : sLI f pc ls st = some q) : ∃ x y r v, st = .int y :: .long x :: r ∧ f x y = some v ∧ q = (pc + 1, ls, v :: r) := by
  unfold sLI at h
  split at h
  · obtain ⟨v, h1, h2⟩ := Option.map_eq_some_iff.mp h
    exact ⟨_, _, _, v, rfl, h1, h2.symm⟩
  · cases h
theorem sI_inv {f : Int32 → Value} {pc : Nat} {ls : LsT} {st : List Value} {q : StT} (h : sI f pc ls st = some q) : ∃ x r, st = .int x :: r ∧ q = (pc + 1, ls, f x :: r) := by
  unfold sI at h
  split at h
  · cases h; exact ⟨_, _, rfl, rfl⟩
  · cases h
theorem sL_inv {f : Int64 → Value} {pc : Nat} {ls : LsT} {st : List Value} {q : StT} (h : sL f pc ls st = some q) : ∃ x r, st = .long x :: r ∧ q = (pc + 1, ls, f x :: r) := by
  unfold sL at h
  split at h
  · cases h; exact ⟨_, _, rfl, rfl⟩
  · cases h
theorem sF1_inv {P : Int32 → Bool} {pc : Nat} {off : Int} {ls : LsT} {st : List Value} {q : StT} (h : sF1 P pc off ls st = some q) : ∃ x r t, st = .int x :: r ∧ jmp pc off = some t ∧ q = (if P x = true then t else pc + 3, ls, r) := by
  unfold sF1 at h
  split at h
  · obtain ⟨t, h1, h2⟩ := Option.map_eq_some_iff.mp h
    exact ⟨_, _, t, rfl, h1, h2.symm⟩
  · cases h
theorem sF2_inv {P : Int32 → Int32 → Bool} {pc : Nat} {off : Int} {ls : LsT} {st : List Value} {q : StT} (h : sF2 P pc off ls st = some q) : ∃ x y r t, st = .int y :: .int x :: r ∧ jmp pc off = some t ∧ q = (if P x y = true then t else pc + 3, ls, r) := by
  unfold sF2 at h
  split at h
  · obtain ⟨t, h1, h2⟩ := Option.map_eq_some_iff.mp h
    exact ⟨_, _, _, t, rfl, h1, h2.symm⟩
  · cases h
theorem sA2_inv {P : Bool} {pc : Nat} {off : Int} {ls : LsT} {st : List Value} {q : StT} (h : sA2 P pc off ls st = some q) : ∃ y x r a b t, st = y :: x :: r ∧ rfo y = some b ∧ rfo x = some a ∧ jmp pc off = some t ∧ q = (if decide (a = b) = P then t else pc + 3, ls, r) := by
  unfold sA2 at h
  split at h
  · split at h
    · obtain ⟨t, h1, h2⟩ := Option.map_eq_some_iff.mp h
      exact ⟨_, _, _, _, _, t, rfl, by assumption, by assumption, h1, h2.symm⟩
    · cases h
  · cases h
theorem ldI_inv {n pc i : Nat} {ls : LsT} {st : List Value} {q : StT} (h : ldI n pc ls st i = some q) : ∃ x, lg ls i = some (.int x) ∧ q = (pc + n, ls, .int x :: st) := by
  unfold ldI at h
  split at h
  · cases h; exact ⟨_, by assumption, rfl⟩
  · cases h
theorem ldL_inv {n pc i : Nat} {ls : LsT} {st : List Value} {q : StT} (h : ldL n pc ls st i = some q) : ∃ x, lg ls i = some (.long x) ∧ q = (pc + n, ls, .long x :: st) := by
  unfold ldL at h
  split at h
  · cases h; exact ⟨_, by assumption, rfl⟩
  · cases h
theorem ldA_inv {n pc i : Nat} {ls : LsT} {st : List Value} {q : StT} (h : ldA n pc ls st i = some q) : (∃ x, lg ls i = some (.ref x) ∧ q = (pc + n, ls, .ref x :: st)) ∨ (lg ls i = some .null ∧ q = (pc + n, ls, .null :: st)) := by
  unfold ldA at h
  split at h
  · cases h; exact Or.inl ⟨_, by assumption, rfl⟩
  · cases h; exact Or.inr ⟨by assumption, rfl⟩
  · cases h
theorem svI_inv {n pc i : Nat} {ls : LsT} {st : List Value} {q : StT} (h : svI n pc ls st i = some q) : ∃ x r, st = .int x :: r ∧ i < ls.length ∧ q = (pc + n, ls1 ls i (.int x), r) := by
  unfold svI at h
  split at h
  · split at h
    · cases h; exact ⟨_, _, rfl, by assumption, rfl⟩
    · cases h
  · cases h
theorem svL_inv {n pc i : Nat} {ls : LsT} {st : List Value} {q : StT} (h : svL n pc ls st i = some q) : ∃ x r, st = .long x :: r ∧ i + 1 < ls.length ∧ q = (pc + n, ls2 ls i (.long x), r) := by
  unfold svL at h
  split at h
  · split at h
    · cases h; exact ⟨_, _, rfl, by assumption, rfl⟩
    · cases h
  · cases h
theorem svA_inv {n pc i : Nat} {ls : LsT} {st : List Value} {q : StT} (h : svA n pc ls st i = some q) : i < ls.length ∧ ((∃ x r, st = .ref x :: r ∧ q = (pc + n, ls1 ls i (.ref x), r)) ∨ (∃ r, st = .null :: r ∧ q = (pc + n, ls1 ls i .null, r))) := by
  unfold svA at h
  split at h
  · split at h
    · cases h; exact ⟨by assumption, Or.inl ⟨_, _, rfl, rfl⟩⟩
    · cases h
  · split at h
    · cases h; exact ⟨by assumption, Or.inr ⟨_, rfl, rfl⟩⟩
    · cases h
  · cases h
theorem iflen {α : Type} {len n : Nat} {a : Option α} {q : α} (h : (if len = n then a else none) = some q) : len = n ∧ a = some q := by
  split at h
  · exact ⟨by assumption, h⟩
  · cases h
