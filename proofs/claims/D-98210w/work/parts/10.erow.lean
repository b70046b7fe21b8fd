/-! ROWS of the Model's runs: one an instruction, as an iff that simp can use; P: what is wanted of the end -/
def Ep {F R : Type} (step : F → Option (R ⊕ F ⊕ (F × (R → F)))) (d : Nat) (f : F) (P : R → Prop) : Prop := ∃ r, Xv step d f r ∧ P r
theorem xv_none {F R : Type} {step : F → Option (R ⊕ F ⊕ (F × (R → F)))} {d : Nat} {f : F} {r : R} (h : step f = none) : Xv step d f r ↔ False := by
  constructor
  · intro ⟨n, e⟩
    cases n with
    | zero => cases e
    | succ n =>
      change xw step (xv step n) d f = some r at e
      unfold xw at e
      rw [h] at e
      cases e
  · exact False.elim
section
variable {F R : Type} {step : F → Option (R ⊕ F ⊕ (F × (R → F)))} {d : Nat} {f g : F} {P : R → Prop}
theorem ep_none (h : step f = none) : Ep step d f P ↔ False := ⟨fun ⟨_, h1, _⟩ => (xv_none h).mp h1, False.elim⟩
theorem Ep.ret {r0 : R} (h : step f = some (.inl r0)) : Ep step d f P ↔ P r0 := ⟨fun ⟨r, h1, h2⟩ => by rw [(Xv.ret h).mp h1] at h2; exact h2, fun h2 => ⟨r0, (Xv.ret h).mpr rfl, h2⟩⟩
theorem Ep.next (h : step f = some (.inr (.inl g))) : Ep step d f P ↔ Ep step d g P := ⟨fun ⟨r, h1, h2⟩ => ⟨r, (Xv.next h).mp h1, h2⟩, fun ⟨r, h1, h2⟩ => ⟨r, (Xv.next h).mpr h1, h2⟩⟩
theorem Ep.call {k : R → F} (h : step f = some (.inr (.inr (g, k)))) : Ep step (d + 1) f P ↔ Ep step d g (fun q => Ep step (d + 1) (k q) P) :=
  ⟨fun ⟨r, h1, h2⟩ => by obtain ⟨q, a, b⟩ := (Xv.call h).mp h1; exact ⟨q, a, r, b, h2⟩, fun ⟨q, a, r, b, h2⟩ => ⟨r, (Xv.call h).mpr ⟨q, a, b⟩, h2⟩⟩
theorem Ep.mono {P' : R → Prop} (h : Ep step d f P) (hp : ∀ r, P r → P' r) : Ep step d f P' := by obtain ⟨r, h1, h2⟩ := h; exact ⟨r, h1, hp r h2⟩
theorem Ep.deep {d' : Nat} (hd : d ≤ d') (h : Ep step d f P) : Ep step d' f P := by obtain ⟨r, h1, h2⟩ := h; exact ⟨r, h1.deepLe hd, h2⟩
theorem Ep.and {P' : R → Prop} (h : Ep step d f P) (h' : Ep step d f P') : Ep step d f (fun r => P r ∧ P' r) := by
  obtain ⟨r, h1, h2⟩ := h
  obtain ⟨r', h1', h2'⟩ := h'
  rw [h1'.det h1] at h2'
  exact ⟨r, h1, h2, h2'⟩
end
def EM (mb d : Nat) (c : ByteArray) (rt : Option FieldType) (pc : Nat) (ls : LsT) (st : List Value) (M : MM) (P : MR → Prop) : Prop := Ep (mstep mb) d ((c, rt), pc, ls, st, M) P
theorem EM.mono {mb d : Nat} {c : ByteArray} {rt : Option FieldType} {pc : Nat} {ls : LsT} {st : List Value} {M : MM} {P P' : MR → Prop} (h : EM mb d c rt pc ls st M P) (hp : ∀ r, P r → P' r) : EM mb d c rt pc ls st M P' := Ep.mono h hp
theorem EM.deep {mb d d' : Nat} (hd : d ≤ d') {c : ByteArray} {rt : Option FieldType} {pc : Nat} {ls : LsT} {st : List Value} {M : MM} {P : MR → Prop} (h : EM mb d c rt pc ls st M P) : EM mb d' c rt pc ls st M P := Ep.deep hd h
/-- what goes on, named (simp shall not look into it before it is known with what) -/
def mI (mb d : Nat) (c : ByteArray) (rt : Option FieldType) (pc : Nat) (ls : LsT) (st : List Value) (M : MM) (P : MR → Prop) (x : Int32) : Prop := EM mb d c rt pc ls (.int x :: st) M P
def mLg (mb d : Nat) (c : ByteArray) (rt : Option FieldType) (pc : Nat) (ls : LsT) (st : List Value) (M : MM) (P : MR → Prop) (x : Int64) : Prop := EM mb d c rt pc ls (.long x :: st) M P
def mV (mb d : Nat) (c : ByteArray) (rt : Option FieldType) (pc : Nat) (ls : LsT) (st : List Value) (M : MM) (P : MR → Prop) (x : Value) : Prop := EM mb d c rt pc ls (x :: st) M P
def mInc (mb d : Nat) (c : ByteArray) (rt : Option FieldType) (pc : Nat) (ls : LsT) (st : List Value) (M : MM) (P : MR → Prop) (k : Nat) (v x : Int32) : Prop := EM mb d c rt pc (ls1 ls k (.int (x + v))) st M P
def mK (mb d : Nat) (c : ByteArray) (rt : Option FieldType) (pc : Nat) (ls : LsT) (st : List Value) (P : MR → Prop) (q : MR) : Prop := EM mb d c rt pc ls (q.1.toList ++ st) q.2 P
section
variable {mb d : Nat} {c : ByteArray} {rt : Option FieldType} {pc : Nat} {ls : LsT} {st : List Value} {M : MM} {P : MR → Prop}
theorem mI_ {x : Int32} : mI mb d c rt pc ls st M P x = EM mb d c rt pc ls (.int x :: st) M P := rfl
theorem mLg_ {x : Int64} : mLg mb d c rt pc ls st M P x = EM mb d c rt pc ls (.long x :: st) M P := rfl
theorem mV_ {x : Value} : mV mb d c rt pc ls st M P x = EM mb d c rt pc ls (x :: st) M P := rfl
theorem mInc_ {k : Nat} {v x : Int32} : mInc mb d c rt pc ls st M P k v x = EM mb d c rt pc (ls1 ls k (.int (x + v))) st M P := rfl
theorem mK_ {v : Option Value} : mK mb d c rt pc ls st P (v, M) = EM mb d c rt pc ls (v.toList ++ st) M P := rfl
end
def cat1 (v : Value) : Bool := v.category == 1
theorem cat1_iff {v : Value} : cat1 v = true ↔ v.category = 1 := by unfold cat1; exact beq_iff_eq
theorem cat1_i {v : Int32} : cat1 (.int v) = true := rfl
theorem cat1_r {v : Nat} : cat1 (.ref v) = true := rfl
def catB : List Value → Nat → Bool
  | [], _ => true
  | v :: l, n => decide (v.category ≤ n) && catB l (n - v.category)
theorem catB_n {n : Nat} : catB [] n = true := rfl
theorem catB_i {v : Int32} {l : List Value} {n : Nat} : catB (.int v :: l) (n + 1) = catB l n := by simp [catB, Value.category]
theorem catB_r {v : Nat} {l : List Value} {n : Nat} : catB (.ref v :: l) (n + 1) = catB l n := by simp [catB, Value.category]
theorem catB_l {v : Int64} {l : List Value} {n : Nat} : catB (.long v :: l) (n + 2) = catB l n := by simp [catB, Value.category]
theorem catB_iff : ∀ {l : List Value} {n : Nat}, catB l n = true ↔ catS l ≤ n
  | [], n => by simp [catB, catS]
  | v :: l, n => by
    rw [catB, Bool.and_eq_true, catB_iff (l := l), decide_eq_true_eq]
    show _ ↔ v.category + catS l ≤ n
    omega
theorem catB_sl {l : List Value} {n : Nat} : catB l n = true ↔ (lg_sl l).length ≤ n := by
  rw [catB_iff]
  have : ∀ l : List Value, (lg_sl l).length = catS l := by
    intro l
    induction l with
    | nil => rfl
    | cons v l ih =>
      show ((if v.category = 2 then [Slot.val v, .second] else [.val v]) ++ lg_sl l).length = v.category + catS l
      rw [List.length_append, ih]
      cases v <;> rfl
  rw [this]
/-- the address of the array of number n -/
def ma (mb n : Nat) : Nat := mb + n
def ldEI (x : Option Value) (P : Int32 → Prop) : Prop := match x with
  | some (.int v) => P v
  | _ => False
def ldEL (x : Option Value) (P : Int64 → Prop) : Prop := match x with
  | some (.long v) => P v
  | _ => False
def ldEA (x : Option Value) (P : Value → Prop) : Prop := match x with
  | some (.ref a) => P (.ref a)
  | some .null => P .null
  | _ => False
theorem ldEI_i {v : Int32} {P : Int32 → Prop} : ldEI (some (.int v)) P = P v := rfl
theorem ldEL_l {v : Int64} {P : Int64 → Prop} : ldEL (some (.long v)) P = P v := rfl
theorem ldEA_r {a : Nat} {P : Value → Prop} : ldEA (some (.ref a)) P = P (.ref a) := rfl
theorem ldEA_n {P : Value → Prop} : ldEA (some .null) P = P .null := rfl
def lin : LsT → Nat → Bool
  | [], _ => false
  | _ :: _, 0 => true
  | _ :: l, i + 1 => lin l i
theorem lin_0 {x : Option Value} {l : LsT} : lin (x :: l) 0 = true := rfl
theorem lin_s {x : Option Value} {l : LsT} {i : Nat} : lin (x :: l) (i + 1) = lin l i := rfl
theorem lin_lt : ∀ {l : LsT} {i : Nat}, lin l i = true ↔ i < l.length
  | [], i => by simp [lin]
  | _ :: l, 0 => by simp [lin]
  | _ :: l, i + 1 => by rw [lin_s, lin_lt (l := l)]; simp
theorem lin_lg : ∀ {l : LsT} {i : Nat} {v : Value}, lg l i = some v → lin l i = true
  | [], i, v, h => by simp [lg] at h
  | _ :: l, 0, v, h => rfl
  | _ :: l, i + 1, v, h => lin_lg (l := l) h
section
variable {mb d : Nat} {c : ByteArray} {rt : Option FieldType} {pc : Nat} {ls : LsT} {st : List Value} {M : MM} {P : MR → Prop}
theorem em_of {i : Instr} {len : Nat} {q : StT} (hd : decode c pc = .ok (i, len)) (h : mstep mb ((c, rt), pc, ls, st, M) = (stp i len pc ls st).map (fun q => .inr (.inl ((c, rt), q.1, q.2.1, q.2.2, M)))) (hs : stp i len pc ls st = some q) : EM mb d c rt pc ls st M P ↔ EM mb d c rt q.1 q.2.1 q.2.2 M P := by
  rw [hs] at h
  exact Ep.next h
theorem em_to {i : Instr} {len : Nat} {pc' : Nat} {ls' : LsT} {st' : List Value} (hd : decode c pc = .ok (i, len)) (h : mstep mb ((c, rt), pc, ls, st, M) = (stp i len pc ls st).map (fun q => .inr (.inl ((c, rt), q.1, q.2.1, q.2.2, M)))) (hs : stp i len pc ls st = some (pc', ls', st')) : EM mb d c rt pc ls st M P ↔ EM mb d c rt pc' ls' st' M P := em_of hd h hs
theorem em_iconst {n : Int} {v : Int32} (hd : decode c pc = .ok (.iconst n, 1)) (hv : Int32.ofInt n = v) : EM mb d c rt pc ls st M P ↔ EM mb d c rt (pc + 1) ls (.int v :: st) M P := by
  subst hv; exact em_to hd (by simp only [mstep, hd]) rfl
theorem em_bipush {n : Int} {v : Int32} (hd : decode c pc = .ok (.bipush n, 2)) (hv : (Int8.ofInt n).toInt32 = v) : EM mb d c rt pc ls st M P ↔ EM mb d c rt (pc + 2) ls (.int v :: st) M P := by
  subst hv; exact em_to hd (by simp only [mstep, hd]) rfl
theorem em_sipush {n : Int} {v : Int32} (hd : decode c pc = .ok (.sipush n, 3)) (hv : (Int16.ofInt n).toInt32 = v) : EM mb d c rt pc ls st M P ↔ EM mb d c rt (pc + 3) ls (.int v :: st) M P := by
  subst hv; exact em_to hd (by simp only [mstep, hd]) rfl
theorem em_lconst {n : Fin 2} {v : Int64} (hd : decode c pc = .ok (.lconst n, 1)) (hv : Int64.ofNat (n : Nat) = v) : EM mb d c rt pc ls st M P ↔ EM mb d c rt (pc + 1) ls (.long v :: st) M P := by
  subst hv; exact em_to hd (by simp only [mstep, hd]) rfl
theorem em_ldc2 {idx : Nat} {v : Int64} (hd : decode c pc = .ok (.ldc2_w idx, 3)) (hv : kcp idx = some v) : EM mb d c rt pc ls st M P ↔ EM mb d c rt (pc + 3) ls (.long v :: st) M P := by
  exact Ep.next (by simp only [mstep, hd, hv]; rfl)
theorem em_iload_n {k : Fin 4} {i : Nat} (hd : decode c pc = .ok (.iload_n k, 1)) (hi : (k : Nat) = i) : EM mb d c rt pc ls st M P ↔ ldEI (lg ls i) (mI mb d c rt (pc + 1) ls st M P) := by
  subst hi
  cases h : lg ls k with
  | none => exact ep_none (by simp only [mstep, hd, stp, ldI, h]; rfl)
  | some v =>
    cases v with
    | int x => exact em_to hd (by simp only [mstep, hd]) (by simp only [stp, ldI, h]; rfl)
    | _ => exact ep_none (by simp only [mstep, hd, stp, ldI, h]; rfl)
theorem em_iload {k : Nat} (hd : decode c pc = .ok (.iload k, 2)) : EM mb d c rt pc ls st M P ↔ ldEI (lg ls k) (mI mb d c rt (pc + 2) ls st M P) := by
  cases h : lg ls k with
  | none => exact ep_none (by simp only [mstep, hd, stp, ldI, h]; rfl)
  | some v =>
    cases v with
    | int x => exact em_to hd (by simp only [mstep, hd]) (by simp only [stp, ldI, h]; rfl)
    | _ => exact ep_none (by simp only [mstep, hd, stp, ldI, h]; rfl)
theorem em_lload_n {k : Fin 4} {i : Nat} (hd : decode c pc = .ok (.lload_n k, 1)) (hi : (k : Nat) = i) : EM mb d c rt pc ls st M P ↔ ldEL (lg ls i) (mLg mb d c rt (pc + 1) ls st M P) := by
  subst hi
  cases h : lg ls k with
  | none => exact ep_none (by simp only [mstep, hd, stp, ldL, h]; rfl)
  | some v =>
    cases v with
    | long x => exact em_to hd (by simp only [mstep, hd]) (by simp only [stp, ldL, h]; rfl)
    | _ => exact ep_none (by simp only [mstep, hd, stp, ldL, h]; rfl)
theorem em_lload {k : Nat} (hd : decode c pc = .ok (.lload k, 2)) : EM mb d c rt pc ls st M P ↔ ldEL (lg ls k) (mLg mb d c rt (pc + 2) ls st M P) := by
  cases h : lg ls k with
  | none => exact ep_none (by simp only [mstep, hd, stp, ldL, h]; rfl)
  | some v =>
    cases v with
    | long x => exact em_to hd (by simp only [mstep, hd]) (by simp only [stp, ldL, h]; rfl)
    | _ => exact ep_none (by simp only [mstep, hd, stp, ldL, h]; rfl)
theorem em_aload_n {k : Fin 4} {i : Nat} (hd : decode c pc = .ok (.aload_n k, 1)) (hi : (k : Nat) = i) : EM mb d c rt pc ls st M P ↔ ldEA (lg ls i) (mV mb d c rt (pc + 1) ls st M P) := by
  subst hi
  cases h : lg ls k with
  | none => exact ep_none (by simp only [mstep, hd, stp, ldA, h]; rfl)
  | some v =>
    cases v with
    | ref x => exact em_to hd (by simp only [mstep, hd]) (by simp only [stp, ldA, h]; rfl)
    | null => exact em_to hd (by simp only [mstep, hd]) (by simp only [stp, ldA, h]; rfl)
    | _ => exact ep_none (by simp only [mstep, hd, stp, ldA, h]; rfl)
theorem em_aload {k : Nat} (hd : decode c pc = .ok (.aload k, 2)) : EM mb d c rt pc ls st M P ↔ ldEA (lg ls k) (mV mb d c rt (pc + 2) ls st M P) := by
  cases h : lg ls k with
  | none => exact ep_none (by simp only [mstep, hd, stp, ldA, h]; rfl)
  | some v =>
    cases v with
    | ref x => exact em_to hd (by simp only [mstep, hd]) (by simp only [stp, ldA, h]; rfl)
    | null => exact em_to hd (by simp only [mstep, hd]) (by simp only [stp, ldA, h]; rfl)
    | _ => exact ep_none (by simp only [mstep, hd, stp, ldA, h]; rfl)
theorem em_istore_n {k : Fin 4} {i : Nat} {x : Int32} (hd : decode c pc = .ok (.istore_n k, 1)) (hi : (k : Nat) = i) : EM mb d c rt pc ls (.int x :: st) M P ↔ lin ls i = true ∧ EM mb d c rt (pc + 1) (ls1 ls i (.int x)) st M P := by
  subst hi
  by_cases h : lin ls k = true
  · rw [show (lin ls k = true) = True from eq_true h, true_and]
    exact em_to hd (by simp only [mstep, hd]) (by simp only [stp, svI, if_pos (lin_lt.mp h)]; rfl)
  · rw [show (lin ls k = true) = False from eq_false h, false_and]
    exact ep_none (by simp only [mstep, hd, stp, svI, if_neg (fun z => h (lin_lt.mpr z))]; rfl)
theorem em_istore {k : Nat} {x : Int32} (hd : decode c pc = .ok (.istore k, 2)) : EM mb d c rt pc ls (.int x :: st) M P ↔ lin ls k = true ∧ EM mb d c rt (pc + 2) (ls1 ls k (.int x)) st M P := by
  by_cases h : lin ls k = true
  · rw [show (lin ls k = true) = True from eq_true h, true_and]
    exact em_to hd (by simp only [mstep, hd]) (by simp only [stp, svI, if_pos (lin_lt.mp h)]; rfl)
  · rw [show (lin ls k = true) = False from eq_false h, false_and]
    exact ep_none (by simp only [mstep, hd, stp, svI, if_neg (fun z => h (lin_lt.mpr z))]; rfl)
theorem em_lstore {k : Nat} {x : Int64} (hd : decode c pc = .ok (.lstore k, 2)) : EM mb d c rt pc ls (.long x :: st) M P ↔ lin ls (k + 1) = true ∧ EM mb d c rt (pc + 2) (ls2 ls k (.long x)) st M P := by
  by_cases h : lin ls (k + 1) = true
  · rw [show (lin ls (k + 1) = true) = True from eq_true h, true_and]
    exact em_to hd (by simp only [mstep, hd]) (by simp only [stp, svL, if_pos (lin_lt.mp h)]; rfl)
  · rw [show (lin ls (k + 1) = true) = False from eq_false h, false_and]
    exact ep_none (by simp only [mstep, hd, stp, svL, if_neg (fun z => h (lin_lt.mpr z))]; rfl)
theorem em_iinc {k : Nat} {n : Int} {v : Int32} (hd : decode c pc = .ok (.iinc k n, 3)) (hv : Int32.ofInt n = v) : EM mb d c rt pc ls st M P ↔ ldEI (lg ls k) (mInc mb d c rt (pc + 3) ls st M P k v) := by
  subst hv
  cases h : lg ls k with
  | none => exact ep_none (by simp only [mstep, hd, stp, h]; rfl)
  | some w =>
    cases w with
    | int x => exact em_to hd (by simp only [mstep, hd]) (by simp only [stp, h, if_pos (lin_lt.mp (lin_lg h))]; rfl)
    | _ => exact ep_none (by simp only [mstep, hd, stp, h]; rfl)
theorem em_iadd {x y : Int32} (hd : decode c pc = .ok (.iadd, 1)) : EM mb d c rt pc ls (.int y :: .int x :: st) M P ↔ EM mb d c rt (pc + 1) ls (.int (x + y) :: st) M P := by
  exact em_to hd (by simp only [mstep, hd]) rfl
theorem em_isub {x y : Int32} (hd : decode c pc = .ok (.isub, 1)) : EM mb d c rt pc ls (.int y :: .int x :: st) M P ↔ EM mb d c rt (pc + 1) ls (.int (x - y) :: st) M P := by
  exact em_to hd (by simp only [mstep, hd]) rfl
theorem em_imul {x y : Int32} (hd : decode c pc = .ok (.imul, 1)) : EM mb d c rt pc ls (.int y :: .int x :: st) M P ↔ EM mb d c rt (pc + 1) ls (.int (x * y) :: st) M P := by
  exact em_to hd (by simp only [mstep, hd]) rfl
theorem em_iand {x y : Int32} (hd : decode c pc = .ok (.iand, 1)) : EM mb d c rt pc ls (.int y :: .int x :: st) M P ↔ EM mb d c rt (pc + 1) ls (.int (x &&& y) :: st) M P := by
  exact em_to hd (by simp only [mstep, hd]) rfl
theorem em_ior {x y : Int32} (hd : decode c pc = .ok (.ior, 1)) : EM mb d c rt pc ls (.int y :: .int x :: st) M P ↔ EM mb d c rt (pc + 1) ls (.int (x ||| y) :: st) M P := by
  exact em_to hd (by simp only [mstep, hd]) rfl
theorem em_ishl {x y : Int32} (hd : decode c pc = .ok (.ishl, 1)) : EM mb d c rt pc ls (.int y :: .int x :: st) M P ↔ EM mb d c rt (pc + 1) ls (.int (x <<< (y &&& 31)) :: st) M P := by
  exact em_to hd (by simp only [mstep, hd]) rfl
theorem em_ishr {x y : Int32} (hd : decode c pc = .ok (.ishr, 1)) : EM mb d c rt pc ls (.int y :: .int x :: st) M P ↔ EM mb d c rt (pc + 1) ls (.int (x >>> (y &&& 31)) :: st) M P := by
  exact em_to hd (by simp only [mstep, hd]) rfl
theorem em_idiv {x y : Int32} (hd : decode c pc = .ok (.idiv, 1)) : EM mb d c rt pc ls (.int y :: .int x :: st) M P ↔ ¬ y = 0 ∧ EM mb d c rt (pc + 1) ls (.int (x / y) :: st) M P := by
  by_cases hy : y = 0
  · rw [iff_false_intro (show ¬ (¬ y = 0 ∧ _) from fun h => h.1 hy)]
    exact ep_none (by simp only [mstep, hd, stp, sII, if_pos hy]; rfl)
  · rw [show (¬ y = 0) = True from eq_true hy, true_and]
    exact em_to hd (by simp only [mstep, hd]) (by simp only [stp, sII, if_neg hy]; rfl)
theorem em_irem {x y : Int32} (hd : decode c pc = .ok (.irem, 1)) : EM mb d c rt pc ls (.int y :: .int x :: st) M P ↔ ¬ y = 0 ∧ EM mb d c rt (pc + 1) ls (.int (x - x / y * y) :: st) M P := by
  by_cases hy : y = 0
  · rw [iff_false_intro (show ¬ (¬ y = 0 ∧ _) from fun h => h.1 hy)]
    exact ep_none (by simp only [mstep, hd, stp, sII, if_pos hy]; rfl)
  · rw [show (¬ y = 0) = True from eq_true hy, true_and]
    exact em_to hd (by simp only [mstep, hd]) (by simp only [stp, sII, if_neg hy]; rfl)
theorem em_ldiv {x y : Int64} (hd : decode c pc = .ok (.ldiv, 1)) : EM mb d c rt pc ls (.long y :: .long x :: st) M P ↔ ¬ y = 0 ∧ EM mb d c rt (pc + 1) ls (.long (x / y) :: st) M P := by
  by_cases hy : y = 0
  · rw [iff_false_intro (show ¬ (¬ y = 0 ∧ _) from fun h => h.1 hy)]
    exact ep_none (by simp only [mstep, hd, stp, sLL, if_pos hy]; rfl)
  · rw [show (¬ y = 0) = True from eq_true hy, true_and]
    exact em_to hd (by simp only [mstep, hd]) (by simp only [stp, sLL, if_neg hy]; rfl)
theorem em_lrem {x y : Int64} (hd : decode c pc = .ok (.lrem, 1)) : EM mb d c rt pc ls (.long y :: .long x :: st) M P ↔ ¬ y = 0 ∧ EM mb d c rt (pc + 1) ls (.long (x - x / y * y) :: st) M P := by
  by_cases hy : y = 0
  · rw [iff_false_intro (show ¬ (¬ y = 0 ∧ _) from fun h => h.1 hy)]
    exact ep_none (by simp only [mstep, hd, stp, sLL, if_pos hy]; rfl)
  · rw [show (¬ y = 0) = True from eq_true hy, true_and]
    exact em_to hd (by simp only [mstep, hd]) (by simp only [stp, sLL, if_neg hy]; rfl)
theorem em_ladd {x y : Int64} (hd : decode c pc = .ok (.ladd, 1)) : EM mb d c rt pc ls (.long y :: .long x :: st) M P ↔ EM mb d c rt (pc + 1) ls (.long (x + y) :: st) M P := by
  exact em_to hd (by simp only [mstep, hd]) rfl
theorem em_lsub {x y : Int64} (hd : decode c pc = .ok (.lsub, 1)) : EM mb d c rt pc ls (.long y :: .long x :: st) M P ↔ EM mb d c rt (pc + 1) ls (.long (x - y) :: st) M P := by
  exact em_to hd (by simp only [mstep, hd]) rfl
theorem em_lmul {x y : Int64} (hd : decode c pc = .ok (.lmul, 1)) : EM mb d c rt pc ls (.long y :: .long x :: st) M P ↔ EM mb d c rt (pc + 1) ls (.long (x * y) :: st) M P := by
  exact em_to hd (by simp only [mstep, hd]) rfl
theorem em_land {x y : Int64} (hd : decode c pc = .ok (.land, 1)) : EM mb d c rt pc ls (.long y :: .long x :: st) M P ↔ EM mb d c rt (pc + 1) ls (.long (x &&& y) :: st) M P := by
  exact em_to hd (by simp only [mstep, hd]) rfl
theorem em_lushr {x : Int64} {y : Int32} (hd : decode c pc = .ok (.lushr, 1)) : EM mb d c rt pc ls (.int y :: .long x :: st) M P ↔ EM mb d c rt (pc + 1) ls (.long (x.toUInt64 >>> (y.toInt64.toUInt64 &&& Int64.toUInt64 63)).toInt64 :: st) M P := by
  exact em_to hd (by simp only [mstep, hd]) rfl
theorem em_lcmp {x y : Int64} (hd : decode c pc = .ok (.lcmp, 1)) : EM mb d c rt pc ls (.long y :: .long x :: st) M P ↔ EM mb d c rt (pc + 1) ls (.int (lg_cmp x y) :: st) M P := by
  exact em_to hd (by simp only [mstep, hd]) rfl
theorem em_i2l {x : Int32} (hd : decode c pc = .ok (.i2l, 1)) : EM mb d c rt pc ls (.int x :: st) M P ↔ EM mb d c rt (pc + 1) ls (.long x.toInt64 :: st) M P := by
  exact em_to hd (by simp only [mstep, hd]) rfl
theorem em_l2i {x : Int64} (hd : decode c pc = .ok (.l2i, 1)) : EM mb d c rt pc ls (.long x :: st) M P ↔ EM mb d c rt (pc + 1) ls (.int x.toInt32 :: st) M P := by
  exact em_to hd (by simp only [mstep, hd]) rfl
theorem em_dup {v : Value} (hd : decode c pc = .ok (.dup, 1)) : EM mb d c rt pc ls (v :: st) M P ↔ cat1 v = true ∧ EM mb d c rt (pc + 1) ls (v :: v :: st) M P := by
  by_cases hv : v.category = 1
  · rw [show (cat1 v = true) = True from eq_true (cat1_iff.mpr hv), true_and]
    exact em_to hd (by simp only [mstep, hd]) (by simp only [stp, if_pos hv]; rfl)
  · rw [show (cat1 v = true) = False from eq_false (fun z => hv (cat1_iff.mp z)), false_and]
    exact ep_none (by simp only [mstep, hd, stp, if_neg hv]; rfl)
theorem em_pop {v : Value} (hd : decode c pc = .ok (.pop, 1)) : EM mb d c rt pc ls (v :: st) M P ↔ cat1 v = true ∧ EM mb d c rt (pc + 1) ls st M P := by
  by_cases hv : v.category = 1
  · rw [show (cat1 v = true) = True from eq_true (cat1_iff.mpr hv), true_and]
    exact em_to hd (by simp only [mstep, hd]) (by simp only [stp, if_pos hv]; rfl)
  · rw [show (cat1 v = true) = False from eq_false (fun z => hv (cat1_iff.mp z)), false_and]
    exact ep_none (by simp only [mstep, hd, stp, if_neg hv]; rfl)
theorem em_dup2 {v w : Value} (hd : decode c pc = .ok (.dup2, 1)) : EM mb d c rt pc ls (v :: w :: st) M P ↔ cat1 v = true ∧ cat1 w = true ∧ EM mb d c rt (pc + 1) ls (v :: w :: v :: w :: st) M P := by
  by_cases hv : v.category = 1 ∧ w.category = 1
  · rw [show (cat1 v = true) = True from eq_true (cat1_iff.mpr hv.1), show (cat1 w = true) = True from eq_true (cat1_iff.mpr hv.2), true_and, true_and]
    exact em_to hd (by simp only [mstep, hd]) (by simp only [stp, if_pos hv]; rfl)
  · rw [iff_false_intro (show ¬ (cat1 v = true ∧ cat1 w = true ∧ _) from fun z => hv ⟨cat1_iff.mp z.1, cat1_iff.mp z.2.1⟩)]
    exact ep_none (by simp only [mstep, hd, stp, if_neg hv]; rfl)
theorem em_goto {off : Int} {t : Nat} (hd : decode c pc = .ok (.goto off, 3)) (ht : (pc : Int) + off = (t : Int)) : EM mb d c rt pc ls st M P ↔ EM mb d c rt t ls st M P := by
  exact em_to hd (by simp only [mstep, hd]) (by simp only [stp, jmp_of ht]; rfl)
theorem em_if_eq {x : Int32} {off : Int} {t : Nat} (hd : decode c pc = .ok (.ifCond .eq off, 3)) (ht : (pc : Int) + off = (t : Int)) : EM mb d c rt pc ls (.int x :: st) M P ↔ if x = 0 then EM mb d c rt t ls st M P else EM mb d c rt (pc + 3) ls st M P := by
  by_cases hp : x = 0
  · rw [if_pos hp]; exact em_to hd (by simp only [mstep, hd]) (by simp [stp, sF1, jmp_of ht, hp])
  · rw [if_neg hp]; exact em_to hd (by simp only [mstep, hd]) (by simp [stp, sF1, jmp_of ht, hp])
theorem em_icmp_eq {x y : Int32} {off : Int} {t : Nat} (hd : decode c pc = .ok (.if_icmp .eq off, 3)) (ht : (pc : Int) + off = (t : Int)) : EM mb d c rt pc ls (.int y :: .int x :: st) M P ↔ if x = y then EM mb d c rt t ls st M P else EM mb d c rt (pc + 3) ls st M P := by
  by_cases hp : x = y
  · rw [if_pos hp]; exact em_to hd (by simp only [mstep, hd]) (by simp [stp, sF2, jmp_of ht, hp])
  · rw [if_neg hp]; exact em_to hd (by simp only [mstep, hd]) (by simp [stp, sF2, jmp_of ht, hp])
theorem em_if_ne {x : Int32} {off : Int} {t : Nat} (hd : decode c pc = .ok (.ifCond .ne off, 3)) (ht : (pc : Int) + off = (t : Int)) : EM mb d c rt pc ls (.int x :: st) M P ↔ if x = 0 then EM mb d c rt (pc + 3) ls st M P else EM mb d c rt t ls st M P := by
  by_cases hp : x = 0
  · rw [if_pos hp]; exact em_to hd (by simp only [mstep, hd]) (by simp [stp, sF1, jmp_of ht, hp])
  · rw [if_neg hp]; exact em_to hd (by simp only [mstep, hd]) (by simp [stp, sF1, jmp_of ht, hp])
theorem em_icmp_ne {x y : Int32} {off : Int} {t : Nat} (hd : decode c pc = .ok (.if_icmp .ne off, 3)) (ht : (pc : Int) + off = (t : Int)) : EM mb d c rt pc ls (.int y :: .int x :: st) M P ↔ if x = y then EM mb d c rt (pc + 3) ls st M P else EM mb d c rt t ls st M P := by
  by_cases hp : x = y
  · rw [if_pos hp]; exact em_to hd (by simp only [mstep, hd]) (by simp [stp, sF2, jmp_of ht, hp])
  · rw [if_neg hp]; exact em_to hd (by simp only [mstep, hd]) (by simp [stp, sF2, jmp_of ht, hp])
theorem em_if_lt {x : Int32} {off : Int} {t : Nat} (hd : decode c pc = .ok (.ifCond .lt off, 3)) (ht : (pc : Int) + off = (t : Int)) : EM mb d c rt pc ls (.int x :: st) M P ↔ if x < 0 then EM mb d c rt t ls st M P else EM mb d c rt (pc + 3) ls st M P := by
  by_cases hp : x < 0
  · rw [if_pos hp]; exact em_to hd (by simp only [mstep, hd]) (by simp [stp, sF1, jmp_of ht, hp])
  · rw [if_neg hp]; exact em_to hd (by simp only [mstep, hd]) (by simp [stp, sF1, jmp_of ht, hp])
theorem em_icmp_lt {x y : Int32} {off : Int} {t : Nat} (hd : decode c pc = .ok (.if_icmp .lt off, 3)) (ht : (pc : Int) + off = (t : Int)) : EM mb d c rt pc ls (.int y :: .int x :: st) M P ↔ if x < y then EM mb d c rt t ls st M P else EM mb d c rt (pc + 3) ls st M P := by
  by_cases hp : x < y
  · rw [if_pos hp]; exact em_to hd (by simp only [mstep, hd]) (by simp [stp, sF2, jmp_of ht, hp])
  · rw [if_neg hp]; exact em_to hd (by simp only [mstep, hd]) (by simp [stp, sF2, jmp_of ht, hp])
theorem em_if_ge {x : Int32} {off : Int} {t : Nat} (hd : decode c pc = .ok (.ifCond .ge off, 3)) (ht : (pc : Int) + off = (t : Int)) : EM mb d c rt pc ls (.int x :: st) M P ↔ if 0 ≤ x then EM mb d c rt t ls st M P else EM mb d c rt (pc + 3) ls st M P := by
  by_cases hp : 0 ≤ x
  · rw [if_pos hp]; exact em_to hd (by simp only [mstep, hd]) (by simp [stp, sF1, jmp_of ht, hp])
  · rw [if_neg hp]; exact em_to hd (by simp only [mstep, hd]) (by simp [stp, sF1, jmp_of ht, hp])
theorem em_icmp_ge {x y : Int32} {off : Int} {t : Nat} (hd : decode c pc = .ok (.if_icmp .ge off, 3)) (ht : (pc : Int) + off = (t : Int)) : EM mb d c rt pc ls (.int y :: .int x :: st) M P ↔ if y ≤ x then EM mb d c rt t ls st M P else EM mb d c rt (pc + 3) ls st M P := by
  by_cases hp : y ≤ x
  · rw [if_pos hp]; exact em_to hd (by simp only [mstep, hd]) (by simp [stp, sF2, jmp_of ht, hp])
  · rw [if_neg hp]; exact em_to hd (by simp only [mstep, hd]) (by simp [stp, sF2, jmp_of ht, hp])
theorem em_if_gt {x : Int32} {off : Int} {t : Nat} (hd : decode c pc = .ok (.ifCond .gt off, 3)) (ht : (pc : Int) + off = (t : Int)) : EM mb d c rt pc ls (.int x :: st) M P ↔ if 0 < x then EM mb d c rt t ls st M P else EM mb d c rt (pc + 3) ls st M P := by
  by_cases hp : 0 < x
  · rw [if_pos hp]; exact em_to hd (by simp only [mstep, hd]) (by simp [stp, sF1, jmp_of ht, hp])
  · rw [if_neg hp]; exact em_to hd (by simp only [mstep, hd]) (by simp [stp, sF1, jmp_of ht, hp])
theorem em_icmp_gt {x y : Int32} {off : Int} {t : Nat} (hd : decode c pc = .ok (.if_icmp .gt off, 3)) (ht : (pc : Int) + off = (t : Int)) : EM mb d c rt pc ls (.int y :: .int x :: st) M P ↔ if y < x then EM mb d c rt t ls st M P else EM mb d c rt (pc + 3) ls st M P := by
  by_cases hp : y < x
  · rw [if_pos hp]; exact em_to hd (by simp only [mstep, hd]) (by simp [stp, sF2, jmp_of ht, hp])
  · rw [if_neg hp]; exact em_to hd (by simp only [mstep, hd]) (by simp [stp, sF2, jmp_of ht, hp])
theorem em_if_le {x : Int32} {off : Int} {t : Nat} (hd : decode c pc = .ok (.ifCond .le off, 3)) (ht : (pc : Int) + off = (t : Int)) : EM mb d c rt pc ls (.int x :: st) M P ↔ if x ≤ 0 then EM mb d c rt t ls st M P else EM mb d c rt (pc + 3) ls st M P := by
  by_cases hp : x ≤ 0
  · rw [if_pos hp]; exact em_to hd (by simp only [mstep, hd]) (by simp [stp, sF1, jmp_of ht, hp])
  · rw [if_neg hp]; exact em_to hd (by simp only [mstep, hd]) (by simp [stp, sF1, jmp_of ht, hp])
theorem em_icmp_le {x y : Int32} {off : Int} {t : Nat} (hd : decode c pc = .ok (.if_icmp .le off, 3)) (ht : (pc : Int) + off = (t : Int)) : EM mb d c rt pc ls (.int y :: .int x :: st) M P ↔ if x ≤ y then EM mb d c rt t ls st M P else EM mb d c rt (pc + 3) ls st M P := by
  by_cases hp : x ≤ y
  · rw [if_pos hp]; exact em_to hd (by simp only [mstep, hd]) (by simp [stp, sF2, jmp_of ht, hp])
  · rw [if_neg hp]; exact em_to hd (by simp only [mstep, hd]) (by simp [stp, sF2, jmp_of ht, hp])
theorem em_getI {idx k : Nat} (hd : decode c pc = .ok (.getfield idx, 3)) (hf : fcp idx = some k) (hk : fvk k = 0 ∨ fvk k = 1) : EM mb d c rt pc ls (.ref mb :: st) M P ↔ EM mb d c rt (pc + 3) ls (.int (rI M 0 k) :: st) M P := by
  have e : mfv mb M k = .int (rI M 0 k) := by unfold mfv; rcases hk with h | h <;> rw [h]
  rw [← e]
  exact Ep.next (by simp only [mstep, hd, hf, if_pos]; rfl)
theorem em_getL {idx k : Nat} (hd : decode c pc = .ok (.getfield idx, 3)) (hf : fcp idx = some k) (hk : fvk k = 2) : EM mb d c rt pc ls (.ref mb :: st) M P ↔ EM mb d c rt (pc + 3) ls (.long (rL M 0 k) :: st) M P := by
  have e : mfv mb M k = .long (rL M 0 k) := by unfold mfv; rw [hk]
  rw [← e]
  exact Ep.next (by simp only [mstep, hd, hf, if_pos]; rfl)
theorem em_getA {idx k n : Nat} (hd : decode c pc = .ok (.getfield idx, 3)) (hf : fcp idx = some k) (hk : fvk k = n + 2) (h1 : Nat.ble 1 n = true) : EM mb d c rt pc ls (.ref mb :: st) M P ↔ EM mb d c rt (pc + 3) ls (.ref (ma mb n) :: st) M P := by
  have e : mfv mb M k = .ref (ma mb n) := by
    have h1 := Nat.ble_eq.mp h1
    obtain ⟨j, rfl⟩ : ∃ j, n = j + 1 := ⟨n - 1, by omega⟩
    unfold mfv ma; rw [hk]
  rw [← e]
  exact Ep.next (by simp only [mstep, hd, hf, if_pos]; rfl)
theorem em_putI {idx k : Nat} {x : Int32} (hd : decode c pc = .ok (.putfield idx, 3)) (hf : fcp idx = some k) (hk : fvk k = 0) : EM mb d c rt pc ls (.int x :: .ref mb :: st) M P ↔ EM mb d c rt (pc + 3) ls st (wI M 0 k x) P := by
  exact Ep.next (by simp only [mstep, hd, hf, if_pos, Option.bind_some, mput, hk]; rfl)
theorem em_putZ {idx k : Nat} {x : Int32} (hd : decode c pc = .ok (.putfield idx, 3)) (hf : fcp idx = some k) (hk : fvk k = 1) : EM mb d c rt pc ls (.int x :: .ref mb :: st) M P ↔ (x = 0 ∨ x = 1) ∧ EM mb d c rt (pc + 3) ls st (wI M 0 k x) P := by
  by_cases h : x = 0 ∨ x = 1
  · rw [show (x = 0 ∨ x = 1) = True from eq_true h, true_and]
    exact Ep.next (by simp only [mstep, hd, hf, if_pos, Option.bind_some, mput, hk, h]; rfl)
  · rw [show (x = 0 ∨ x = 1) = False from eq_false h, false_and]
    exact ep_none (by simp only [mstep, hd, hf, if_pos, Option.bind_some, mput, hk, h]; rfl)
theorem em_putL {idx k : Nat} {x : Int64} (hd : decode c pc = .ok (.putfield idx, 3)) (hf : fcp idx = some k) (hk : fvk k = 2) : EM mb d c rt pc ls (.long x :: .ref mb :: st) M P ↔ EM mb d c rt (pc + 3) ls st (wL M 0 k x) P := by
  exact Ep.next (by simp only [mstep, hd, hf, if_pos, Option.bind_some, mput, hk]; rfl)
theorem mid_of {n : Nat} (h0 : n ≠ 0) (hn : n < 47) : mid mb (ma mb n) = some n := by
  unfold mid ma
  rw [if_pos (by omega), Nat.add_sub_cancel_left]
def arrT (t n : Nat) : Bool := decide (n ≠ 0 ∧ n < 47 ∧ atyp n = t)
theorem arrT_sp {t n : Nat} (h : arrT t n = true) : n ≠ 0 ∧ n < 47 ∧ atyp n = t := of_decide_eq_true h
theorem em_iald_ {n : Nat} {i : Int32} (hd : decode c pc = .ok (.iaload, 1)) (hn : arrT 0 n = true) : EM mb d c rt pc ls (.int i :: .ref (ma mb n) :: st) M P ↔ inb i (alen n) = true ∧ EM mb d c rt (pc + 1) ls (.int (rI M n i.toNatClampNeg) :: st) M P := by
  obtain ⟨h0, h1, h2⟩ := arrT_sp hn
  by_cases h : inb i (alen n) = true
  · rw [show (inb i (alen n) = true) = True from eq_true h, true_and]
    exact Ep.next (by simp only [mstep, hd, mald, mid_of h0 h1, if_pos (And.intro h2 h)]; rfl)
  · rw [show (inb i (alen n) = true) = False from eq_false h, false_and]
    exact ep_none (by simp only [mstep, hd, mald, mid_of h0 h1, if_neg (fun q : _ ∧ _ => h q.2)]; rfl)
theorem em_bald_ {n : Nat} {i : Int32} (hd : decode c pc = .ok (.baload, 1)) (hn : arrT 1 n = true) : EM mb d c rt pc ls (.int i :: .ref (ma mb n) :: st) M P ↔ inb i (alen n) = true ∧ EM mb d c rt (pc + 1) ls (.int (rI M n i.toNatClampNeg) :: st) M P := by
  obtain ⟨h0, h1, h2⟩ := arrT_sp hn
  by_cases h : inb i (alen n) = true
  · rw [show (inb i (alen n) = true) = True from eq_true h, true_and]
    exact Ep.next (by simp only [mstep, hd, mald, mid_of h0 h1, if_pos (And.intro h2 h)]; rfl)
  · rw [show (inb i (alen n) = true) = False from eq_false h, false_and]
    exact ep_none (by simp only [mstep, hd, mald, mid_of h0 h1, if_neg (fun q : _ ∧ _ => h q.2)]; rfl)
theorem em_lald_ {n : Nat} {i : Int32} (hd : decode c pc = .ok (.laload, 1)) (hn : arrT 2 n = true) : EM mb d c rt pc ls (.int i :: .ref (ma mb n) :: st) M P ↔ inb i (alen n) = true ∧ EM mb d c rt (pc + 1) ls (.long (rL M n i.toNatClampNeg) :: st) M P := by
  obtain ⟨h0, h1, h2⟩ := arrT_sp hn
  by_cases h : inb i (alen n) = true
  · rw [show (inb i (alen n) = true) = True from eq_true h, true_and]
    exact Ep.next (by simp only [mstep, hd, mald, mid_of h0 h1, if_pos (And.intro h2 h)]; rfl)
  · rw [show (inb i (alen n) = true) = False from eq_false h, false_and]
    exact ep_none (by simp only [mstep, hd, mald, mid_of h0 h1, if_neg (fun q : _ ∧ _ => h q.2)]; rfl)
theorem em_iast_ {n : Nat} {i x : Int32} (hd : decode c pc = .ok (.iastore, 1)) (hn : arrT 0 n = true) : EM mb d c rt pc ls (.int x :: .int i :: .ref (ma mb n) :: st) M P ↔ inb i (alen n) = true ∧ EM mb d c rt (pc + 1) ls st (wI M n i.toNatClampNeg x) P := by
  obtain ⟨h0, h1, h2⟩ := arrT_sp hn
  by_cases h : inb i (alen n) = true
  · rw [show (inb i (alen n) = true) = True from eq_true h, true_and]
    exact Ep.next (by simp only [mstep, hd, mast, mid_of h0 h1]; simp [h, h2])
  · rw [show (inb i (alen n) = true) = False from eq_false h, false_and]
    exact ep_none (by simp only [mstep, hd, mast, mid_of h0 h1]; simp [h])
theorem em_bast_ {n : Nat} {i x : Int32} (hd : decode c pc = .ok (.bastore, 1)) (hn : arrT 1 n = true) : EM mb d c rt pc ls (.int x :: .int i :: .ref (ma mb n) :: st) M P ↔ (inb i (alen n) = true ∧ (x = 0 ∨ x = 1)) ∧ EM mb d c rt (pc + 1) ls st (wI M n i.toNatClampNeg x) P := by
  obtain ⟨h0, h1, h2⟩ := arrT_sp hn
  by_cases h : inb i (alen n) = true ∧ (x = 0 ∨ x = 1)
  · rw [show (inb i (alen n) = true ∧ (x = 0 ∨ x = 1)) = True from eq_true h, true_and]
    exact Ep.next (by simp only [mstep, hd, mast, mid_of h0 h1]; simp [h, h2])
  · rw [show (inb i (alen n) = true ∧ (x = 0 ∨ x = 1)) = False from eq_false h, false_and]
    exact ep_none (by simp only [mstep, hd, mast, mid_of h0 h1]; simp [h2]; exact fun a => ⟨fun b => h ⟨a, Or.inl b⟩, fun b => h ⟨a, Or.inr b⟩⟩)
theorem em_last_ {n : Nat} {i : Int32} {x : Int64} (hd : decode c pc = .ok (.lastore, 1)) (hn : arrT 2 n = true) : EM mb d c rt pc ls (.long x :: .int i :: .ref (ma mb n) :: st) M P ↔ inb i (alen n) = true ∧ EM mb d c rt (pc + 1) ls st (wL M n i.toNatClampNeg x) P := by
  obtain ⟨h0, h1, h2⟩ := arrT_sp hn
  by_cases h : inb i (alen n) = true
  · rw [show (inb i (alen n) = true) = True from eq_true h, true_and]
    exact Ep.next (by simp only [mstep, hd, mast, mid_of h0 h1]; simp [h, h2])
  · rw [show (inb i (alen n) = true) = False from eq_false h, false_and]
    exact ep_none (by simp only [mstep, hd, mast, mid_of h0 h1]; simp [h])
theorem em_min {x y : Int32} (hd : decode c pc = .ok (.invokestatic 443, 3)) : EM mb d c rt pc ls (.int y :: .int x :: st) M P ↔ catB st 8 = true ∧ EM mb d c rt (pc + 3) ls (.int (if y < x then y else x) :: st) M P := by
  by_cases hc : catS st ≤ 8
  · rw [show (catB st 8 = true) = True from eq_true (catB_iff.mpr hc), true_and]
    exact Ep.next (by simp only [mstep, hd, if_pos, hc])
  · rw [show (catB st 8 = true) = False from eq_false (fun z => hc (catB_iff.mp z)), false_and]
    exact ep_none (by simp only [mstep, hd, if_pos, hc]; rfl)
theorem em_iret {x : Int32} (hd : decode c pc = .ok (.ireturn, 1)) : EM mb d c (some .int) pc ls [.int x] M P ↔ P (some (.int x), M) := by
  exact Ep.ret (by simp only [mstep, hd]; rfl)
theorem em_zret {x : Int32} (hd : decode c pc = .ok (.ireturn, 1)) : EM mb d c (some .boolean) pc ls [.int x] M P ↔ (x = 0 ∨ x = 1) ∧ P (some (.int x), M) := by
  by_cases h : x = 0 ∨ x = 1
  · rw [show (x = 0 ∨ x = 1) = True from eq_true h, true_and]
    exact Ep.ret (by simp only [mstep, hd, mret, if_pos h]; rfl)
  · rw [show (x = 0 ∨ x = 1) = False from eq_false h, false_and]
    exact ep_none (by simp only [mstep, hd, mret, if_neg h]; rfl)
theorem em_vret (hd : decode c pc = .ok (.return_, 1)) : EM mb d c none pc ls [] M P ↔ P (none, M) := by
  exact Ep.ret (by simp only [mstep, hd]; rfl)
theorem em_cv0 {idx nL : Nat} {y : MethodName} {cc : ByteArray} {rt2 : Option FieldType} (hd : decode c pc = .ok (.invokevirtual idx, 3)) (hm : mcp idx = some (y, cc, rt2, nL, 0, false)) : EM mb (d + 1) c rt pc ls (.ref mb :: st) M P ↔ catB st 8 = true ∧ catB [.ref mb] nL = true ∧ EM mb d cc rt2 0 (lent [.ref mb] nL) [] M (mK mb (d + 1) c rt (pc + 3) ls st P) := by
  by_cases hc : catS st ≤ 8 ∧ (lg_sl [.ref mb]).length ≤ nL
  · rw [show (catB st 8 = true) = True from eq_true (catB_iff.mpr hc.1), show (catB [.ref mb] nL = true) = True from eq_true (catB_sl.mpr hc.2), true_and, true_and]
    exact Ep.call (by simp only [mstep, hd, mcall, hm]; simp [hc.1, hc.2])
  · rw [iff_false_intro (show ¬ (catB st 8 = true ∧ catB [.ref mb] nL = true ∧ _) from fun z => hc ⟨catB_iff.mp z.1, catB_sl.mp z.2.1⟩)]
    exact ep_none (by simp only [mstep, hd, mcall, hm]; simp; exact fun h1 => Nat.lt_of_not_le (fun h2 => hc ⟨h1, h2⟩))
theorem em_cv1 {idx nL : Nat} {y : MethodName} {cc : ByteArray} {rt2 : Option FieldType} {v0 : Value} (hd : decode c pc = .ok (.invokevirtual idx, 3)) (hm : mcp idx = some (y, cc, rt2, nL, 1, false)) : EM mb (d + 1) c rt pc ls (v0 :: .ref mb :: st) M P ↔ catB st 8 = true ∧ catB [.ref mb, v0] nL = true ∧ EM mb d cc rt2 0 (lent [.ref mb, v0] nL) [] M (mK mb (d + 1) c rt (pc + 3) ls st P) := by
  by_cases hc : catS st ≤ 8 ∧ (lg_sl [.ref mb, v0]).length ≤ nL
  · rw [show (catB st 8 = true) = True from eq_true (catB_iff.mpr hc.1), show (catB [.ref mb, v0] nL = true) = True from eq_true (catB_sl.mpr hc.2), true_and, true_and]
    exact Ep.call (by simp only [mstep, hd, mcall, hm]; simp [hc.1, hc.2])
  · rw [iff_false_intro (show ¬ (catB st 8 = true ∧ catB [.ref mb, v0] nL = true ∧ _) from fun z => hc ⟨catB_iff.mp z.1, catB_sl.mp z.2.1⟩)]
    exact ep_none (by simp only [mstep, hd, mcall, hm]; simp; exact fun h1 => Nat.lt_of_not_le (fun h2 => hc ⟨h1, h2⟩))
theorem em_cv2 {idx nL : Nat} {y : MethodName} {cc : ByteArray} {rt2 : Option FieldType} {v0 v1 : Value} (hd : decode c pc = .ok (.invokevirtual idx, 3)) (hm : mcp idx = some (y, cc, rt2, nL, 2, false)) : EM mb (d + 1) c rt pc ls (v1 :: v0 :: .ref mb :: st) M P ↔ catB st 8 = true ∧ catB [.ref mb, v0, v1] nL = true ∧ EM mb d cc rt2 0 (lent [.ref mb, v0, v1] nL) [] M (mK mb (d + 1) c rt (pc + 3) ls st P) := by
  by_cases hc : catS st ≤ 8 ∧ (lg_sl [.ref mb, v0, v1]).length ≤ nL
  · rw [show (catB st 8 = true) = True from eq_true (catB_iff.mpr hc.1), show (catB [.ref mb, v0, v1] nL = true) = True from eq_true (catB_sl.mpr hc.2), true_and, true_and]
    exact Ep.call (by simp only [mstep, hd, mcall, hm]; simp [hc.1, hc.2])
  · rw [iff_false_intro (show ¬ (catB st 8 = true ∧ catB [.ref mb, v0, v1] nL = true ∧ _) from fun z => hc ⟨catB_iff.mp z.1, catB_sl.mp z.2.1⟩)]
    exact ep_none (by simp only [mstep, hd, mcall, hm]; simp; exact fun h1 => Nat.lt_of_not_le (fun h2 => hc ⟨h1, h2⟩))
theorem em_cv3 {idx nL : Nat} {y : MethodName} {cc : ByteArray} {rt2 : Option FieldType} {v0 v1 v2 : Value} (hd : decode c pc = .ok (.invokevirtual idx, 3)) (hm : mcp idx = some (y, cc, rt2, nL, 3, false)) : EM mb (d + 1) c rt pc ls (v2 :: v1 :: v0 :: .ref mb :: st) M P ↔ catB st 8 = true ∧ catB [.ref mb, v0, v1, v2] nL = true ∧ EM mb d cc rt2 0 (lent [.ref mb, v0, v1, v2] nL) [] M (mK mb (d + 1) c rt (pc + 3) ls st P) := by
  by_cases hc : catS st ≤ 8 ∧ (lg_sl [.ref mb, v0, v1, v2]).length ≤ nL
  · rw [show (catB st 8 = true) = True from eq_true (catB_iff.mpr hc.1), show (catB [.ref mb, v0, v1, v2] nL = true) = True from eq_true (catB_sl.mpr hc.2), true_and, true_and]
    exact Ep.call (by simp only [mstep, hd, mcall, hm]; simp [hc.1, hc.2])
  · rw [iff_false_intro (show ¬ (catB st 8 = true ∧ catB [.ref mb, v0, v1, v2] nL = true ∧ _) from fun z => hc ⟨catB_iff.mp z.1, catB_sl.mp z.2.1⟩)]
    exact ep_none (by simp only [mstep, hd, mcall, hm]; simp; exact fun h1 => Nat.lt_of_not_le (fun h2 => hc ⟨h1, h2⟩))
theorem em_cv4 {idx nL : Nat} {y : MethodName} {cc : ByteArray} {rt2 : Option FieldType} {v0 v1 v2 v3 : Value} (hd : decode c pc = .ok (.invokevirtual idx, 3)) (hm : mcp idx = some (y, cc, rt2, nL, 4, false)) : EM mb (d + 1) c rt pc ls (v3 :: v2 :: v1 :: v0 :: .ref mb :: st) M P ↔ catB st 8 = true ∧ catB [.ref mb, v0, v1, v2, v3] nL = true ∧ EM mb d cc rt2 0 (lent [.ref mb, v0, v1, v2, v3] nL) [] M (mK mb (d + 1) c rt (pc + 3) ls st P) := by
  by_cases hc : catS st ≤ 8 ∧ (lg_sl [.ref mb, v0, v1, v2, v3]).length ≤ nL
  · rw [show (catB st 8 = true) = True from eq_true (catB_iff.mpr hc.1), show (catB [.ref mb, v0, v1, v2, v3] nL = true) = True from eq_true (catB_sl.mpr hc.2), true_and, true_and]
    exact Ep.call (by simp only [mstep, hd, mcall, hm]; simp [hc.1, hc.2])
  · rw [iff_false_intro (show ¬ (catB st 8 = true ∧ catB [.ref mb, v0, v1, v2, v3] nL = true ∧ _) from fun z => hc ⟨catB_iff.mp z.1, catB_sl.mp z.2.1⟩)]
    exact ep_none (by simp only [mstep, hd, mcall, hm]; simp; exact fun h1 => Nat.lt_of_not_le (fun h2 => hc ⟨h1, h2⟩))
theorem em_cv5 {idx nL : Nat} {y : MethodName} {cc : ByteArray} {rt2 : Option FieldType} {v0 v1 v2 v3 v4 : Value} (hd : decode c pc = .ok (.invokevirtual idx, 3)) (hm : mcp idx = some (y, cc, rt2, nL, 5, false)) : EM mb (d + 1) c rt pc ls (v4 :: v3 :: v2 :: v1 :: v0 :: .ref mb :: st) M P ↔ catB st 8 = true ∧ catB [.ref mb, v0, v1, v2, v3, v4] nL = true ∧ EM mb d cc rt2 0 (lent [.ref mb, v0, v1, v2, v3, v4] nL) [] M (mK mb (d + 1) c rt (pc + 3) ls st P) := by
  by_cases hc : catS st ≤ 8 ∧ (lg_sl [.ref mb, v0, v1, v2, v3, v4]).length ≤ nL
  · rw [show (catB st 8 = true) = True from eq_true (catB_iff.mpr hc.1), show (catB [.ref mb, v0, v1, v2, v3, v4] nL = true) = True from eq_true (catB_sl.mpr hc.2), true_and, true_and]
    exact Ep.call (by simp only [mstep, hd, mcall, hm]; simp [hc.1, hc.2])
  · rw [iff_false_intro (show ¬ (catB st 8 = true ∧ catB [.ref mb, v0, v1, v2, v3, v4] nL = true ∧ _) from fun z => hc ⟨catB_iff.mp z.1, catB_sl.mp z.2.1⟩)]
    exact ep_none (by simp only [mstep, hd, mcall, hm]; simp; exact fun h1 => Nat.lt_of_not_le (fun h2 => hc ⟨h1, h2⟩))
theorem em_cs1 {idx nL : Nat} {y : MethodName} {cc : ByteArray} {rt2 : Option FieldType} {v0 : Value} (hd : decode c pc = .ok (.invokestatic idx, 3)) (hm : mcp idx = some (y, cc, rt2, nL, 1, true)) : EM mb (d + 1) c rt pc ls (v0 :: st) M P ↔ catB st 8 = true ∧ catB [v0] nL = true ∧ EM mb d cc rt2 0 (lent [v0] nL) [] M (mK mb (d + 1) c rt (pc + 3) ls st P) := by
  have h443 : idx ≠ 443 := by intro z; rw [z] at hm; cases hm
  by_cases hc : catS st ≤ 8 ∧ (lg_sl [v0]).length ≤ nL
  · rw [show (catB st 8 = true) = True from eq_true (catB_iff.mpr hc.1), show (catB [v0] nL = true) = True from eq_true (catB_sl.mpr hc.2), true_and, true_and]
    exact Ep.call (by simp only [mstep, hd, if_neg h443, mcall, hm]; simp [hc.1, hc.2])
  · rw [iff_false_intro (show ¬ (catB st 8 = true ∧ catB [v0] nL = true ∧ _) from fun z => hc ⟨catB_iff.mp z.1, catB_sl.mp z.2.1⟩)]
    exact ep_none (by simp only [mstep, hd, if_neg h443, mcall, hm]; simp; exact fun h1 => Nat.lt_of_not_le (fun h2 => hc ⟨h1, h2⟩))
theorem em_cs2 {idx nL : Nat} {y : MethodName} {cc : ByteArray} {rt2 : Option FieldType} {v0 v1 : Value} (hd : decode c pc = .ok (.invokestatic idx, 3)) (hm : mcp idx = some (y, cc, rt2, nL, 2, true)) : EM mb (d + 1) c rt pc ls (v1 :: v0 :: st) M P ↔ catB st 8 = true ∧ catB [v0, v1] nL = true ∧ EM mb d cc rt2 0 (lent [v0, v1] nL) [] M (mK mb (d + 1) c rt (pc + 3) ls st P) := by
  have h443 : idx ≠ 443 := by intro z; rw [z] at hm; cases hm
  by_cases hc : catS st ≤ 8 ∧ (lg_sl [v0, v1]).length ≤ nL
  · rw [show (catB st 8 = true) = True from eq_true (catB_iff.mpr hc.1), show (catB [v0, v1] nL = true) = True from eq_true (catB_sl.mpr hc.2), true_and, true_and]
    exact Ep.call (by simp only [mstep, hd, if_neg h443, mcall, hm]; simp [hc.1, hc.2])
  · rw [iff_false_intro (show ¬ (catB st 8 = true ∧ catB [v0, v1] nL = true ∧ _) from fun z => hc ⟨catB_iff.mp z.1, catB_sl.mp z.2.1⟩)]
    exact ep_none (by simp only [mstep, hd, if_neg h443, mcall, hm]; simp; exact fun h1 => Nat.lt_of_not_le (fun h2 => hc ⟨h1, h2⟩))
theorem em_cs3 {idx nL : Nat} {y : MethodName} {cc : ByteArray} {rt2 : Option FieldType} {v0 v1 v2 : Value} (hd : decode c pc = .ok (.invokestatic idx, 3)) (hm : mcp idx = some (y, cc, rt2, nL, 3, true)) : EM mb (d + 1) c rt pc ls (v2 :: v1 :: v0 :: st) M P ↔ catB st 8 = true ∧ catB [v0, v1, v2] nL = true ∧ EM mb d cc rt2 0 (lent [v0, v1, v2] nL) [] M (mK mb (d + 1) c rt (pc + 3) ls st P) := by
  have h443 : idx ≠ 443 := by intro z; rw [z] at hm; cases hm
  by_cases hc : catS st ≤ 8 ∧ (lg_sl [v0, v1, v2]).length ≤ nL
  · rw [show (catB st 8 = true) = True from eq_true (catB_iff.mpr hc.1), show (catB [v0, v1, v2] nL = true) = True from eq_true (catB_sl.mpr hc.2), true_and, true_and]
    exact Ep.call (by simp only [mstep, hd, if_neg h443, mcall, hm]; simp [hc.1, hc.2])
  · rw [iff_false_intro (show ¬ (catB st 8 = true ∧ catB [v0, v1, v2] nL = true ∧ _) from fun z => hc ⟨catB_iff.mp z.1, catB_sl.mp z.2.1⟩)]
    exact ep_none (by simp only [mstep, hd, if_neg h443, mcall, hm]; simp; exact fun h1 => Nat.lt_of_not_le (fun h2 => hc ⟨h1, h2⟩))
theorem em_cs4 {idx nL : Nat} {y : MethodName} {cc : ByteArray} {rt2 : Option FieldType} {v0 v1 v2 v3 : Value} (hd : decode c pc = .ok (.invokestatic idx, 3)) (hm : mcp idx = some (y, cc, rt2, nL, 4, true)) : EM mb (d + 1) c rt pc ls (v3 :: v2 :: v1 :: v0 :: st) M P ↔ catB st 8 = true ∧ catB [v0, v1, v2, v3] nL = true ∧ EM mb d cc rt2 0 (lent [v0, v1, v2, v3] nL) [] M (mK mb (d + 1) c rt (pc + 3) ls st P) := by
  have h443 : idx ≠ 443 := by intro z; rw [z] at hm; cases hm
  by_cases hc : catS st ≤ 8 ∧ (lg_sl [v0, v1, v2, v3]).length ≤ nL
  · rw [show (catB st 8 = true) = True from eq_true (catB_iff.mpr hc.1), show (catB [v0, v1, v2, v3] nL = true) = True from eq_true (catB_sl.mpr hc.2), true_and, true_and]
    exact Ep.call (by simp only [mstep, hd, if_neg h443, mcall, hm]; simp [hc.1, hc.2])
  · rw [iff_false_intro (show ¬ (catB st 8 = true ∧ catB [v0, v1, v2, v3] nL = true ∧ _) from fun z => hc ⟨catB_iff.mp z.1, catB_sl.mp z.2.1⟩)]
    exact ep_none (by simp only [mstep, hd, if_neg h443, mcall, hm]; simp; exact fun h1 => Nat.lt_of_not_le (fun h2 => hc ⟨h1, h2⟩))
theorem em_cs5 {idx nL : Nat} {y : MethodName} {cc : ByteArray} {rt2 : Option FieldType} {v0 v1 v2 v3 v4 : Value} (hd : decode c pc = .ok (.invokestatic idx, 3)) (hm : mcp idx = some (y, cc, rt2, nL, 5, true)) : EM mb (d + 1) c rt pc ls (v4 :: v3 :: v2 :: v1 :: v0 :: st) M P ↔ catB st 8 = true ∧ catB [v0, v1, v2, v3, v4] nL = true ∧ EM mb d cc rt2 0 (lent [v0, v1, v2, v3, v4] nL) [] M (mK mb (d + 1) c rt (pc + 3) ls st P) := by
  have h443 : idx ≠ 443 := by intro z; rw [z] at hm; cases hm
  by_cases hc : catS st ≤ 8 ∧ (lg_sl [v0, v1, v2, v3, v4]).length ≤ nL
  · rw [show (catB st 8 = true) = True from eq_true (catB_iff.mpr hc.1), show (catB [v0, v1, v2, v3, v4] nL = true) = True from eq_true (catB_sl.mpr hc.2), true_and, true_and]
    exact Ep.call (by simp only [mstep, hd, if_neg h443, mcall, hm]; simp [hc.1, hc.2])
  · rw [iff_false_intro (show ¬ (catB st 8 = true ∧ catB [v0, v1, v2, v3, v4] nL = true ∧ _) from fun z => hc ⟨catB_iff.mp z.1, catB_sl.mp z.2.1⟩)]
    exact ep_none (by simp only [mstep, hd, if_neg h443, mcall, hm]; simp; exact fun h1 => Nat.lt_of_not_le (fun h2 => hc ⟨h1, h2⟩))
end
theorem lg_0 {x : Option Value} {l : LsT} : lg (x :: l) 0 = x := rfl
theorem lg_s {x : Option Value} {l : LsT} {i : Nat} : lg (x :: l) (i + 1) = lg l i := rfl
theorem ls1_0 {x : Option Value} {l : LsT} {v : Value} : ls1 (x :: l) 0 v = some v :: l := rfl
theorem ls1_1 {x : Option Value} {l : LsT} {v : Value} : ls1 (x :: l) 1 v = lcl x :: ls1 l 0 v := rfl
theorem ls1_s {x : Option Value} {l : LsT} {i : Nat} {v : Value} : ls1 (x :: l) (i + 2) v = x :: ls1 l (i + 1) v := rfl
theorem ls2_0 {x y : Option Value} {l : LsT} {v : Value} : ls2 (x :: y :: l) 0 v = some v :: none :: l := rfl
theorem ls2_1 {x : Option Value} {l : LsT} {v : Value} : ls2 (x :: l) 1 v = lcl x :: ls2 l 0 v := by cases l <;> rfl
theorem ls2_s {x : Option Value} {l : LsT} {i : Nat} {v : Value} : ls2 (x :: l) (i + 2) v = x :: ls2 l (i + 1) v := by cases l <;> rfl
theorem lcl_i {v : Int32} : lcl (some (.int v)) = some (.int v) := rfl
theorem lcl_r {v : Nat} : lcl (some (.ref v)) = some (.ref v) := rfl
theorem lcl_u : lcl (some .null) = some .null := rfl
theorem lcl_l {v : Int64} : lcl (some (.long v)) = none := rfl
theorem lcl_n : lcl none = none := rfl
theorem lent_i {v : Int32} {l : List Value} {n : Nat} : lent (.int v :: l) (n + 1) = some (.int v) :: lent l n := rfl
theorem lent_r {v : Nat} {l : List Value} {n : Nat} : lent (.ref v :: l) (n + 1) = some (.ref v) :: lent l n := rfl
theorem lent_u {l : List Value} {n : Nat} : lent (.null :: l) (n + 1) = some .null :: lent l n := rfl
theorem lent_l {v : Int64} {l : List Value} {n : Nat} : lent (.long v :: l) (n + 2) = some (.long v) :: none :: lent l n := rfl
theorem lent_0 : lent [] 0 = [] := rfl
theorem lent_s {n : Nat} : lent [] (n + 1) = none :: lent [] n := rfl
