/-! THE MODEL's MEMORY: ints and longs by number of array (0: the object's own fields) and place -/
abbrev MM : Type := (Nat → Nat → Int32) × (Nat → Nat → Int64)
def rI (M : MM) (k i : Nat) : Int32 := M.1 k i
def rL (M : MM) (k i : Nat) : Int64 := M.2 k i
def wI (M : MM) (k i : Nat) (v : Int32) : MM := (fun a b => if a = k ∧ b = i then v else M.1 a b, M.2)
def wL (M : MM) (k i : Nat) (v : Int64) : MM := (M.1, fun a b => if a = k ∧ b = i then v else M.2 a b)
def inb (i : Int32) (n : Nat) : Bool := decide (¬ (i < 0 ∨ n ≤ i.toNatClampNeg))
theorem inb_in {i : Int32} {n : Nat} : inb i n = true ↔ vp_in i n := by unfold inb vp_in; exact decide_eq_true_iff
def mfv (mb : Nat) (M : MM) (k : Nat) : Value := match fvk k with
  | 0 => .int (rI M 0 k)
  | 1 => .int (rI M 0 k)
  | 2 => .long (rL M 0 k)
  | n + 3 => .ref (mb + (n + 1))
def mfs (mb : Nat) (M : MM) : List Value := (List.range 63).map (mfv mb M)
abbrev McT : Type := ClassId × ClassId × ClassId
def mce (mb : Nat) (cs : McT) (M : MM) (n : Nat) : va_E := if n = 0 then .inr (0, mfs mb M) else
  if atyp n = 2 then .inl (cs.2.2, alen n, .inr (.inl (rL M n))) else .inl (if atyp n = 0 then cs.1 else cs.2.1, alen n, .inl (rI M n))
def mws (mb : Nat) (cs : McT) (M : MM) : va_W := (List.range 47).map (fun n => (mb + n, mce mb cs M n))
def mtys (cs : McT) : List (ClassId × FieldType) := [(cs.1, .int), (cs.2.1, .boolean), (cs.2.2, .long)]
abbrev mCl : List vw_C := [(RX19, TX19, 63)]
def mA (mb : Nat) : Nat → Prop := fun q => mb ≤ q ∧ q < mb + 47
theorem mws_at {mb : Nat} {cs : McT} {M : MM} {n : Nat} (h : n < 47) : (mws mb cs M)[n]? = some (mb + n, mce mb cs M n) := by
  unfold mws
  rw [List.getElem?_map, List.getElem?_range h]
  rfl
theorem mfs_at {mb : Nat} {M : MM} {k : Nat} (h : k < 63) : (mfs mb M)[k]? = some (mfv mb M k) := by
  unfold mfs
  rw [List.getElem?_map, List.getElem?_range h]
  rfl
theorem mws_D (mb : Nat) (cs : McT) (M : MM) : va_D (mA mb) (mws mb cs M) := by
  have key : ∀ (k : Nat) (q : Nat × va_E), (mws mb cs M)[k]? = some q → k < 47 ∧ q.1 = mb + k := by
    intro k q h
    have hk : k < 47 := by
      have := (List.getElem?_eq_some_iff.mp h).1
      simpa [mws] using this
    rw [mws_at hk] at h
    cases h
    exact ⟨hk, rfl⟩
  refine ⟨fun i j x y hi hj hxy => ?_, fun k q hk => ?_⟩
  · have h1 := key i x hi
    have h2 := key j y hj
    omega
  · have h1 := key k q hk
    unfold mA
    omega
theorem wI_self {M : MM} {k i : Nat} {v : Int32} : rI (wI M k i v) k = upd (rI M k) i v := by
  funext j
  simp [rI, wI, upd]
theorem wI_off {M : MM} {k i a : Nat} {v : Int32} (h : a ≠ k) : rI (wI M k i v) a = rI M a := by
  funext j
  simp [rI, wI, h]
theorem wI_L {M : MM} {k i a : Nat} {v : Int32} : rL (wI M k i v) a = rL M a := rfl
theorem wL_self {M : MM} {k i : Nat} {v : Int64} : rL (wL M k i v) k = vp_updL (rL M k) i v := by
  funext j
  simp [rL, wL, vp_updL]
theorem wL_off {M : MM} {k i a : Nat} {v : Int64} (h : a ≠ k) : rL (wL M k i v) a = rL M a := by
  funext j
  simp [rL, wL, h]
theorem wL_I {M : MM} {k i a : Nat} {v : Int64} : rI (wL M k i v) a = rI M a := rfl
theorem mws_set {mb : Nat} {cs : McT} {M M' : MM} {n : Nat} (hn : n < 47) (h : ∀ a, a < 47 → a ≠ n → mce mb cs M' a = mce mb cs M a) : (mws mb cs M).set n (mb + n, mce mb cs M' n) = mws mb cs M' := by
  apply List.ext_getElem?
  intro i
  by_cases hi : i < 47
  · rw [mws_at hi]
    by_cases hin : i = n
    · subst hin
      rw [List.getElem?_set_self (by simpa [mws] using hi)]
    · rw [List.getElem?_set_ne (Ne.symm hin), mws_at hi, h i hi hin]
  · have h1 : (mws mb cs M').length ≤ i := by simp [mws]; omega
    have h2 : ((mws mb cs M).set n (mb + n, mce mb cs M' n)).length ≤ i := by simp [mws]; omega
    rw [List.getElem?_eq_none h1, List.getElem?_eq_none h2]
theorem mfs_set {mb : Nat} {M M' : MM} {k : Nat} (hk : k < 63) (h : ∀ a, a < 63 → a ≠ k → mfv mb M' a = mfv mb M a) : (mfs mb M).set k (mfv mb M' k) = mfs mb M' := by
  apply List.ext_getElem?
  intro i
  by_cases hi : i < 63
  · rw [mfs_at hi]
    by_cases hin : i = k
    · subst hin
      rw [List.getElem?_set_self (by simpa [mfs] using hi)]
    · rw [List.getElem?_set_ne (Ne.symm hin), mfs_at hi, h i hi hin]
  · have h1 : (mfs mb M').length ≤ i := by simp [mfs]; omega
    have h2 : ((mfs mb M).set k (mfv mb M' k)).length ≤ i := by simp [mfs]; omega
    rw [List.getElem?_eq_none h1, List.getElem?_eq_none h2]
theorem mfv_wI {mb : Nat} {M : MM} {n i k : Nat} {v : Int32} (h : n ≠ 0 ∨ k ≠ i) : mfv mb (wI M n i v) k = mfv mb M k := by
  have h1 : rI (wI M n i v) 0 k = rI M 0 k := by
    by_cases hn : n = 0
    · subst hn
      rw [wI_self]
      rcases h with h | h
      · exact absurd rfl h
      · exact pk_un h
    · rw [wI_off (Ne.symm hn)]
  unfold mfv
  rw [h1, wI_L]
theorem mfv_wL {mb : Nat} {M : MM} {n i k : Nat} {v : Int64} (h : n ≠ 0 ∨ k ≠ i) : mfv mb (wL M n i v) k = mfv mb M k := by
  have h1 : rL (wL M n i v) 0 k = rL M 0 k := by
    by_cases hn : n = 0
    · subst hn
      rw [wL_self]
      rcases h with h | h
      · exact absurd rfl h
      · exact pk_uLn h
    · rw [wL_off (Ne.symm hn)]
  unfold mfv
  rw [h1, wL_I]
theorem mfs_wI {mb : Nat} {M : MM} {n i : Nat} {v : Int32} (h : n ≠ 0) : mfs mb (wI M n i v) = mfs mb M := List.map_congr_left (fun k _ => mfv_wI (Or.inl h))
theorem mfs_wL {mb : Nat} {M : MM} {n i : Nat} {v : Int64} (h : n ≠ 0) : mfs mb (wL M n i v) = mfs mb M := List.map_congr_left (fun k _ => mfv_wL (Or.inl h))
theorem mws_wI {mb : Nat} {cs : McT} {M : MM} {n i : Nat} {v : Int32} (h0 : n ≠ 0) (hn : n < 47) (ht : atyp n ≠ 2) : (mws mb cs M).set n (mb + n, .inl (if atyp n = 0 then cs.1 else cs.2.1, alen n, .inl (upd (rI M n) i v))) = mws mb cs (wI M n i v) := by
  have e : mce mb cs (wI M n i v) n = .inl (if atyp n = 0 then cs.1 else cs.2.1, alen n, .inl (upd (rI M n) i v)) := by
    unfold mce
    rw [if_neg h0, if_neg ht, wI_self]
  rw [← e]
  refine mws_set hn (fun a _ hne => ?_)
  unfold mce
  rw [wI_L, wI_off hne, mfs_wI h0]
theorem mws_wL {mb : Nat} {cs : McT} {M : MM} {n i : Nat} {v : Int64} (h0 : n ≠ 0) (hn : n < 47) (ht : atyp n = 2) : (mws mb cs M).set n (mb + n, .inl (cs.2.2, alen n, .inr (.inl (vp_updL (rL M n) i v)))) = mws mb cs (wL M n i v) := by
  have e : mce mb cs (wL M n i v) n = .inl (cs.2.2, alen n, .inr (.inl (vp_updL (rL M n) i v))) := by
    unfold mce
    rw [if_neg h0, if_pos ht, wL_self]
  rw [← e]
  refine mws_set hn (fun a _ hne => ?_)
  unfold mce
  rw [wL_I, wL_off hne, mfs_wL h0]
theorem mws_fI {mb : Nat} {cs : McT} {M : MM} {k : Nat} {v : Int32} (hk : k < 63) (hf : fvk k = 0 ∨ fvk k = 1) : (mws mb cs M).set 0 (mb, .inr (0, (mfs mb M).set k (.int v))) = mws mb cs (wI M 0 k v) := by
  have e1 : mfv mb (wI M 0 k v) k = .int v := by
    unfold mfv
    rw [wI_self, pk_us]
    rcases hf with h | h <;> rw [h]
  have e : mce mb cs (wI M 0 k v) 0 = .inr (0, (mfs mb M).set k (.int v)) := by
    unfold mce
    rw [if_pos rfl, ← e1, mfs_set hk (fun a _ hne => mfv_wI (Or.inr hne))]
  rw [← e]
  refine mws_set (mb := mb) (by decide) (fun a _ hne => ?_)
  unfold mce
  rw [wI_L, wI_off hne, if_neg hne, if_neg hne]
theorem mws_fL {mb : Nat} {cs : McT} {M : MM} {k : Nat} {v : Int64} (hk : k < 63) (hf : fvk k = 2) : (mws mb cs M).set 0 (mb, .inr (0, (mfs mb M).set k (.long v))) = mws mb cs (wL M 0 k v) := by
  have e1 : mfv mb (wL M 0 k v) k = .long v := by
    unfold mfv
    rw [wL_self, pk_uLs, hf]
  have e : mce mb cs (wL M 0 k v) 0 = .inr (0, (mfs mb M).set k (.long v)) := by
    unfold mce
    rw [if_pos rfl, ← e1, mfs_set hk (fun a _ hne => mfv_wL (Or.inr hne))]
  rw [← e]
  refine mws_set (mb := mb) (by decide) (fun a _ hne => ?_)
  unfold mce
  rw [wL_I, wL_off hne, if_neg hne, if_neg hne]
/-! ONE STEP of a method of the Model's -/
def mput (M : MM) (k : Nat) (v : Value) : Option MM := match fvk k, v with
  | 0, .int x => some (wI M 0 k x)
  | 1, .int x => if x = 0 ∨ x = 1 then some (wI M 0 k x) else none
  | 2, .long x => some (wL M 0 k x)
  | _, _ => none
/-- the number of an array by its address -/
def mid (mb a : Nat) : Option Nat := if mb < a ∧ a < mb + 47 then some (a - mb) else none
def mald (mb t : Nat) (st : List Value) (M : MM) : Option (List Value) := match st with
  | .int i :: .ref a :: r => match mid mb a with
    | some n => if atyp n = t ∧ inb i (alen n) = true then some ((if t = 2 then .long (rL M n i.toNatClampNeg) else .int (rI M n i.toNatClampNeg)) :: r) else none
    | none => none
  | _ => none
def mast (mb t : Nat) (st : List Value) (M : MM) : Option (List Value × MM) := match st with
  | .int x :: .int i :: .ref a :: r => match mid mb a with
    | some n => if t ≠ 2 ∧ atyp n = t ∧ inb i (alen n) = true ∧ (t = 1 → x = 0 ∨ x = 1) then some (r, wI M n i.toNatClampNeg x) else none
    | none => none
  | .long x :: .int i :: .ref a :: r => match mid mb a with
    | some n => if t = 2 ∧ atyp n = t ∧ inb i (alen n) = true then some (r, wL M n i.toNatClampNeg x) else none
    | none => none
  | _ => none
abbrev MK : Type := ByteArray × Option FieldType
abbrev MF : Type := MK × Nat × LsT × List Value × MM
abbrev MR : Type := Option Value × MM
def catS (st : List Value) : Nat := (st.map fun v => v.category).sum
def mcall (mb : Nat) (c : MK) (pc : Nat) (ls : LsT) (st : List Value) (M : MM) (idx : Nat) (vi : Bool) : Option (MR ⊕ MF ⊕ (MF × (MR → MF))) := match mcp idx with
  | some (_, cc, rt, nL, n, isS) =>
    if isS = vi then none else
    let k := if isS then n else n + 1
    if k ≤ st.length ∧ catS (st.drop k) ≤ 8 ∧ (isS = false → (st.drop n).head? = some (.ref mb)) ∧ (lg_sl (st.take k).reverse).length ≤ nL then
      some (.inr (.inr (((cc, rt), 0, lent (st.take k).reverse nL, [], M), fun q => (c, pc + 3, ls, q.1.toList ++ st.drop k, q.2))))
    else none
  | none => none
def mret (rt : Option FieldType) (st : List Value) : Option (Option Value) := match rt, st with
  | some .int, [.int v] => some (some (.int v))
  | some .boolean, [.int v] => if v = 0 ∨ v = 1 then some (some (.int v)) else none
  | _, _ => none
def mstep (mb : Nat) (f : MF) : Option (MR ⊕ MF ⊕ (MF × (MR → MF))) := match f with
  | (c, pc, ls, st, M) => match decode c.1 pc with
    | .error _ => none
    | .ok (i, len) => match i with
      | .getfield idx => if len = 3 then (match st with
        | .ref a :: r => if a = mb then (fcp idx).map (fun k => .inr (.inl (c, pc + 3, ls, mfv mb M k :: r, M))) else none
        | _ => none) else none
      | .putfield idx => if len = 3 then (match st with
        | v :: .ref a :: r => if a = mb then (fcp idx).bind (fun k => (mput M k v).map (fun M' => .inr (.inl (c, pc + 3, ls, r, M')))) else none
        | _ => none) else none
      | .iaload => if len = 1 then (mald mb 0 st M).map (fun r => .inr (.inl (c, pc + 1, ls, r, M))) else none
      | .baload => if len = 1 then (mald mb 1 st M).map (fun r => .inr (.inl (c, pc + 1, ls, r, M))) else none
      | .laload => if len = 1 then (mald mb 2 st M).map (fun r => .inr (.inl (c, pc + 1, ls, r, M))) else none
      | .iastore => if len = 1 then (mast mb 0 st M).map (fun r => .inr (.inl (c, pc + 1, ls, r.1, r.2))) else none
      | .bastore => if len = 1 then (mast mb 1 st M).map (fun r => .inr (.inl (c, pc + 1, ls, r.1, r.2))) else none
      | .lastore => if len = 1 then (mast mb 2 st M).map (fun r => .inr (.inl (c, pc + 1, ls, r.1, r.2))) else none
      | .ldc2_w idx => if len = 3 then (kcp idx).map (fun v => .inr (.inl (c, pc + 3, ls, .long v :: st, M))) else none
      | .invokevirtual idx => if len = 3 then mcall mb c pc ls st M idx true else none
      | .invokestatic idx => if len = 3 then (if idx = 443 then (match st with
        | .int y :: .int x :: r => if catS r ≤ 8 then some (.inr (.inl (c, pc + 3, ls, .int (if y < x then y else x) :: r, M))) else none
        | _ => none) else mcall mb c pc ls st M idx false) else none
      | .ireturn => if len = 1 then (mret c.2 st).map (fun v => .inl (v, M)) else none
      | .return_ => if len = 1 then (match c.2, st with
        | none, [] => some (.inl (none, M))
        | _, _ => none) else none
      | i => (stp i len pc ls st).map (fun q => .inr (.inl (c, q.1, q.2.1, q.2.2, M)))
