set_option maxRecDepth 100000
/-! STRING CONSTANTS, as the start has them -/
def chI (t : String) (i : Nat) : Int32 := Int32.ofNat ((t.toList.map Char.toNat).getD i 0)
theorem sref_ok : ∀ x ∈ sStr, Cond.stringRef "KnowLocks$Reader" x.1 x.2 ∈ lw_tbl := List.forall_mem_cons.mpr ⟨(lw_at lw_m1 79 rfl), List.forall_mem_cons.mpr ⟨(lw_at lw_m1 80 rfl), List.forall_mem_cons.mpr ⟨(lw_at lw_m1 81 rfl), List.forall_mem_cons.mpr ⟨(lw_at lw_m1 82 rfl), List.forall_mem_cons.mpr ⟨(lw_at lw_m1 83 rfl), List.forall_mem_cons.mpr ⟨(lw_at lw_m1 84 rfl), List.forall_mem_cons.mpr ⟨(lw_at lw_m1 85 rfl), List.forall_mem_cons.mpr ⟨(lw_at lw_m1 86 rfl), List.forall_mem_cons.mpr ⟨(lw_at lw_m1 87 rfl), List.forall_mem_cons.mpr ⟨(lw_at lw_m1 88 rfl), List.forall_mem_cons.mpr ⟨(lw_at lw_m1 89 rfl), List.forall_mem_cons.mpr ⟨(lw_at lw_m1 90 rfl), List.forall_mem_cons.mpr ⟨(lw_at lw_m1 91 rfl), List.forall_mem_cons.mpr ⟨(lw_at lw_m1 92 rfl), List.forall_mem_cons.mpr ⟨(lw_at lw_m1 93 rfl), List.forall_mem_cons.mpr ⟨(lw_at lw_m1 94 rfl), List.forall_mem_cons.mpr ⟨(lw_at lw_m1 95 rfl), List.forall_mem_cons.mpr ⟨(lw_at lw_m1 96 rfl), List.forall_mem_cons.mpr ⟨(lw_at lw_m1 97 rfl), List.forall_mem_cons.mpr ⟨(lw_at lw_m1 98 rfl), List.forall_mem_cons.mpr ⟨(lw_at lw_m1 99 rfl), List.forall_mem_cons.mpr ⟨(lw_at lw_m1 100 rfl), List.forall_mem_cons.mpr ⟨(lw_at lw_m1 101 rfl), List.forall_mem_cons.mpr ⟨(lw_at lw_m1 102 rfl), List.forall_mem_cons.mpr ⟨(lw_at lw_m1 103 rfl), List.forall_mem_cons.mpr ⟨(lw_at lw_m1 104 rfl), List.forall_mem_cons.mpr ⟨(lw_at lw_m1 105 rfl), List.forall_mem_cons.mpr ⟨(lw_at lw_m1 106 rfl), List.forall_mem_cons.mpr ⟨(lw_at lw_m1 107 rfl), List.forall_mem_cons.mpr ⟨(lw_at lw_m1 108 rfl), List.forall_mem_cons.mpr ⟨(lw_at lw_m1 109 rfl), List.forall_mem_cons.mpr ⟨(lw_at lw_m1 110 rfl), List.forall_mem_cons.mpr ⟨(lw_at lw_m1 111 rfl), List.forall_mem_cons.mpr ⟨(lw_at lw_m1 112 rfl), List.forall_mem_cons.mpr ⟨(lw_at lw_m3 155 rfl), List.forall_mem_cons.mpr ⟨(lw_at lw_m6 61 rfl), List.forall_mem_cons.mpr ⟨(lw_at lw_m6 62 rfl), fun _ h => absurd h List.not_mem_nil⟩⟩⟩⟩⟩⟩⟩⟩⟩⟩⟩⟩⟩⟩⟩⟩⟩⟩⟩⟩⟩⟩⟩⟩⟩⟩⟩⟩⟩⟩⟩⟩⟩⟩⟩⟩⟩
/-- what the start says of a String constant -/
def sTm (idx : Nat) : Term := Term.string "KnowLocks$Reader" idx
def sVal (idx : Nat) : Term := .field (sTm idx) "java/lang/String" "value" "[B"
def sCs (x : Nat × String) : List Cond := [Cond.exactly (sTm x.1) "java/lang/String", Cond.eq (.field (sTm x.1) "java/lang/String" "coder" "B") (.int 0), Cond.arrayOf (sVal x.1) .byte, Cond.eq (.length (sVal x.1)) (.int (Int32.ofNat x.2.length))] ++ (List.range x.2.length).map (fun j => Cond.eq (.elem (sVal x.1) (.int (Int32.ofNat j))) (.int (chI x.2 j)))
theorem nl_str : (flatC (Jvm.Cond.and given_1 narrow_1)).drop 185 = sStr.flatMap sCs := by decide +kernel
theorem sCs_ok : ∀ x ∈ sStr, ∀ c ∈ sCs x, c ∈ flatC (Jvm.Cond.and given_1 narrow_1) := fun x hx c hc => List.mem_of_mem_drop (by rw [nl_str]; exact List.mem_flatMap.mpr ⟨x, hx, hc⟩)
theorem ch_ok : ∀ x ∈ sStr, x.2.length < 100 ∧ ∀ j, j < x.2.length → ((chI x.2 j &&& 255 = chI x.2 j) ∧ ((chI x.2 j).toUInt32 % 65536).toInt32 = chI x.2 j ∧ (chI x.2 j).toInt8.toInt32 = chI x.2 j ∧ ¬ chI x.2 j < 0) := by decide +kernel
theorem ch_pos : ∀ x ∈ sStr, 0 < x.2.length ∧ (x.2.toList.map Char.toNat).length = x.2.length := by decide +kernel
/-- a String constant lies there -/
def SAt (A : Nat → Prop) (U : State) (H : Heap) (a : Nat) (tx : String) : Prop := ∃ av : Nat, va_O "java/lang/String" a A U H ∧ va_OF "java/lang/String" "coder" "B" (.int 0) a A U H ∧ va_OF "java/lang/String" "value" "[B" (.ref av) a A U H ∧ va_T .byte av tx.length (fun j => .int (chI tx j)) A U H
theorem ZW.str {zs : Nat → Nat} {A : Nat → Prop} {U : State} {H : Heap} (h : ZW zs A U H) {i idx : Nat} {tx : String} (hi : sStr[i]? = some (idx, tx)) : SAt A U H (zs i) tx := by
  obtain ⟨-, -, z3, s0, a0, h1, h2, h3, h4, h5, h6⟩ := h
  have hs := flat_of_before _ h1
  have hmem : (idx, tx) ∈ sStr := List.mem_of_getElem? hi
  have hA : ∀ a : Nat, a < s0.heap.size → ¬ A a := fun a ha => (h5 a ha).1
  have hq : ∀ a : Nat, a < s0.heap.size → ¬ A a → H[a]? = s0.heap[a]? := fun a ha _ => (h5 a ha).2
  have hc : ∀ c ∈ sCs (idx, tx), c.before a0 s0 = true := fun c hc => hs c (sCs_ok _ hmem c hc)
  have hlen := (ch_ok _ hmem).1
  have c1 : (Cond.exactly (sTm idx) "java/lang/String").before a0 s0 = true := hc _ (by simp [sCs])
  have c2 : (Cond.eq (.field (sTm idx) "java/lang/String" "coder" "B") (.int 0)).before a0 s0 = true := hc _ (by simp [sCs])
  have c3 : (Cond.arrayOf (sVal idx) .byte).before a0 s0 = true := hc _ (by simp [sCs])
  have c4 : (Cond.eq (.length (sVal idx)) (.int (Int32.ofNat tx.length))).before a0 s0 = true := hc _ (by simp [sCs])
  have c5 : ∀ j, j < tx.length → (Cond.eq (.elem (sVal idx) (.int (Int32.ofNat j))) (.int (chI tx j))).before a0 s0 = true := fun j hj => hc _ (by
    unfold sCs
    exact List.mem_append_right _ (List.mem_map.mpr ⟨j, List.mem_range.mpr hj, rfl⟩))
  obtain ⟨a, c, cA, kA, q1, q2, q3, q4, q5, q6, -⟩ := Cond.exactly_spec (args := a0) (first := s0) (o := none) (s := s0) (idx := []) (t := sTm idx) (cls := "java/lang/String") c1
  obtain ⟨t, ht, hT⟩ := va_Tof (tm := sVal idx) (f := fun j => .int (chI tx j)) (A := A) (show tx.length < 2 ^ 31 by have : tx.length < 100 := hlen; omega) c3 (va_eqt c4) (fun j hj => va_eqt (c5 j hj)) hA
  have hR : vk_R "KnowLocks$Reader" idx tx a s0 := vk_R.of (h2 _ (sref_ok _ hmem)) q1
  have e1 := (hR.warm h3).2
  have e2 := (z3 i idx tx hi).2
  have e3 := Option.some.inj (e1.symm.trans e2)
  cases e3
  exact ⟨t, va_O.moved h3.alike (va_O.kept ⟨cA, q3, q5, by rw [q6]; exact q2, hA _ (Array.getElem?_eq_some_iff.mp q3).1⟩ hq), va_OF.moved h3.alike ((vk_OFof q1 (va_eqt c2) hA).kept hq), va_OF.moved h3.alike ((vk_OFof q1 ht hA).kept hq), va_T.moved h3.alike (hT.kept hq)⟩
/-- any of the String constants -/
theorem any_str {zs : Nat → Nat} {A : Nat → Prop} {s : State} {H : Heap} {locs : List Loc} {v : Nat} (hZ : ZW zs A s s.heap) (hS : va_S A s.heap H locs) (h : strB zs v = true) : va_Any "java/lang/String" s H v := by
  unfold strB at h
  obtain ⟨i, hi, h⟩ := List.any_eq_true.mp h
  have hi := List.mem_range.mp hi
  have e : zs i = v := by simpa using h
  subst e
  have hl : i < sStr.length := hi
  obtain ⟨x, hx⟩ : ∃ x, sStr[i]? = some x := ⟨_, List.getElem?_eq_getElem hl⟩
  obtain ⟨idx, tx⟩ := x
  obtain ⟨av, h1, -⟩ := hZ.str hx
  obtain ⟨cell, g1, g2, g3, -⟩ := h1.kept hS.2.1
  obtain ⟨k, hk, -⟩ := Vm.findClass_spec g3
  exact ⟨cell, g1, g2, ⟨k, hk⟩, fun comp hc => by cases hc.symm.trans g3; exact va_asg _ _⟩
