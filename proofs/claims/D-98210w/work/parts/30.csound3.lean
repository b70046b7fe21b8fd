/-! STEPS WITHIN A METHOD of the component's: stores, new cells, casts, constants -/
theorem qs_15 : Cond.fieldLink "java/util/ArrayList" 15 "java/util/ArrayList" "EMPTY_ELEMENTDATA" "[Ljava/lang/Object;" ∈ lw_all := (lw_g (lw_at lw_m1 229 rfl) rfl)
theorem qs_39 : Cond.fieldLink "java/util/ArrayList" 39 "java/util/ArrayList" "DEFAULTCAPACITY_EMPTY_ELEMENTDATA" "[Ljava/lang/Object;" ∈ lw_all := (lw_g (lw_at lw_m2 220 rfl) rfl)
theorem qa_I : Cond.arrayClass .int ∈ lw_all := (lw_g (lw_at lw_m1 164 rfl) rfl)
theorem qa_J : Cond.arrayClass .long ∈ lw_all := (lw_g (lw_at lw_m1 165 rfl) rfl)
theorem qa_Z : Cond.arrayClass .boolean ∈ lw_all := (lw_g (lw_at lw_m1 208 rfl) rfl)
theorem qc_I : Cond.castable "[I" "java/lang/Object" ∈ nwl := nw_mem (lw_at lw_m12 108 rfl) rfl
/-- every class can be cast to Object -/
theorem qo_0 : Cond.castable (cNm 0) "java/lang/Object" ∈ nwl := nw_mem (lw_at lw_m12 64 rfl) rfl
theorem qo_1 : Cond.castable (cNm 1) "java/lang/Object" ∈ nwl := nw_mem (lw_at lw_m12 65 rfl) rfl
theorem qo_2 : Cond.castable (cNm 2) "java/lang/Object" ∈ nwl := nw_mem (lw_at lw_m12 66 rfl) rfl
theorem qo_3 : Cond.castable (cNm 3) "java/lang/Object" ∈ nwl := nw_mem (lw_at lw_m12 67 rfl) rfl
theorem qo_4 : Cond.castable (cNm 4) "java/lang/Object" ∈ nwl := nw_mem (lw_at lw_m12 69 rfl) rfl
theorem qo_5 : Cond.castable (cNm 5) "java/lang/Object" ∈ nwl := nw_mem (lw_at lw_m12 62 rfl) rfl
theorem qo_6 : Cond.castable (cNm 6) "java/lang/Object" ∈ nwl := nw_mem (lw_at lw_m12 75 rfl) rfl
theorem qo_7 : Cond.castable (cNm 7) "java/lang/Object" ∈ nwl := nw_mem (lw_at lw_m12 72 rfl) rfl
theorem qo_8 : Cond.castable (cNm 8) "java/lang/Object" ∈ nwl := nw_mem (lw_at lw_m12 73 rfl) rfl
theorem qo_9 : Cond.castable (cNm 9) "java/lang/Object" ∈ nwl := nw_mem (lw_at lw_m12 70 rfl) rfl
theorem qo_10 : Cond.castable (cNm 10) "java/lang/Object" ∈ nwl := nw_mem (lw_at lw_m12 71 rfl) rfl
theorem qo_11 : Cond.castable (cNm 11) "java/lang/Object" ∈ nwl := nw_mem (lw_at lw_m12 74 rfl) rfl
theorem qo_12 : Cond.castable (cNm 12) "java/lang/Object" ∈ nwl := nw_mem (lw_at lw_m12 86 rfl) rfl
theorem qo_13 : Cond.castable (cNm 13) "java/lang/Object" ∈ nwl := nw_mem (lw_at lw_m12 82 rfl) rfl
theorem qo_14 : Cond.castable (cNm 14) "java/lang/Object" ∈ nwl := nw_mem (lw_at lw_m12 83 rfl) rfl
theorem qo_15 : Cond.castable (cNm 15) "java/lang/Object" ∈ nwl := nw_mem (lw_at lw_m12 84 rfl) rfl
theorem qo_16 : Cond.castable (cNm 16) "java/lang/Object" ∈ nwl := nw_mem (lw_at lw_m12 85 rfl) rfl
theorem qo_17 : Cond.castable (cNm 17) "java/lang/Object" ∈ nwl := nw_mem (lw_at lw_m12 89 rfl) rfl
theorem qo_18 : Cond.castable (cNm 18) "java/lang/Object" ∈ nwl := nw_mem (lw_at lw_m12 88 rfl) rfl
theorem qo_19 : Cond.castable (cNm 19) "java/lang/Object" ∈ nwl := nw_mem (lw_at lw_m12 90 rfl) rfl
theorem qo_20 : Cond.castable (cNm 20) "java/lang/Object" ∈ nwl := nw_mem (lw_at lw_m12 91 rfl) rfl
theorem qo_21 : Cond.castable (cNm 21) "java/lang/Object" ∈ nwl := nw_mem (lw_at lw_m12 93 rfl) rfl
theorem qo_22 : Cond.castable (cNm 22) "java/lang/Object" ∈ nwl := nw_mem (lw_at lw_m12 94 rfl) rfl
theorem qo_23 : Cond.castable (cNm 23) "java/lang/Object" ∈ nwl := nw_mem (lw_at lw_m12 92 rfl) rfl
theorem qo_24 : Cond.castable (cNm 24) "java/lang/Object" ∈ nwl := nw_mem (lw_at lw_m12 97 rfl) rfl
theorem qo_25 : Cond.castable (cNm 25) "java/lang/Object" ∈ nwl := nw_mem (lw_at lw_m12 98 rfl) rfl
theorem qo_26 : Cond.castable (cNm 26) "java/lang/Object" ∈ nwl := nw_mem (lw_at lw_m12 95 rfl) rfl
theorem qo_27 : Cond.castable (cNm 27) "java/lang/Object" ∈ nwl := nw_mem (lw_at lw_m12 96 rfl) rfl
theorem qo_28 : Cond.castable (cNm 28) "java/lang/Object" ∈ nwl := nw_mem (lw_at lw_m12 99 rfl) rfl
theorem qo_29 : Cond.castable (cNm 29) "java/lang/Object" ∈ nwl := nw_mem (lw_at lw_m12 100 rfl) rfl
theorem qo_30 : Cond.castable (cNm 30) "java/lang/Object" ∈ nwl := nw_mem (lw_at lw_m12 63 rfl) rfl
theorem qo_31 : Cond.castable (cNm 31) "java/lang/Object" ∈ nwl := nw_mem (lw_at lw_m12 76 rfl) rfl
theorem qo_32 : Cond.castable (cNm 32) "java/lang/Object" ∈ nwl := nw_mem (lw_at lw_m12 78 rfl) rfl
theorem qo_33 : Cond.castable (cNm 33) "java/lang/Object" ∈ nwl := nw_mem (lw_at lw_m12 77 rfl) rfl
theorem qo_34 : Cond.castable (cNm 34) "java/lang/Object" ∈ nwl := nw_mem (lw_at lw_m12 79 rfl) rfl
theorem qo_35 : Cond.castable (cNm 35) "java/lang/Object" ∈ nwl := nw_mem (lw_at lw_m12 81 rfl) rfl
theorem qo_36 : Cond.castable (cNm 36) "java/lang/Object" ∈ nwl := nw_mem (lw_at lw_m12 68 rfl) rfl
theorem qo_37 : Cond.castable (cNm 37) "java/lang/Object" ∈ nwl := nw_mem (lw_at lw_m12 87 rfl) rfl
theorem qo_38 : Cond.castable (cNm 38) "java/lang/Object" ∈ nwl := nw_mem (lw_at lw_m12 101 rfl) rfl
theorem qo_39 : Cond.castable (cNm 39) "java/lang/Object" ∈ nwl := nw_mem (lw_at lw_m12 87 rfl) rfl
theorem cast_obj (ci : Nat) (q : vw_C) (h : cCl[ci]? = some q) : Cond.castable (cNm ci) "java/lang/Object" ∈ nwl := by
  match ci, h with
  | 0, _ => exact qo_0
  | 1, _ => exact qo_1
  | 2, _ => exact qo_2
  | 3, _ => exact qo_3
  | 4, _ => exact qo_4
  | 5, _ => exact qo_5
  | 6, _ => exact qo_6
  | 7, _ => exact qo_7
  | 8, _ => exact qo_8
  | 9, _ => exact qo_9
  | 10, _ => exact qo_10
  | 11, _ => exact qo_11
  | 12, _ => exact qo_12
  | 13, _ => exact qo_13
  | 14, _ => exact qo_14
  | 15, _ => exact qo_15
  | 16, _ => exact qo_16
  | 17, _ => exact qo_17
  | 18, _ => exact qo_18
  | 19, _ => exact qo_19
  | 20, _ => exact qo_20
  | 21, _ => exact qo_21
  | 22, _ => exact qo_22
  | 23, _ => exact qo_23
  | 24, _ => exact qo_24
  | 25, _ => exact qo_25
  | 26, _ => exact qo_26
  | 27, _ => exact qo_27
  | 28, _ => exact qo_28
  | 29, _ => exact qo_29
  | 30, _ => exact qo_30
  | 31, _ => exact qo_31
  | 32, _ => exact qo_32
  | 33, _ => exact qo_33
  | 34, _ => exact qo_34
  | 35, _ => exact qo_35
  | 36, _ => exact qo_36
  | 37, _ => exact qo_37
  | 38, _ => exact qo_38
  | 39, _ => exact qo_39
  | n + 40, h => cases h
section
variable {l : Launch} {D : va_G} {ac : Nat → ClassId} {A : Nat → Prop} {zs : Nat → Nat} {J : CJ}
variable {p : Program} {e : Env} {d nc ns : Nat} {s : State} {m : MethodId} {args : Array Value} {below : List Frame} {meth : Method} {c : Code} {Q : State → Prop} {nL : Nat} {H : Heap} {locs : List Loc} {cells slots : Nat} {LS : Array Slot}
theorem any_obj (hN : NW s) (hK : va_K D cCl (cTys ac) s) {σ : CM} (hP : HP D ac A σ H) {v ci : Nat} {fs : List Value} (hv : gC σ v = some (.inl (ci, fs))) {E : String} (h : cNm ci = E ∨ Cond.castable (cNm ci) E ∈ nwl) : va_Any E s H v := by
  obtain ⟨q, hc, -⟩ := hP.obj hv
  have hg := getD_some hc
  have hn : cNm ci = q.1 := by unfold cNm; rw [hg]
  obtain ⟨cell, r1, r2, h2⟩ := hP.recv hK hv hc
  obtain ⟨kC, hkC, -⟩ := Vm.findClass_spec h2
  refine ⟨cell, r1, r2, ⟨kC, hkC⟩, fun comp h1 => ?_⟩
  rcases h with h | h
  · rw [← h, hn] at h1
    cases h1.symm.trans h2
    exact va_asg _ _
  · obtain ⟨a, b, e1, e2, e3⟩ := Cond.castable_spec (hN.1 _ h)
    rw [hn] at e1
    cases e1.symm.trans h2
    cases e2.symm.trans h1
    exact e3
theorem any_arr (hN : NW s) (hK : va_K D cCl (cTys ac) s) {σ : CM} (hP : HP D ac A σ H) {v : Nat} {x : vp_A} (hv : gC σ v = some (.inr (0, x))) : va_Any "java/lang/Object" s H v := by
  have hat : H[v]? = some (vp_cell (ac 0) x) := (hP.at hv (by rfl)).1
  have hR : s.vm.findClass ("[" ++ FieldType.int.toString) = some (ac 0) := (hK.2 0 _ (cTys_at (by decide))).2
  obtain ⟨kC, hkC, -⟩ := Vm.findClass_spec hR
  have hcls : (vp_cell (ac 0) x).cls = ac 0 := by unfold vp_cell; split <;> rfl
  have hvm : (vp_cell (ac 0) x).vm.isStatics = false := by unfold vp_cell; split <;> rfl
  refine ⟨_, hat, hvm, ⟨kC, by rw [hcls]; exact hkC⟩, fun comp h1 => ?_⟩
  obtain ⟨a, b, e1, e2, e3⟩ := Cond.castable_spec (hN.1 _ qc_I)
  have e1 : s.vm.findClass ("[" ++ FieldType.int.toString) = some a := e1
  cases e1.symm.trans hR
  cases e2.symm.trans h1
  rw [hcls]
  exact e3
end
