/-! CALLS THAT MAY THROW (printed by gen/cthr.py) -/
set_option maxRecDepth 100000
def okCt (x : CeT) : Prop := x.2.2.1 = 0 ∧ x.2.2.2.1 = some 1 ∧ Cond.methodLink (oN x.1) x.2.1 x.2.2.2.2.1 ∈ lw_all ∧ Cond.instanceMethod x.2.2.2.2.1 ∈ lw_all ∧ Cond.selects "KnowLocks$Reader" x.2.2.2.2.1 x.2.2.2.2.1 ∈ lw_all ∧ Cond.initialized "KnowLocks$Reader" ∈ lw_all ∧ Cond.code x.2.2.2.2.1 x.2.2.2.2.2.1 x.2.2.2.2.2.2.2.2.1 x.2.2.2.2.2.2.1 ∈ lw_all ∧ x.2.2.2.2.1.cls = "KnowLocks$Reader" ∧ ∃ n, x.2.2.2.2.2.2.2.2.2 = n + 1 ∧ okD x.2.2.2.2.1 n
theorem ct_0_131 : okCt (0, 131, 0, some 1, ⟨"KnowLocks$Reader", "quarter", "()LKnowLocks$Quarter;"⟩, prog_34_method_16_code, some (.object "KnowLocks$Quarter"), 1, 1, 1) := ⟨rfl, rfl, (lw_g (lw_at lw_m3 137 rfl) rfl), (lw_g (lw_at lw_m3 138 rfl) rfl), (lw_g (lw_at lw_m3 139 rfl) rfl), (lw_g (lw_at lw_m1 2 rfl) rfl), (lw_g (lw_at lw_m3 140 rfl) rfl), rfl, 0, rfl, by decide, by decide, by decide +kernel⟩
theorem ct_0_146 : okCt (0, 146, 0, some 1, ⟨"KnowLocks$Reader", "history", "(LKnowLocks$Quarter;)Ljava/util/ArrayList;"⟩, prog_34_method_29_code, some (.object "java/util/ArrayList"), 1, 5, 2) := ⟨rfl, rfl, (lw_g (lw_at lw_m6 55 rfl) rfl), (lw_g (lw_at lw_m6 56 rfl) rfl), (lw_g (lw_at lw_m6 57 rfl) rfl), (lw_g (lw_at lw_m1 2 rfl) rfl), (lw_g (lw_at lw_m6 58 rfl) rfl), rfl, 1, rfl, by decide, by decide, by decide +kernel⟩
theorem ct_1_199 : okCt (1, 199, 0, some 1, ⟨"KnowLocks$Reader", "hand", "()V"⟩, prog_34_method_21_code, none, 1, 6, 1) := ⟨rfl, rfl, (lw_g (lw_at lw_m4 32 rfl) rfl), (lw_g (lw_at lw_m4 34 rfl) rfl), qs2, (lw_g (lw_at lw_m1 2 rfl) rfl), (lw_g (lw_at lw_m4 35 rfl) rfl), rfl, 0, rfl, by decide, by decide, by decide +kernel⟩
theorem ct_1_201 : okCt (1, 201, 0, some 1, ⟨"KnowLocks$Reader", "door", "()V"⟩, prog_34_method_22_code, none, 1, 5, 1) := ⟨rfl, rfl, (lw_g (lw_at lw_m5 80 rfl) rfl), (lw_g (lw_at lw_m5 82 rfl) rfl), qs16, (lw_g (lw_at lw_m1 2 rfl) rfl), (lw_g (lw_at lw_m5 83 rfl) rfl), rfl, 0, rfl, by decide, by decide, by decide +kernel⟩
theorem ct_1_203 : okCt (1, 203, 0, some 1, ⟨"KnowLocks$Reader", "street", "()V"⟩, prog_34_method_23_code, none, 1, 5, 1) := ⟨rfl, rfl, (lw_g (lw_at lw_m5 105 rfl) rfl), (lw_g (lw_at lw_m5 107 rfl) rfl), qs17, (lw_g (lw_at lw_m1 2 rfl) rfl), (lw_g (lw_at lw_m5 108 rfl) rfl), rfl, 0, rfl, by decide, by decide, by decide +kernel⟩
theorem ct_1_205 : okCt (1, 205, 0, some 1, ⟨"KnowLocks$Reader", "gossip", "()V"⟩, prog_34_method_24_code, none, 1, 1, 1) := ⟨rfl, rfl, (lw_g (lw_at lw_m5 114 rfl) rfl), (lw_g (lw_at lw_m5 116 rfl) rfl), qs19, (lw_g (lw_at lw_m1 2 rfl) rfl), (lw_g (lw_at lw_m5 117 rfl) rfl), rfl, 0, rfl, by decide, by decide, by decide +kernel⟩
theorem ct_1_207 : okCt (1, 207, 0, some 1, ⟨"KnowLocks$Reader", "guard", "()V"⟩, prog_34_method_25_code, none, 1, 1, 1) := ⟨rfl, rfl, (lw_g (lw_at lw_m5 118 rfl) rfl), (lw_g (lw_at lw_m5 120 rfl) rfl), qs20, (lw_g (lw_at lw_m1 2 rfl) rfl), (lw_g (lw_at lw_m5 121 rfl) rfl), rfl, 0, rfl, by decide, by decide, by decide +kernel⟩
theorem ct_1_209 : okCt (1, 209, 0, some 1, ⟨"KnowLocks$Reader", "learn", "()V"⟩, prog_34_method_27_code, none, 1, 1, 1) := ⟨rfl, rfl, (lw_g (lw_at lw_m5 122 rfl) rfl), (lw_g (lw_at lw_m5 124 rfl) rfl), qs21, (lw_g (lw_at lw_m1 2 rfl) rfl), (lw_g (lw_at lw_m5 125 rfl) rfl), rfl, 0, rfl, by decide, by decide, by decide +kernel⟩
theorem ct_1_211 : okCt (1, 211, 0, some 1, ⟨"KnowLocks$Reader", "feel", "()V"⟩, prog_34_method_28_code, none, 1, 1, 1) := ⟨rfl, rfl, (lw_g (lw_at lw_m6 39 rfl) rfl), (lw_g (lw_at lw_m6 41 rfl) rfl), qs32, (lw_g (lw_at lw_m1 2 rfl) rfl), (lw_g (lw_at lw_m6 42 rfl) rfl), rfl, 0, rfl, by decide, by decide, by decide +kernel⟩
theorem ct_1_213 : okCt (1, 213, 0, some 1, ⟨"KnowLocks$Reader", "sign", "(I)V"⟩, prog_34_method_13_code, none, 1, 2, 2) := ⟨rfl, rfl, (lw_g (lw_at lw_m5 191 rfl) rfl), (lw_g (lw_at lw_m5 193 rfl) rfl), qs30, (lw_g (lw_at lw_m1 2 rfl) rfl), (lw_g (lw_at lw_m5 194 rfl) rfl), rfl, 1, rfl, by decide, by decide, by decide +kernel⟩
theorem ct_1_216 : okCt (1, 216, 0, some 1, ⟨"KnowLocks$Reader", "takeWord", "(Ljava/lang/String;)V"⟩, prog_34_method_31_code, none, 1, 2, 2) := ⟨rfl, rfl, (lw_g (lw_at lw_m4 146 rfl) rfl), (lw_g (lw_at lw_m4 148 rfl) rfl), qs9, (lw_g (lw_at lw_m1 2 rfl) rfl), (lw_g (lw_at lw_m4 149 rfl) rfl), rfl, 1, rfl, by decide, by decide, by decide +kernel⟩
theorem ct_1_220 : okCt (1, 220, 0, some 1, ⟨"KnowLocks$Reader", "number", "(II)I"⟩, prog_34_method_14_code, some .int, 1, 3, 3) := ⟨rfl, rfl, (lw_g (lw_at lw_m4 154 rfl) rfl), (lw_g (lw_at lw_m4 156 rfl) rfl), qs11, (lw_g (lw_at lw_m1 2 rfl) rfl), (lw_g (lw_at lw_m4 157 rfl) rfl), rfl, 2, rfl, by decide, by decide, by decide +kernel⟩
theorem ct_1_244 : okCt (1, 244, 0, some 1, ⟨"KnowLocks$Reader", "newName", "()J"⟩, prog_34_method_18_code, some .long, 1, 1, 1) := ⟨rfl, rfl, (lw_g (lw_at lw_m4 102 rfl) rfl), (lw_g (lw_at lw_m4 104 rfl) rfl), qs5, (lw_g (lw_at lw_m1 2 rfl) rfl), (lw_g (lw_at lw_m4 105 rfl) rfl), rfl, 0, rfl, by decide, by decide, by decide +kernel⟩
theorem ct_1_248 : okCt (1, 248, 0, some 1, ⟨"KnowLocks$Reader", "toldHand", "(LKnowLocks$Quarter;)I"⟩, prog_34_method_19_code, some .int, 1, 3, 2) := ⟨rfl, rfl, (lw_g (lw_at lw_m4 140 rfl) rfl), (lw_g (lw_at lw_m4 142 rfl) rfl), qs8, (lw_g (lw_at lw_m1 2 rfl) rfl), (lw_g (lw_at lw_m4 143 rfl) rfl), rfl, 1, rfl, by decide, by decide, by decide +kernel⟩
theorem ct_1_260 : okCt (1, 260, 0, some 1, ⟨"KnowLocks$Reader", "number", "(Ljava/lang/String;II)I"⟩, prog_34_method_17_code, some .int, 1, 4, 4) := ⟨rfl, rfl, (lw_g (lw_at lw_m4 158 rfl) rfl), (lw_g (lw_at lw_m4 160 rfl) rfl), qs12, (lw_g (lw_at lw_m1 2 rfl) rfl), (lw_g (lw_at lw_m4 161 rfl) rfl), rfl, 3, rfl, by decide, by decide, by decide +kernel⟩
theorem ct_1_287 : okCt (1, 287, 0, some 1, ⟨"KnowLocks$Reader", "toldDoor", "(LKnowLocks$Quarter;)I"⟩, prog_34_method_20_code, some .int, 1, 3, 2) := ⟨rfl, rfl, (lw_g (lw_at lw_m5 109 rfl) rfl), (lw_g (lw_at lw_m5 111 rfl) rfl), qs18, (lw_g (lw_at lw_m1 2 rfl) rfl), (lw_g (lw_at lw_m5 112 rfl) rfl), rfl, 1, rfl, by decide, by decide, by decide +kernel⟩
theorem ct_1_305 : okCt (1, 305, 0, some 1, ⟨"KnowLocks$Reader", "whole", "()LKnowLocks$Expression;"⟩, prog_34_method_32_code, some (.object "KnowLocks$Expression"), 1, 1, 1) := ⟨rfl, rfl, (lw_g (lw_at lw_m5 130 rfl) rfl), (lw_g (lw_at lw_m5 132 rfl) rfl), qs23, (lw_g (lw_at lw_m1 2 rfl) rfl), (lw_g (lw_at lw_m5 133 rfl) rfl), rfl, 0, rfl, by decide, by decide, by decide +kernel⟩
theorem ct_1_312 : okCt (1, 312, 0, some 1, ⟨"KnowLocks$Reader", "law", "([Ljava/lang/String;)LKnowLocks$Expression;"⟩, prog_34_method_26_code, some (.object "KnowLocks$Expression"), 1, 2, 2) := ⟨rfl, rfl, (lw_g (lw_at lw_m5 126 rfl) rfl), (lw_g (lw_at lw_m5 128 rfl) rfl), qs22, (lw_g (lw_at lw_m1 2 rfl) rfl), (lw_g (lw_at lw_m5 129 rfl) rfl), rfl, 1, rfl, by decide, by decide, by decide +kernel⟩
theorem ct_1_328 : okCt (1, 328, 0, some 1, ⟨"KnowLocks$Reader", "tried", "(LKnowLocks$Quarter;)LKnowLocks$Tried;"⟩, prog_34_method_30_code, some (.object "KnowLocks$Tried"), 1, 5, 2) := ⟨rfl, rfl, (lw_g (lw_at lw_m6 82 rfl) rfl), (lw_g (lw_at lw_m6 84 rfl) rfl), qs34, (lw_g (lw_at lw_m1 2 rfl) rfl), (lw_g (lw_at lw_m6 85 rfl) rfl), rfl, 1, rfl, by decide, by decide, by decide +kernel⟩
theorem ct_1_338 : okCt (1, 338, 0, some 1, ⟨"KnowLocks$Reader", "all", "()LKnowLocks$Expression;"⟩, prog_34_method_34_code, some (.object "KnowLocks$Expression"), 1, 5, 1) := ⟨rfl, rfl, (lw_g (lw_at lw_m5 134 rfl) rfl), (lw_g (lw_at lw_m5 136 rfl) rfl), qs24, (lw_g (lw_at lw_m1 2 rfl) rfl), (lw_g (lw_at lw_m5 137 rfl) rfl), rfl, 0, rfl, by decide, by decide, by decide +kernel⟩
theorem ct_1_346 : okCt (1, 346, 0, some 1, ⟨"KnowLocks$Reader", "test", "()LKnowLocks$Expression;"⟩, prog_34_method_35_code, some (.object "KnowLocks$Expression"), 1, 5, 1) := ⟨rfl, rfl, (lw_g (lw_at lw_m5 138 rfl) rfl), (lw_g (lw_at lw_m5 140 rfl) rfl), qs25, (lw_g (lw_at lw_m1 2 rfl) rfl), (lw_g (lw_at lw_m5 141 rfl) rfl), rfl, 0, rfl, by decide, by decide, by decide +kernel⟩
theorem ct_1_362 : okCt (1, 362, 0, some 1, ⟨"KnowLocks$Reader", "sum", "()LKnowLocks$Expression;"⟩, prog_34_method_36_code, some (.object "KnowLocks$Expression"), 1, 5, 1) := ⟨rfl, rfl, (lw_g (lw_at lw_m5 142 rfl) rfl), (lw_g (lw_at lw_m5 144 rfl) rfl), qs26, (lw_g (lw_at lw_m1 2 rfl) rfl), (lw_g (lw_at lw_m5 145 rfl) rfl), rfl, 0, rfl, by decide, by decide, by decide +kernel⟩
theorem ct_1_371 : okCt (1, 371, 0, some 1, ⟨"KnowLocks$Reader", "term", "()LKnowLocks$Expression;"⟩, prog_34_method_37_code, some (.object "KnowLocks$Expression"), 1, 4, 1) := ⟨rfl, rfl, (lw_g (lw_at lw_m5 146 rfl) rfl), (lw_g (lw_at lw_m5 148 rfl) rfl), qs27, (lw_g (lw_at lw_m1 2 rfl) rfl), (lw_g (lw_at lw_m5 149 rfl) rfl), rfl, 0, rfl, by decide, by decide, by decide +kernel⟩
theorem ct_1_380 : okCt (1, 380, 0, some 1, ⟨"KnowLocks$Reader", "part", "()LKnowLocks$Expression;"⟩, prog_34_method_38_code, some (.object "KnowLocks$Expression"), 1, 4, 1) := ⟨rfl, rfl, (lw_g (lw_at lw_m5 150 rfl) rfl), (lw_g (lw_at lw_m5 152 rfl) rfl), qs28, (lw_g (lw_at lw_m1 2 rfl) rfl), (lw_g (lw_at lw_m5 153 rfl) rfl), rfl, 0, rfl, by decide, by decide, by decide +kernel⟩
theorem ct_n0 : ∀ x ∈ ceT_l0, thrB x.2.1 x.2.2.1 = false := by decide +kernel
theorem ct_o0 : ∀ x ∈ ceT_l0, thrB x.2.1 x.2.2.1 = true → okCt x.2 := fun x hx h => absurd h (by rw [ct_n0 x hx]; decide)
theorem ct_o1 : ∀ x ∈ ceT_l1, thrB x.2.1 x.2.2.1 = true → okCt x.2 := List.forall_mem_cons.mpr ⟨fun h => absurd h (by decide), List.forall_mem_cons.mpr ⟨fun h => absurd h (by decide), List.forall_mem_cons.mpr ⟨fun h => absurd h (by decide), List.forall_mem_cons.mpr ⟨fun h => absurd h (by decide), List.forall_mem_cons.mpr ⟨fun h => absurd h (by decide), List.forall_mem_cons.mpr ⟨fun h => absurd h (by decide), List.forall_mem_cons.mpr ⟨fun h => absurd h (by decide), List.forall_mem_cons.mpr ⟨fun _ => ct_0_131, List.forall_mem_cons.mpr ⟨fun h => absurd h (by decide), List.forall_mem_cons.mpr ⟨fun h => absurd h (by decide), List.forall_mem_cons.mpr ⟨fun _ => ct_0_146, List.forall_mem_cons.mpr ⟨fun h => absurd h (by decide), List.forall_mem_cons.mpr ⟨fun h => absurd h (by decide), List.forall_mem_cons.mpr ⟨fun h => absurd h (by decide), fun _ h => absurd h List.not_mem_nil⟩⟩⟩⟩⟩⟩⟩⟩⟩⟩⟩⟩⟩⟩
theorem ct_n2 : ∀ x ∈ ceT_l2, thrB x.2.1 x.2.2.1 = false := by decide +kernel
theorem ct_o2 : ∀ x ∈ ceT_l2, thrB x.2.1 x.2.2.1 = true → okCt x.2 := fun x hx h => absurd h (by rw [ct_n2 x hx]; decide)
theorem ct_n3 : ∀ x ∈ ceT_l3, thrB x.2.1 x.2.2.1 = false := by decide +kernel
theorem ct_o3 : ∀ x ∈ ceT_l3, thrB x.2.1 x.2.2.1 = true → okCt x.2 := fun x hx h => absurd h (by rw [ct_n3 x hx]; decide)
theorem ct_n4 : ∀ x ∈ ceT_l4, thrB x.2.1 x.2.2.1 = false := by decide +kernel
theorem ct_o4 : ∀ x ∈ ceT_l4, thrB x.2.1 x.2.2.1 = true → okCt x.2 := fun x hx h => absurd h (by rw [ct_n4 x hx]; decide)
theorem ct_n5 : ∀ x ∈ ceT_l5, thrB x.2.1 x.2.2.1 = false := by decide +kernel
theorem ct_o5 : ∀ x ∈ ceT_l5, thrB x.2.1 x.2.2.1 = true → okCt x.2 := fun x hx h => absurd h (by rw [ct_n5 x hx]; decide)
theorem ct_n6 : ∀ x ∈ ceT_l6, thrB x.2.1 x.2.2.1 = false := by decide +kernel
theorem ct_o6 : ∀ x ∈ ceT_l6, thrB x.2.1 x.2.2.1 = true → okCt x.2 := fun x hx h => absurd h (by rw [ct_n6 x hx]; decide)
theorem ct_n7 : ∀ x ∈ ceT_l7, thrB x.2.1 x.2.2.1 = false := by decide +kernel
theorem ct_o7 : ∀ x ∈ ceT_l7, thrB x.2.1 x.2.2.1 = true → okCt x.2 := fun x hx h => absurd h (by rw [ct_n7 x hx]; decide)
theorem ct_o8 : ∀ x ∈ ceT_l8, thrB x.2.1 x.2.2.1 = true → okCt x.2 := List.forall_mem_cons.mpr ⟨fun h => absurd h (by decide), List.forall_mem_cons.mpr ⟨fun h => absurd h (by decide), List.forall_mem_cons.mpr ⟨fun h => absurd h (by decide), List.forall_mem_cons.mpr ⟨fun h => absurd h (by decide), List.forall_mem_cons.mpr ⟨fun h => absurd h (by decide), List.forall_mem_cons.mpr ⟨fun h => absurd h (by decide), List.forall_mem_cons.mpr ⟨fun h => absurd h (by decide), List.forall_mem_cons.mpr ⟨fun h => absurd h (by decide), List.forall_mem_cons.mpr ⟨fun _ => ct_1_199, List.forall_mem_cons.mpr ⟨fun _ => ct_1_201, List.forall_mem_cons.mpr ⟨fun _ => ct_1_203, List.forall_mem_cons.mpr ⟨fun _ => ct_1_205, List.forall_mem_cons.mpr ⟨fun _ => ct_1_207, List.forall_mem_cons.mpr ⟨fun _ => ct_1_209, fun _ h => absurd h List.not_mem_nil⟩⟩⟩⟩⟩⟩⟩⟩⟩⟩⟩⟩⟩⟩
theorem ct_o9 : ∀ x ∈ ceT_l9, thrB x.2.1 x.2.2.1 = true → okCt x.2 := List.forall_mem_cons.mpr ⟨fun _ => ct_1_211, List.forall_mem_cons.mpr ⟨fun _ => ct_1_213, List.forall_mem_cons.mpr ⟨fun _ => ct_1_216, List.forall_mem_cons.mpr ⟨fun _ => ct_1_220, List.forall_mem_cons.mpr ⟨fun h => absurd h (by decide), List.forall_mem_cons.mpr ⟨fun h => absurd h (by decide), List.forall_mem_cons.mpr ⟨fun h => absurd h (by decide), List.forall_mem_cons.mpr ⟨fun h => absurd h (by decide), List.forall_mem_cons.mpr ⟨fun _ => ct_1_244, List.forall_mem_cons.mpr ⟨fun _ => ct_1_248, List.forall_mem_cons.mpr ⟨fun h => absurd h (by decide), List.forall_mem_cons.mpr ⟨fun _ => ct_1_260, List.forall_mem_cons.mpr ⟨fun h => absurd h (by decide), List.forall_mem_cons.mpr ⟨fun h => absurd h (by decide), fun _ h => absurd h List.not_mem_nil⟩⟩⟩⟩⟩⟩⟩⟩⟩⟩⟩⟩⟩⟩
theorem ct_o10 : ∀ x ∈ ceT_l10, thrB x.2.1 x.2.2.1 = true → okCt x.2 := List.forall_mem_cons.mpr ⟨fun h => absurd h (by decide), List.forall_mem_cons.mpr ⟨fun h => absurd h (by decide), List.forall_mem_cons.mpr ⟨fun _ => ct_1_287, List.forall_mem_cons.mpr ⟨fun _ => ct_1_305, List.forall_mem_cons.mpr ⟨fun _ => ct_1_312, List.forall_mem_cons.mpr ⟨fun h => absurd h (by decide), List.forall_mem_cons.mpr ⟨fun h => absurd h (by decide), List.forall_mem_cons.mpr ⟨fun _ => ct_1_328, List.forall_mem_cons.mpr ⟨fun h => absurd h (by decide), List.forall_mem_cons.mpr ⟨fun _ => ct_1_338, List.forall_mem_cons.mpr ⟨fun h => absurd h (by decide), List.forall_mem_cons.mpr ⟨fun _ => ct_1_346, List.forall_mem_cons.mpr ⟨fun h => absurd h (by decide), List.forall_mem_cons.mpr ⟨fun h => absurd h (by decide), fun _ h => absurd h List.not_mem_nil⟩⟩⟩⟩⟩⟩⟩⟩⟩⟩⟩⟩⟩⟩
theorem ct_o11 : ∀ x ∈ ceT_l11, thrB x.2.1 x.2.2.1 = true → okCt x.2 := List.forall_mem_cons.mpr ⟨fun h => absurd h (by decide), List.forall_mem_cons.mpr ⟨fun _ => ct_1_362, List.forall_mem_cons.mpr ⟨fun h => absurd h (by decide), List.forall_mem_cons.mpr ⟨fun h => absurd h (by decide), List.forall_mem_cons.mpr ⟨fun _ => ct_1_371, List.forall_mem_cons.mpr ⟨fun h => absurd h (by decide), List.forall_mem_cons.mpr ⟨fun h => absurd h (by decide), List.forall_mem_cons.mpr ⟨fun _ => ct_1_380, List.forall_mem_cons.mpr ⟨fun h => absurd h (by decide), List.forall_mem_cons.mpr ⟨fun h => absurd h (by decide), List.forall_mem_cons.mpr ⟨fun h => absurd h (by decide), List.forall_mem_cons.mpr ⟨fun h => absurd h (by decide), List.forall_mem_cons.mpr ⟨fun h => absurd h (by decide), List.forall_mem_cons.mpr ⟨fun h => absurd h (by decide), fun _ h => absurd h List.not_mem_nil⟩⟩⟩⟩⟩⟩⟩⟩⟩⟩⟩⟩⟩⟩
theorem ct_n12 : ∀ x ∈ ceT_l12, thrB x.2.1 x.2.2.1 = false := by decide +kernel
theorem ct_o12 : ∀ x ∈ ceT_l12, thrB x.2.1 x.2.2.1 = true → okCt x.2 := fun x hx h => absurd h (by rw [ct_n12 x hx]; decide)
theorem ct_n13 : ∀ x ∈ ceT_l13, thrB x.2.1 x.2.2.1 = false := by decide +kernel
theorem ct_o13 : ∀ x ∈ ceT_l13, thrB x.2.1 x.2.2.1 = true → okCt x.2 := fun x hx h => absurd h (by rw [ct_n13 x hx]; decide)
theorem ct_n14 : ∀ x ∈ ceT_l14, thrB x.2.1 x.2.2.1 = false := by decide +kernel
theorem ct_o14 : ∀ x ∈ ceT_l14, thrB x.2.1 x.2.2.1 = true → okCt x.2 := fun x hx h => absurd h (by rw [ct_n14 x hx]; decide)
theorem ct_n15 : ∀ x ∈ ceT_l15, thrB x.2.1 x.2.2.1 = false := by decide +kernel
theorem ct_o15 : ∀ x ∈ ceT_l15, thrB x.2.1 x.2.2.1 = true → okCt x.2 := fun x hx h => absurd h (by rw [ct_n15 x hx]; decide)
theorem ct_n16 : ∀ x ∈ ceT_l16, thrB x.2.1 x.2.2.1 = false := by decide +kernel
theorem ct_o16 : ∀ x ∈ ceT_l16, thrB x.2.1 x.2.2.1 = true → okCt x.2 := fun x hx h => absurd h (by rw [ct_n16 x hx]; decide)
theorem ct_n17 : ∀ x ∈ ceT_l17, thrB x.2.1 x.2.2.1 = false := by decide +kernel
theorem ct_o17 : ∀ x ∈ ceT_l17, thrB x.2.1 x.2.2.1 = true → okCt x.2 := fun x hx h => absurd h (by rw [ct_n17 x hx]; decide)
theorem ct_n18 : ∀ x ∈ ceT_l18, thrB x.2.1 x.2.2.1 = false := by decide +kernel
theorem ct_o18 : ∀ x ∈ ceT_l18, thrB x.2.1 x.2.2.1 = true → okCt x.2 := fun x hx h => absurd h (by rw [ct_n18 x hx]; decide)
theorem ct_n19 : ∀ x ∈ ceT_l19, thrB x.2.1 x.2.2.1 = false := by decide +kernel
theorem ct_o19 : ∀ x ∈ ceT_l19, thrB x.2.1 x.2.2.1 = true → okCt x.2 := fun x hx h => absurd h (by rw [ct_n19 x hx]; decide)
theorem ct_n20 : ∀ x ∈ ceT_l20, thrB x.2.1 x.2.2.1 = false := by decide +kernel
theorem ct_o20 : ∀ x ∈ ceT_l20, thrB x.2.1 x.2.2.1 = true → okCt x.2 := fun x hx h => absurd h (by rw [ct_n20 x hx]; decide)
theorem ct_n21 : ∀ x ∈ ceT_l21, thrB x.2.1 x.2.2.1 = false := by decide +kernel
theorem ct_o21 : ∀ x ∈ ceT_l21, thrB x.2.1 x.2.2.1 = true → okCt x.2 := fun x hx h => absurd h (by rw [ct_n21 x hx]; decide)
theorem ct_n22 : ∀ x ∈ ceT_l22, thrB x.2.1 x.2.2.1 = false := by decide +kernel
theorem ct_o22 : ∀ x ∈ ceT_l22, thrB x.2.1 x.2.2.1 = true → okCt x.2 := fun x hx h => absurd h (by rw [ct_n22 x hx]; decide)
theorem ct_n23 : ∀ x ∈ ceT_l23, thrB x.2.1 x.2.2.1 = false := by decide +kernel
theorem ct_o23 : ∀ x ∈ ceT_l23, thrB x.2.1 x.2.2.1 = true → okCt x.2 := fun x hx h => absurd h (by rw [ct_n23 x hx]; decide)
theorem ct_n24 : ∀ x ∈ ceT_l24, thrB x.2.1 x.2.2.1 = false := by decide +kernel
theorem ct_o24 : ∀ x ∈ ceT_l24, thrB x.2.1 x.2.2.1 = true → okCt x.2 := fun x hx h => absurd h (by rw [ct_n24 x hx]; decide)
theorem ct_n25 : ∀ x ∈ ceT_l25, thrB x.2.1 x.2.2.1 = false := by decide +kernel
theorem ct_o25 : ∀ x ∈ ceT_l25, thrB x.2.1 x.2.2.1 = true → okCt x.2 := fun x hx h => absurd h (by rw [ct_n25 x hx]; decide)
theorem ct_n26 : ∀ x ∈ ceT_l26, thrB x.2.1 x.2.2.1 = false := by decide +kernel
theorem ct_o26 : ∀ x ∈ ceT_l26, thrB x.2.1 x.2.2.1 = true → okCt x.2 := fun x hx h => absurd h (by rw [ct_n26 x hx]; decide)
theorem ct_n27 : ∀ x ∈ ceT_l27, thrB x.2.1 x.2.2.1 = false := by decide +kernel
theorem ct_o27 : ∀ x ∈ ceT_l27, thrB x.2.1 x.2.2.1 = true → okCt x.2 := fun x hx h => absurd h (by rw [ct_n27 x hx]; decide)
theorem ct_n28 : ∀ x ∈ ceT_l28, thrB x.2.1 x.2.2.1 = false := by decide +kernel
theorem ct_o28 : ∀ x ∈ ceT_l28, thrB x.2.1 x.2.2.1 = true → okCt x.2 := fun x hx h => absurd h (by rw [ct_n28 x hx]; decide)
theorem ct_n29 : ∀ x ∈ ceT_l29, thrB x.2.1 x.2.2.1 = false := by decide +kernel
theorem ct_o29 : ∀ x ∈ ceT_l29, thrB x.2.1 x.2.2.1 = true → okCt x.2 := fun x hx h => absurd h (by rw [ct_n29 x hx]; decide)
theorem ceT_ct {k : Nat} {x : CeT} (h : ceT k = some x) (ht : thrB x.1 x.2.1 = true) : okCt x := by
  unfold ceT at h
  by_cases h0 : k < 6600
  · rw [if_pos h0] at h; exact ct_o0 _ (lookup_mem h) ht
  rw [if_neg h0] at h
  by_cases h1 : k < 16304
  · rw [if_pos h1] at h; exact ct_o1 _ (lookup_mem h) ht
  rw [if_neg h1] at h
  by_cases h2 : k < 19907
  · rw [if_pos h2] at h; exact ct_o2 _ (lookup_mem h) ht
  rw [if_neg h2] at h
  by_cases h3 : k < 22508
  · rw [if_pos h3] at h; exact ct_o3 _ (lookup_mem h) ht
  rw [if_neg h3] at h
  by_cases h4 : k < 27203
  · rw [if_pos h4] at h; exact ct_o4 _ (lookup_mem h) ht
  rw [if_neg h4] at h
  by_cases h5 : k < 36200
  · rw [if_pos h5] at h; exact ct_o5 _ (lookup_mem h) ht
  rw [if_neg h5] at h
  by_cases h6 : k < 37517
  · rw [if_pos h6] at h; exact ct_o6 _ (lookup_mem h) ht
  rw [if_neg h6] at h
  by_cases h7 : k < 116200
  · rw [if_pos h7] at h; exact ct_o7 _ (lookup_mem h) ht
  rw [if_neg h7] at h
  by_cases h8 : k < 120902
  · rw [if_pos h8] at h; exact ct_o8 _ (lookup_mem h) ht
  rw [if_neg h8] at h
  by_cases h9 : k < 126637
  · rw [if_pos h9] at h; exact ct_o9 _ (lookup_mem h) ht
  rw [if_neg h9] at h
  by_cases h10 : k < 135900
  · rw [if_pos h10] at h; exact ct_o10 _ (lookup_mem h) ht
  rw [if_neg h10] at h
  by_cases h11 : k < 205603
  · rw [if_pos h11] at h; exact ct_o11 _ (lookup_mem h) ht
  rw [if_neg h11] at h
  by_cases h12 : k < 211706
  · rw [if_pos h12] at h; exact ct_o12 _ (lookup_mem h) ht
  rw [if_neg h12] at h
  by_cases h13 : k < 301200
  · rw [if_pos h13] at h; exact ct_o13 _ (lookup_mem h) ht
  rw [if_neg h13] at h
  by_cases h14 : k < 501709
  · rw [if_pos h14] at h; exact ct_o14 _ (lookup_mem h) ht
  rw [if_neg h14] at h
  by_cases h15 : k < 504211
  · rw [if_pos h15] at h; exact ct_o15 _ (lookup_mem h) ht
  rw [if_neg h15] at h
  by_cases h16 : k < 506116
  · rw [if_pos h16] at h; exact ct_o16 _ (lookup_mem h) ht
  rw [if_neg h16] at h
  by_cases h17 : k < 507406
  · rw [if_pos h17] at h; exact ct_o17 _ (lookup_mem h) ht
  rw [if_neg h17] at h
  by_cases h18 : k < 508908
  · rw [if_pos h18] at h; exact ct_o18 _ (lookup_mem h) ht
  rw [if_neg h18] at h
  by_cases h19 : k < 700708
  · rw [if_pos h19] at h; exact ct_o19 _ (lookup_mem h) ht
  rw [if_neg h19] at h
  by_cases h20 : k < 1400200
  · rw [if_pos h20] at h; exact ct_o20 _ (lookup_mem h) ht
  rw [if_neg h20] at h
  by_cases h21 : k < 2002220
  · rw [if_pos h21] at h; exact ct_o21 _ (lookup_mem h) ht
  rw [if_neg h21] at h
  by_cases h22 : k < 2400200
  · rw [if_pos h22] at h; exact ct_o22 _ (lookup_mem h) ht
  rw [if_neg h22] at h
  by_cases h23 : k < 3201933
  · rw [if_pos h23] at h; exact ct_o23 _ (lookup_mem h) ht
  rw [if_neg h23] at h
  by_cases h24 : k < 3306812
  · rw [if_pos h24] at h; exact ct_o24 _ (lookup_mem h) ht
  rw [if_neg h24] at h
  by_cases h25 : k < 3309817
  · rw [if_pos h25] at h; exact ct_o25 _ (lookup_mem h) ht
  rw [if_neg h25] at h
  by_cases h26 : k < 3406416
  · rw [if_pos h26] at h; exact ct_o26 _ (lookup_mem h) ht
  rw [if_neg h26] at h
  by_cases h27 : k < 3611900
  · rw [if_pos h27] at h; exact ct_o27 _ (lookup_mem h) ht
  rw [if_neg h27] at h
  by_cases h28 : k < 4001925
  · rw [if_pos h28] at h; exact ct_o28 _ (lookup_mem h) ht
  rw [if_neg h28] at h
  by_cases h29 : k < 4930100
  · rw [if_pos h29] at h; exact ct_o29 _ (lookup_mem h) ht
  rw [if_neg h29] at h
  cases h
theorem ccp_ct {o idx ci : Nat} {x : CeT} (h : ccp o idx ci = some x) (ht : thrB o idx = true) : okCt x := by
  unfold ccp at h
  obtain ⟨y, hy, h⟩ := Option.bind_eq_some_iff.mp h
  split at h
  · rename_i hc
    cases h
    exact ceT_ct hy (by rw [hc.1, hc.2]; exact ht)
  · cases h
