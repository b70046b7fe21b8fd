/-! CALLS THAT ARE TAKEN AS ONE STEP: String constants -/
set_option maxRecDepth 100000
abbrev cJ3_indexOf : ByteArray := prog_56_method_79_code
theorem dJ3_indexOf_0 : decode cJ3_indexOf 0 = .ok (.aload_n 0, 1) := dk_42 (dk_all 0 (by decide +kernel))
theorem dJ3_indexOf_1 : decode cJ3_indexOf 1 = .ok (.iload_n 1, 1) := dk_27 (dk_all 1 (by decide +kernel))
theorem dJ3_indexOf_2 : decode cJ3_indexOf 2 = .ok (.iconst 0, 1) := dk_3 (dk_all 2 (by decide +kernel))
theorem dJ3_indexOf_3 : decode cJ3_indexOf 3 = .ok (.invokevirtual 633, 3) := dk_182 2 121 (dk_all 3 (by decide +kernel))
theorem dJ3_indexOf_6 : decode cJ3_indexOf 6 = .ok (.ireturn, 1) := dk_172 (dk_all 6 (by decide +kernel))
abbrev cJ3_indexOf_2 : ByteArray := prog_56_method_80_code
theorem dJ3_indexOf_2_0 : decode cJ3_indexOf_2 0 = .ok (.aload_n 0, 1) := dk_42 (dk_all 0 (by decide +kernel))
theorem dJ3_indexOf_2_1 : decode cJ3_indexOf_2 1 = .ok (.invokevirtual 492, 3) := dk_182 1 236 (dk_all 1 (by decide +kernel))
theorem dJ3_indexOf_2_4 : decode cJ3_indexOf_2 4 = .ok (.ifCond .eq 19, 3) := dk_153 0 19 (dk_all 4 (by decide +kernel))
theorem dJ3_indexOf_2_7 : decode cJ3_indexOf_2 7 = .ok (.aload_n 0, 1) := dk_42 (dk_all 7 (by decide +kernel))
theorem dJ3_indexOf_2_8 : decode cJ3_indexOf_2 8 = .ok (.getfield 9, 3) := dk_180 0 9 (dk_all 8 (by decide +kernel))
theorem dJ3_indexOf_2_11 : decode cJ3_indexOf_2 11 = .ok (.iload_n 1, 1) := dk_27 (dk_all 11 (by decide +kernel))
theorem dJ3_indexOf_2_12 : decode cJ3_indexOf_2 12 = .ok (.iload_n 2, 1) := dk_28 (dk_all 12 (by decide +kernel))
theorem dJ3_indexOf_2_13 : decode cJ3_indexOf_2 13 = .ok (.aload_n 0, 1) := dk_42 (dk_all 13 (by decide +kernel))
theorem dJ3_indexOf_2_14 : decode cJ3_indexOf_2 14 = .ok (.invokevirtual 505, 3) := dk_182 1 249 (dk_all 14 (by decide +kernel))
theorem dJ3_indexOf_2_17 : decode cJ3_indexOf_2 17 = .ok (.invokestatic 637, 3) := dk_184 2 125 (dk_all 17 (by decide +kernel))
theorem dJ3_indexOf_2_20 : decode cJ3_indexOf_2 20 = .ok (.goto 16, 3) := dk_167 0 16 (dk_all 20 (by decide +kernel))
theorem dJ3_indexOf_2_23 : decode cJ3_indexOf_2 23 = .ok (.aload_n 0, 1) := dk_42 (dk_all 23 (by decide +kernel))
theorem dJ3_indexOf_2_24 : decode cJ3_indexOf_2 24 = .ok (.getfield 9, 3) := dk_180 0 9 (dk_all 24 (by decide +kernel))
theorem dJ3_indexOf_2_27 : decode cJ3_indexOf_2 27 = .ok (.iload_n 1, 1) := dk_27 (dk_all 27 (by decide +kernel))
theorem dJ3_indexOf_2_28 : decode cJ3_indexOf_2 28 = .ok (.iload_n 2, 1) := dk_28 (dk_all 28 (by decide +kernel))
theorem dJ3_indexOf_2_29 : decode cJ3_indexOf_2 29 = .ok (.aload_n 0, 1) := dk_42 (dk_all 29 (by decide +kernel))
theorem dJ3_indexOf_2_30 : decode cJ3_indexOf_2 30 = .ok (.invokevirtual 505, 3) := dk_182 1 249 (dk_all 30 (by decide +kernel))
theorem dJ3_indexOf_2_33 : decode cJ3_indexOf_2 33 = .ok (.invokestatic 640, 3) := dk_184 2 128 (dk_all 33 (by decide +kernel))
theorem dJ3_indexOf_2_36 : decode cJ3_indexOf_2 36 = .ok (.ireturn, 1) := dk_172 (dk_all 36 (by decide +kernel))
abbrev cJ3_isLatin1 : ByteArray := prog_56_method_154_code
theorem dJ3_isLatin1_0 : decode cJ3_isLatin1 0 = .ok (.getstatic 38, 3) := dk_178 0 38 (dk_all 0 (by decide +kernel))
theorem dJ3_isLatin1_3 : decode cJ3_isLatin1 3 = .ok (.ifCond .eq 14, 3) := dk_153 0 14 (dk_all 3 (by decide +kernel))
theorem dJ3_isLatin1_6 : decode cJ3_isLatin1 6 = .ok (.aload_n 0, 1) := dk_42 (dk_all 6 (by decide +kernel))
theorem dJ3_isLatin1_7 : decode cJ3_isLatin1 7 = .ok (.getfield 15, 3) := dk_180 0 15 (dk_all 7 (by decide +kernel))
theorem dJ3_isLatin1_10 : decode cJ3_isLatin1 10 = .ok (.ifCond .ne 7, 3) := dk_154 0 7 (dk_all 10 (by decide +kernel))
theorem dJ3_isLatin1_13 : decode cJ3_isLatin1 13 = .ok (.iconst 1, 1) := dk_4 (dk_all 13 (by decide +kernel))
theorem dJ3_isLatin1_14 : decode cJ3_isLatin1 14 = .ok (.goto 4, 3) := dk_167 0 4 (dk_all 14 (by decide +kernel))
theorem dJ3_isLatin1_17 : decode cJ3_isLatin1 17 = .ok (.iconst 0, 1) := dk_3 (dk_all 17 (by decide +kernel))
theorem dJ3_isLatin1_18 : decode cJ3_isLatin1 18 = .ok (.ireturn, 1) := dk_172 (dk_all 18 (by decide +kernel))
abbrev cJ3_length : ByteArray := prog_56_method_54_code
theorem dJ3_length_0 : decode cJ3_length 0 = .ok (.aload_n 0, 1) := dk_42 (dk_all 0 (by decide +kernel))
theorem dJ3_length_1 : decode cJ3_length 1 = .ok (.getfield 9, 3) := dk_180 0 9 (dk_all 1 (by decide +kernel))
theorem dJ3_length_4 : decode cJ3_length 4 = .ok (.arraylength, 1) := dk_190 (dk_all 4 (by decide +kernel))
theorem dJ3_length_5 : decode cJ3_length 5 = .ok (.aload_n 0, 1) := dk_42 (dk_all 5 (by decide +kernel))
theorem dJ3_length_6 : decode cJ3_length 6 = .ok (.invokevirtual 335, 3) := dk_182 1 79 (dk_all 6 (by decide +kernel))
theorem dJ3_length_9 : decode cJ3_length 9 = .ok (.ishr, 1) := dk_122 (dk_all 9 (by decide +kernel))
theorem dJ3_length_10 : decode cJ3_length 10 = .ok (.ireturn, 1) := dk_172 (dk_all 10 (by decide +kernel))
abbrev cJ3_coder : ByteArray := prog_56_method_152_code
theorem dJ3_coder_0 : decode cJ3_coder 0 = .ok (.getstatic 38, 3) := dk_178 0 38 (dk_all 0 (by decide +kernel))
theorem dJ3_coder_3 : decode cJ3_coder 3 = .ok (.ifCond .eq 10, 3) := dk_153 0 10 (dk_all 3 (by decide +kernel))
theorem dJ3_coder_6 : decode cJ3_coder 6 = .ok (.aload_n 0, 1) := dk_42 (dk_all 6 (by decide +kernel))
theorem dJ3_coder_7 : decode cJ3_coder 7 = .ok (.getfield 15, 3) := dk_180 0 15 (dk_all 7 (by decide +kernel))
theorem dJ3_coder_10 : decode cJ3_coder 10 = .ok (.goto 4, 3) := dk_167 0 4 (dk_all 10 (by decide +kernel))
theorem dJ3_coder_13 : decode cJ3_coder 13 = .ok (.iconst 1, 1) := dk_4 (dk_all 13 (by decide +kernel))
theorem dJ3_coder_14 : decode cJ3_coder 14 = .ok (.ireturn, 1) := dk_172 (dk_all 14 (by decide +kernel))
abbrev cJ3_charAt : ByteArray := prog_56_method_56_code
theorem dJ3_charAt_0 : decode cJ3_charAt 0 = .ok (.aload_n 0, 1) := dk_42 (dk_all 0 (by decide +kernel))
theorem dJ3_charAt_1 : decode cJ3_charAt 1 = .ok (.invokevirtual 492, 3) := dk_182 1 236 (dk_all 1 (by decide +kernel))
theorem dJ3_charAt_4 : decode cJ3_charAt 4 = .ok (.ifCond .eq 12, 3) := dk_153 0 12 (dk_all 4 (by decide +kernel))
theorem dJ3_charAt_7 : decode cJ3_charAt 7 = .ok (.aload_n 0, 1) := dk_42 (dk_all 7 (by decide +kernel))
theorem dJ3_charAt_8 : decode cJ3_charAt 8 = .ok (.getfield 9, 3) := dk_180 0 9 (dk_all 8 (by decide +kernel))
theorem dJ3_charAt_11 : decode cJ3_charAt 11 = .ok (.iload_n 1, 1) := dk_27 (dk_all 11 (by decide +kernel))
theorem dJ3_charAt_12 : decode cJ3_charAt 12 = .ok (.invokestatic 495, 3) := dk_184 1 239 (dk_all 12 (by decide +kernel))
theorem dJ3_charAt_15 : decode cJ3_charAt 15 = .ok (.ireturn, 1) := dk_172 (dk_all 15 (by decide +kernel))
theorem dJ3_charAt_16 : decode cJ3_charAt 16 = .ok (.aload_n 0, 1) := dk_42 (dk_all 16 (by decide +kernel))
theorem dJ3_charAt_17 : decode cJ3_charAt 17 = .ok (.getfield 9, 3) := dk_180 0 9 (dk_all 17 (by decide +kernel))
theorem dJ3_charAt_20 : decode cJ3_charAt 20 = .ok (.iload_n 1, 1) := dk_27 (dk_all 20 (by decide +kernel))
theorem dJ3_charAt_21 : decode cJ3_charAt 21 = .ok (.invokestatic 498, 3) := dk_184 1 242 (dk_all 21 (by decide +kernel))
theorem dJ3_charAt_24 : decode cJ3_charAt 24 = .ok (.ireturn, 1) := dk_172 (dk_all 24 (by decide +kernel))
abbrev cJ3_checkIndex : ByteArray := prog_56_method_155_code
theorem dJ3_checkIndex_0 : decode cJ3_checkIndex 0 = .ok (.iload_n 0, 1) := dk_26 (dk_all 0 (by decide +kernel))
theorem dJ3_checkIndex_1 : decode cJ3_checkIndex 1 = .ok (.iload_n 1, 1) := dk_27 (dk_all 1 (by decide +kernel))
theorem dJ3_checkIndex_2 : decode cJ3_checkIndex 2 = .ok (.getstatic 1053, 3) := dk_178 4 29 (dk_all 2 (by decide +kernel))
theorem dJ3_checkIndex_5 : decode cJ3_checkIndex 5 = .ok (.invokestatic 1059, 3) := dk_184 4 35 (dk_all 5 (by decide +kernel))
theorem dJ3_checkIndex_8 : decode cJ3_checkIndex 8 = .ok (.pop, 1) := dk_87 (dk_all 8 (by decide +kernel))
theorem dJ3_checkIndex_9 : decode cJ3_checkIndex 9 = .ok (.return_, 1) := dk_177 (dk_all 9 (by decide +kernel))
abbrev cJ4_indexOf : ByteArray := prog_57_method_22_code
theorem dJ4_indexOf_0 : decode cJ4_indexOf 0 = .ok (.iload_n 1, 1) := dk_27 (dk_all 0 (by decide +kernel))
theorem dJ4_indexOf_1 : decode cJ4_indexOf 1 = .ok (.invokestatic 88, 3) := dk_184 0 88 (dk_all 1 (by decide +kernel))
theorem dJ4_indexOf_4 : decode cJ4_indexOf 4 = .ok (.ifCond .ne 5, 3) := dk_154 0 5 (dk_all 4 (by decide +kernel))
theorem dJ4_indexOf_7 : decode cJ4_indexOf 7 = .ok (.iconst (-1), 1) := dk_2 (dk_all 7 (by decide +kernel))
theorem dJ4_indexOf_8 : decode cJ4_indexOf 8 = .ok (.ireturn, 1) := dk_172 (dk_all 8 (by decide +kernel))
theorem dJ4_indexOf_9 : decode cJ4_indexOf 9 = .ok (.iload_n 2, 1) := dk_28 (dk_all 9 (by decide +kernel))
theorem dJ4_indexOf_10 : decode cJ4_indexOf 10 = .ok (.iconst 0, 1) := dk_3 (dk_all 10 (by decide +kernel))
theorem dJ4_indexOf_11 : decode cJ4_indexOf 11 = .ok (.invokestatic 92, 3) := dk_184 0 92 (dk_all 11 (by decide +kernel))
theorem dJ4_indexOf_14 : decode cJ4_indexOf 14 = .ok (.istore_n 2, 1) := dk_61 (dk_all 14 (by decide +kernel))
theorem dJ4_indexOf_15 : decode cJ4_indexOf 15 = .ok (.iload_n 3, 1) := dk_29 (dk_all 15 (by decide +kernel))
theorem dJ4_indexOf_16 : decode cJ4_indexOf 16 = .ok (.aload_n 0, 1) := dk_42 (dk_all 16 (by decide +kernel))
theorem dJ4_indexOf_17 : decode cJ4_indexOf 17 = .ok (.arraylength, 1) := dk_190 (dk_all 17 (by decide +kernel))
theorem dJ4_indexOf_18 : decode cJ4_indexOf 18 = .ok (.invokestatic 38, 3) := dk_184 0 38 (dk_all 18 (by decide +kernel))
theorem dJ4_indexOf_21 : decode cJ4_indexOf 21 = .ok (.istore_n 3, 1) := dk_62 (dk_all 21 (by decide +kernel))
theorem dJ4_indexOf_22 : decode cJ4_indexOf 22 = .ok (.iload_n 2, 1) := dk_28 (dk_all 22 (by decide +kernel))
theorem dJ4_indexOf_23 : decode cJ4_indexOf 23 = .ok (.iload_n 3, 1) := dk_29 (dk_all 23 (by decide +kernel))
theorem dJ4_indexOf_24 : decode cJ4_indexOf 24 = .ok (.if_icmp .lt 5, 3) := dk_161 0 5 (dk_all 24 (by decide +kernel))
theorem dJ4_indexOf_27 : decode cJ4_indexOf 27 = .ok (.iconst (-1), 1) := dk_2 (dk_all 27 (by decide +kernel))
theorem dJ4_indexOf_28 : decode cJ4_indexOf 28 = .ok (.ireturn, 1) := dk_172 (dk_all 28 (by decide +kernel))
theorem dJ4_indexOf_29 : decode cJ4_indexOf 29 = .ok (.aload_n 0, 1) := dk_42 (dk_all 29 (by decide +kernel))
theorem dJ4_indexOf_30 : decode cJ4_indexOf 30 = .ok (.iload_n 1, 1) := dk_27 (dk_all 30 (by decide +kernel))
theorem dJ4_indexOf_31 : decode cJ4_indexOf 31 = .ok (.iload_n 2, 1) := dk_28 (dk_all 31 (by decide +kernel))
theorem dJ4_indexOf_32 : decode cJ4_indexOf 32 = .ok (.iload_n 3, 1) := dk_29 (dk_all 32 (by decide +kernel))
theorem dJ4_indexOf_33 : decode cJ4_indexOf 33 = .ok (.invokestatic 95, 3) := dk_184 0 95 (dk_all 33 (by decide +kernel))
theorem dJ4_indexOf_36 : decode cJ4_indexOf 36 = .ok (.ireturn, 1) := dk_172 (dk_all 36 (by decide +kernel))
abbrev cJ4_canEncode : ByteArray := prog_57_method_4_code
theorem dJ4_canEncode_0 : decode cJ4_canEncode 0 = .ok (.iload_n 0, 1) := dk_26 (dk_all 0 (by decide +kernel))
theorem dJ4_canEncode_1 : decode cJ4_canEncode 1 = .ok (.ifCond .lt 14, 3) := dk_155 0 14 (dk_all 1 (by decide +kernel))
theorem dJ4_canEncode_4 : decode cJ4_canEncode 4 = .ok (.iload_n 0, 1) := dk_26 (dk_all 4 (by decide +kernel))
theorem dJ4_canEncode_5 : decode cJ4_canEncode 5 = .ok (.sipush 255, 3) := dk_17 0 255 (dk_all 5 (by decide +kernel))
theorem dJ4_canEncode_8 : decode cJ4_canEncode 8 = .ok (.if_icmp .gt 7, 3) := dk_163 0 7 (dk_all 8 (by decide +kernel))
theorem dJ4_canEncode_11 : decode cJ4_canEncode 11 = .ok (.iconst 1, 1) := dk_4 (dk_all 11 (by decide +kernel))
theorem dJ4_canEncode_12 : decode cJ4_canEncode 12 = .ok (.goto 4, 3) := dk_167 0 4 (dk_all 12 (by decide +kernel))
theorem dJ4_canEncode_15 : decode cJ4_canEncode 15 = .ok (.iconst 0, 1) := dk_3 (dk_all 15 (by decide +kernel))
theorem dJ4_canEncode_16 : decode cJ4_canEncode 16 = .ok (.ireturn, 1) := dk_172 (dk_all 16 (by decide +kernel))
abbrev cJ4_indexOfChar : ByteArray := prog_57_method_23_code
theorem dJ4_indexOfChar_0 : decode cJ4_indexOfChar 0 = .ok (.iload_n 1, 1) := dk_27 (dk_all 0 (by decide +kernel))
theorem dJ4_indexOfChar_1 : decode cJ4_indexOfChar 1 = .ok (.i2b, 1) := dk_145 (dk_all 1 (by decide +kernel))
theorem dJ4_indexOfChar_2 : decode cJ4_indexOfChar 2 = .ok (.istore 4, 2) := dk_54 4 (dk_all 2 (by decide +kernel))
theorem dJ4_indexOfChar_4 : decode cJ4_indexOfChar 4 = .ok (.iload_n 2, 1) := dk_28 (dk_all 4 (by decide +kernel))
theorem dJ4_indexOfChar_5 : decode cJ4_indexOfChar 5 = .ok (.istore 5, 2) := dk_54 5 (dk_all 5 (by decide +kernel))
theorem dJ4_indexOfChar_7 : decode cJ4_indexOfChar 7 = .ok (.iload 5, 2) := dk_21 5 (dk_all 7 (by decide +kernel))
theorem dJ4_indexOfChar_9 : decode cJ4_indexOfChar 9 = .ok (.iload_n 3, 1) := dk_29 (dk_all 9 (by decide +kernel))
theorem dJ4_indexOfChar_10 : decode cJ4_indexOfChar 10 = .ok (.if_icmp .ge 21, 3) := dk_162 0 21 (dk_all 10 (by decide +kernel))
theorem dJ4_indexOfChar_13 : decode cJ4_indexOfChar 13 = .ok (.aload_n 0, 1) := dk_42 (dk_all 13 (by decide +kernel))
theorem dJ4_indexOfChar_14 : decode cJ4_indexOfChar 14 = .ok (.iload 5, 2) := dk_21 5 (dk_all 14 (by decide +kernel))
theorem dJ4_indexOfChar_16 : decode cJ4_indexOfChar 16 = .ok (.baload, 1) := dk_51 (dk_all 16 (by decide +kernel))
theorem dJ4_indexOfChar_17 : decode cJ4_indexOfChar 17 = .ok (.iload 4, 2) := dk_21 4 (dk_all 17 (by decide +kernel))
theorem dJ4_indexOfChar_19 : decode cJ4_indexOfChar 19 = .ok (.if_icmp .ne 6, 3) := dk_160 0 6 (dk_all 19 (by decide +kernel))
theorem dJ4_indexOfChar_22 : decode cJ4_indexOfChar 22 = .ok (.iload 5, 2) := dk_21 5 (dk_all 22 (by decide +kernel))
theorem dJ4_indexOfChar_24 : decode cJ4_indexOfChar 24 = .ok (.ireturn, 1) := dk_172 (dk_all 24 (by decide +kernel))
theorem dJ4_indexOfChar_25 : decode cJ4_indexOfChar 25 = .ok (.iinc 5 1, 3) := dk_132 5 1 (dk_all 25 (by decide +kernel))
theorem dJ4_indexOfChar_28 : decode cJ4_indexOfChar 28 = .ok (.goto (-21), 3) := dk_167 255 235 (dk_all 28 (by decide +kernel))
theorem dJ4_indexOfChar_31 : decode cJ4_indexOfChar 31 = .ok (.iconst (-1), 1) := dk_2 (dk_all 31 (by decide +kernel))
theorem dJ4_indexOfChar_32 : decode cJ4_indexOfChar 32 = .ok (.ireturn, 1) := dk_172 (dk_all 32 (by decide +kernel))
abbrev cJ4_charAt : ByteArray := prog_57_method_2_code
theorem dJ4_charAt_0 : decode cJ4_charAt 0 = .ok (.iload_n 1, 1) := dk_27 (dk_all 0 (by decide +kernel))
theorem dJ4_charAt_1 : decode cJ4_charAt 1 = .ok (.aload_n 0, 1) := dk_42 (dk_all 1 (by decide +kernel))
theorem dJ4_charAt_2 : decode cJ4_charAt 2 = .ok (.arraylength, 1) := dk_190 (dk_all 2 (by decide +kernel))
theorem dJ4_charAt_3 : decode cJ4_charAt 3 = .ok (.invokestatic 9, 3) := dk_184 0 9 (dk_all 3 (by decide +kernel))
theorem dJ4_charAt_6 : decode cJ4_charAt 6 = .ok (.aload_n 0, 1) := dk_42 (dk_all 6 (by decide +kernel))
theorem dJ4_charAt_7 : decode cJ4_charAt 7 = .ok (.iload_n 1, 1) := dk_27 (dk_all 7 (by decide +kernel))
theorem dJ4_charAt_8 : decode cJ4_charAt 8 = .ok (.baload, 1) := dk_51 (dk_all 8 (by decide +kernel))
theorem dJ4_charAt_9 : decode cJ4_charAt 9 = .ok (.sipush 255, 3) := dk_17 0 255 (dk_all 9 (by decide +kernel))
theorem dJ4_charAt_12 : decode cJ4_charAt 12 = .ok (.iand, 1) := dk_126 (dk_all 12 (by decide +kernel))
theorem dJ4_charAt_13 : decode cJ4_charAt 13 = .ok (.i2c, 1) := dk_146 (dk_all 13 (by decide +kernel))
theorem dJ4_charAt_14 : decode cJ4_charAt 14 = .ok (.ireturn, 1) := dk_172 (dk_all 14 (by decide +kernel))
theorem ZW.cs {zs : Nat → Nat} {A : Nat → Prop} {U : State} {H : Heap} (h : ZW zs A U H) : va_Z "java/lang/String" "COMPACT_STRINGS" "Z" (.int 1) A U H := by
  obtain ⟨-, -, -, s0, a0, h1, h2, h3, h4, h5, h6⟩ := h
  have hs := flat_of_before _ h1
  have hA : ∀ a : Nat, a < s0.heap.size → ¬ A a := fun a ha => (h5 a ha).1
  have hq : ∀ a : Nat, a < s0.heap.size → ¬ A a → H[a]? = s0.heap[a]? := fun a ha _ => (h5 a ha).2
  exact va_Z.moved h3.alike (va_Z.kept (va_Zof (h2 _ ((lw_at lw_m3 169 rfl))) (h2 _ ((lw_at lw_m1 23 rfl))) (va_eqt (hs (Cond.eq (.static "java/lang/String" "COMPACT_STRINGS" "Z") (.int 1)) (by decide +kernel))) hA) hq)
theorem ZW.si {zs : Nat → Nat} {A : Nat → Prop} {U : State} {H : Heap} (h : ZW zs A U H) : ∃ v, (v = Value.null ∨ ∃ t, v = .ref t) ∧ va_Z "jdk/internal/util/Preconditions" "SIOOBE_FORMATTER" "Ljava/util/function/BiFunction;" v A U H := by
  obtain ⟨-, -, -, s0, a0, h1, h2, h3, h4, h5, h6⟩ := h
  have hs := flat_of_before _ h1
  have hA : ∀ a : Nat, a < s0.heap.size → ¬ A a := fun a ha => (h5 a ha).1
  have hq : ∀ a : Nat, a < s0.heap.size → ¬ A a → H[a]? = s0.heap[a]? := fun a ha _ => (h5 a ha).2
  rcases va_Zqof (A := A) (h2 _ ((lw_at lw_m3 212 rfl))) (h2 _ ((lw_at lw_m1 27 rfl))) (hs (Cond.isRef (.static "jdk/internal/util/Preconditions" "SIOOBE_FORMATTER" "Ljava/util/function/BiFunction;")) (by decide +kernel)) hA with h | ⟨t, h⟩
  · exact ⟨_, Or.inl rfl, va_Z.moved h3.alike (va_Z.kept h hq)⟩
  · exact ⟨_, Or.inr ⟨t, rfl⟩, va_Z.moved h3.alike (va_Z.kept h hq)⟩
/-- what stays all through a String method -/
def sCx (D : va_G) (ac : Nat → ClassId) (A : Nat → Prop) (zs : Nat → Nat) (p : Program) (s : State) (m : MethodId) (args : Array Value) (c : Code) (cc : ByteArray) (nL : Nat) (own : String) : Prop := p.tables.exec = Jvm.exec ∧ c.code = cc ∧ c.maxLocals = nL ∧ s.vm.findClass own = some m.cls ∧ (∀ w ∈ lw_all, w.before args s = true) ∧ NW s ∧ va_K D cCl (cTys ac) s ∧ ZW zs A s s.heap
section
variable {l : Launch} {D : va_G} {ac : Nat → ClassId} {A : Nat → Prop} {zs : Nat → Nat}
theorem sMet {y : MethodName} {cc : ByteArray} {nL n : Nat} {rt : Option FieldType} {As : List Value} {σ : CM} {v : Option Value} (hpl : plainName y.cls = true) (hlen : (lg_sl As).length ≤ nL)
    (body : ∀ p e s m below meth c, sCx D ac A zs p s m As.toArray c cc nL y.cls → meth.sig.returnType = rt → meth.locks = false → HP D ac A σ s.heap → ∀ LS, LH LS nL (lent As nL) → W p l e (rmS n 0 0) s m As.toArray below meth c s.heap [] 0 0 (MQ below (cQc D ac A (.inl v, σ)) As.toArray s 0 0 A) (F0 m 0 LS [])) :
    Met l y (ws_ y cc nL rt) (rmS n 0 0) (cPc D ac A zs As σ) (cQc D ac A (.inl v, σ)) 0 0 A := by
  refine Met.ofW (cc := cc) (maxL := nL) (ret := rt) hpl rfl ?_
  intro p e s m args below meth c s₁ B hml hv
  obtain ⟨rfl, hP, hK, hN, hZ⟩ := hv
  have hts0 := atoms_spec (ws := ws_ y cc nL rt) B.pre
  have hts : ∀ w ∈ lw_all, w.before _ s = true := fun w h => hts0 w (List.mem_cons_of_mem _ h)
  rw [lg_entry_eq]
  exact body p e s m below meth c ⟨B.exec, B.bytes, hml, findClass_of_methodNamed B.named, hts, hN, hK, hZ⟩ B.returns B.notSynchronized hP _ (LH.entry hlen)
theorem sCall {p : Program} {e : Env} {s : State} {m : MethodId} {args : Array Value} {below : List Frame} {meth : Method} {c : Code} {cc : ByteArray} {H : Heap} {locs : List Loc} {Q : State → Prop} {pc nL k kR nL2 na : Nat} {LS : Array Slot} {As rest : List Value} {own : String} {σ : CM} {ins : Instr} {inst : Bool} {C : Option String} {y : MethodName} {b : ByteArray} {rt2 : Option FieldType} {v : Option Value}
    (F : sCx D ac A zs p s m args c cc nL own) (hP : HP D ac A σ H) (hS : va_S A s.heap H locs) (hcok : COK ins own inst C y b rt2 nL2 na) (hM : Met l y (ws_ y b nL2 rt2) (rmS k 0 0) (cPc D ac A zs As σ) (cQc D ac A (.inl v, σ)) 0 0 A) (hk : k + 1 ≤ kR) (hnL : nL2 ≤ 40)
    (hrecv : inst = true → ∃ bb As', As = .ref bb :: As' ∧ ∀ CC, C = some CC → ∃ cellB : Cell, H[bb]? = some cellB ∧ cellB.vm.isStatics = false ∧ s.vm.findClass CC = some cellB.cls) (hna : As.length = na) (hsz : LS.size = nL) (hcat : catS rest ≤ 8) (hd : decode cc pc = .ok (ins, 3))
    (kk : ∀ (H1 : Heap) (locs1 : List Loc), HP D ac A σ H1 → va_S A s.heap H1 locs1 → W p l e (rmS kR 0 0) s m args below meth c H1 locs1 0 0 Q (F0 m (pc + 3) LS (v.toList ++ rest))) : W p l e (rmS kR 0 0) s m args below meth c H locs 0 0 Q (F0 m pc LS (As.reverse ++ rest)) := by
  obtain ⟨hx, hb, hml, hown, hts, hN, hK, hZ⟩ := F
  have hrun := hcok p l e (rmS kR 0 0) s m args below meth c cc nL H locs 0 0 (rmS k 0 0) (cPc D ac A zs As σ) _ 0 0 A As rest pc LS ⟨hx, hb, hml, hown, hts⟩ hN hM rfl rfl hk (by show 8 + (nL2 + 11) + 64 * k ≤ 64 * kR; omega) ⟨cPc_blind, fun U hU hW => ⟨rfl, by rw [hU]; exact hP, va_K.moved hW.alike hK, hN.warm hW, hZ.go hW hS hU⟩⟩ hrecv hna hsz hcat hd (Nat.le_refl _) (Nat.le_refl _)
  exact c_callG hrun hS kk
theorem SAt.rc {s : State} {H : Heap} {locs : List Loc} {a : Nat} {tx : String} (h : SAt A s s.heap a tx) (hS : va_S A s.heap H locs) {As' : List Value} : true = true → ∃ bb As'', Value.ref a :: As' = .ref bb :: As'' ∧ ∀ CC, some "java/lang/String" = some CC → ∃ cellB : Cell, H[bb]? = some cellB ∧ cellB.vm.isStatics = false ∧ s.vm.findClass CC = some cellB.cls := by
  intro _
  refine ⟨a, As', rfl, fun CC hC => ?_⟩
  cases hC
  obtain ⟨av, h1, -⟩ := h
  obtain ⟨cell, g1, g2, g3, -⟩ := h1.kept hS.2.1
  exact ⟨cell, g1, g2, g3⟩
def yS (n d : String) : MethodName := ⟨"java/lang/String", n, d⟩
def yL (n d : String) : MethodName := ⟨"java/lang/StringLatin1", n, d⟩
theorem qS_i : Cond.initialized "java/lang/String" ∈ lw_all := (lw_g (lw_at lw_m1 23 rfl) rfl)
theorem qL_i : Cond.initialized "java/lang/StringLatin1" ∈ lw_all := (lw_g (lw_at lw_m1 24 rfl) rfl)
variable {i idx : Nat} {tx : String} {σ : CM}
theorem c_isL1 (hi : sStr[i]? = some (idx, tx)) : Met l (yS "isLatin1" "()Z") (ws_ (yS "isLatin1" "()Z") cJ3_isLatin1 1 (some .boolean)) (rmS 1 0 0) (cPc D ac A zs [.ref (zs i)] σ) (cQc D ac A (.inl (some (.int 1)), σ)) 0 0 A := by
  refine sMet (by decide) (by show 1 ≤ 1; decide) ?_
  intro p e s m below meth c F hrt hlk hP LS hL
  obtain ⟨hx, hb, hml, hown, hts, hN, hK, hZ⟩ := F
  have hS : va_S A s.heap s.heap [] := va_S.rf
  obtain ⟨av, g1, g2, g3, g4⟩ := hZ.str hi
  refine va_gets hx hb hZ.cs hS hown (hts _ (lw_g (lw_at lw_m3 168 rfl) rfl)) (fun x hx => hx) dJ3_isLatin1_0 ?_
  refine stp_sound hx hb dJ3_isLatin1_3 (q := (6, [some (.ref (zs i))], [])) rfl hL (fun LS hL => ?_)
  refine stp_sound hx hb dJ3_isLatin1_6 (q := (7, [some (.ref (zs i))], [.ref (zs i)])) rfl hL (fun LS hL => ?_)
  refine vk_getf hx hb g2 hS hown (hts _ (lw_g (lw_at lw_m12 115 rfl) rfl)) (fun x hx => hx) dJ3_isLatin1_7 ?_
  refine stp_sound hx hb dJ3_isLatin1_10 (q := (13, [some (.ref (zs i))], [])) rfl hL (fun LS hL => ?_)
  refine stp_sound hx hb dJ3_isLatin1_13 (q := (14, [some (.ref (zs i))], [.int 1])) rfl hL (fun LS hL => ?_)
  refine stp_sound hx hb dJ3_isLatin1_14 (q := (18, [some (.ref (zs i))], [.int 1])) rfl hL (fun LS hL => ?_)
  exact W.zret hx hb hrt rfl (fun t ht hW => ⟨rfl, by rw [ht]; exact hP, hS.F ht⟩) hS.2.2 dJ3_isLatin1_18 hlk
theorem c_coder (hi : sStr[i]? = some (idx, tx)) : Met l (yS "coder" "()B") (ws_ (yS "coder" "()B") cJ3_coder 1 (some .byte)) (rmS 1 0 0) (cPc D ac A zs [.ref (zs i)] σ) (cQc D ac A (.inl (some (.int 0)), σ)) 0 0 A := by
  refine sMet (by decide) (by show 1 ≤ 1; decide) ?_
  intro p e s m below meth c F hrt hlk hP LS hL
  obtain ⟨hx, hb, hml, hown, hts, hN, hK, hZ⟩ := F
  have hS : va_S A s.heap s.heap [] := va_S.rf
  obtain ⟨av, g1, g2, g3, g4⟩ := hZ.str hi
  refine va_gets hx hb hZ.cs hS hown (hts _ (lw_g (lw_at lw_m3 168 rfl) rfl)) (fun x hx => hx) dJ3_coder_0 ?_
  refine stp_sound hx hb dJ3_coder_3 (q := (6, [some (.ref (zs i))], [])) rfl hL (fun LS hL => ?_)
  refine stp_sound hx hb dJ3_coder_6 (q := (7, [some (.ref (zs i))], [.ref (zs i)])) rfl hL (fun LS hL => ?_)
  refine vk_getf hx hb g2 hS hown (hts _ (lw_g (lw_at lw_m12 115 rfl) rfl)) (fun x hx => hx) dJ3_coder_7 ?_
  refine stp_sound hx hb dJ3_coder_10 (q := (14, [some (.ref (zs i))], [.int 0])) rfl hL (fun LS hL => ?_)
  exact W.zret hx hb hrt rfl (fun t ht hW => ⟨rfl, by rw [ht]; exact hP, hS.F ht⟩) hS.2.2 dJ3_coder_14 hlk
theorem shr0 {n : Nat} (h : n < 100) : Int32.ofNat n >>> ((0 : Int32) &&& 31) = Int32.ofNat n := by
  have : ∀ n : Fin 100, Int32.ofNat n.1 >>> ((0 : Int32) &&& 31) = Int32.ofNat n.1 := by decide +kernel
  exact this ⟨n, h⟩
theorem c_len (hi : sStr[i]? = some (idx, tx)) : Met l (yS "length" "()I") (ws_ (yS "length" "()I") cJ3_length 1 (some .int)) (rmS 2 0 0) (cPc D ac A zs [.ref (zs i)] σ) (cQc D ac A (.inl (some (.int (Int32.ofNat tx.length))), σ)) 0 0 A := by
  have hlen : tx.length < 100 := (ch_ok _ (List.mem_of_getElem? hi)).1
  refine sMet (by decide) (by show 1 ≤ 1; decide) ?_
  intro p e s m below meth c F hrt hlk hP LS hL
  have F0' := F
  obtain ⟨hx, hb, hml, hown, hts, hN, hK, hZ⟩ := F
  have hS : va_S A s.heap s.heap [] := va_S.rf
  have hst := hZ.str hi
  obtain ⟨av, g1, g2, g3, g4⟩ := hZ.str hi
  refine stp_sound hx hb dJ3_length_0 (q := (1, [some (.ref (zs i))], [.ref (zs i)])) rfl hL (fun LS hL => ?_)
  refine vk_getf hx hb g3 hS hown (hts _ (lw_g (lw_at lw_m12 116 rfl) rfl)) (fun x hx => hx) dJ3_length_1 ?_
  refine va_tlen hx hb g4 hS (v := Int32.ofNat tx.length) rfl dJ3_length_4 ?_
  refine stp_sound hx hb dJ3_length_5 (q := (6, [some (.ref (zs i))], [.ref (zs i), .int (Int32.ofNat tx.length)])) rfl hL (fun LS hL => ?_)
  refine sCall (As := [.ref (zs i)]) (rest := [.int (Int32.ofNat tx.length)]) F0' hP hS (COK.V (n := 0) (lw_g (lw_at lw_m3 174 rfl) rfl) (lw_g (lw_at lw_m3 175 rfl) rfl) (lw_g (lw_at lw_m3 176 rfl) rfl) qS_i (lw_g (lw_at lw_m3 177 rfl) rfl) rfl ⟨by decide, by decide, by decide +kernel⟩) (c_coder hi) (by decide) (by decide) (hst.rc hS) rfl hL.2.1 (by show 1 ≤ 8; decide) dJ3_length_6 (fun H1 locs1 hP1 hS1 => ?_)
  refine stp_sound hx hb dJ3_length_9 (q := (10, [some (.ref (zs i))], [.int (Int32.ofNat tx.length)])) (by show some (_, _, [Value.int (Int32.ofNat tx.length >>> ((0 : Int32) &&& 31))]) = _; rw [shr0 hlen]) hL (fun LS hL => ?_)
  exact W.iret hx hb hrt (fun t ht hW => ⟨rfl, by rw [ht]; exact hP1, hS1.F ht⟩) hS1.2.2 dJ3_length_10 hlk
end
