/-! CALLS THAT ARE TAKEN AS ONE STEP: their links (printed by gen/cjok.py) -/
set_option maxRecDepth 100000
def kName (k : Nat) : MethodName := match k with
  | 1 => Lib.objectInit
  | 2 => Lib.Math.min.name
  | 3 => Lib.Math.max.name
  | 4 => Lib.Math.abs.name
  | 5 => Lib.MathLoose.abs_long.x
  | 6 => arraycopyName
  | 7 => ⟨"java/util/Arrays", "copyOf", "([Ljava/lang/Object;I)[Ljava/lang/Object;"⟩
  | 8 => ⟨"java/lang/String", "length", "()I"⟩
  | 9 => ⟨"java/lang/String", "charAt", "(I)C"⟩
  | 10 => ⟨"java/lang/String", "indexOf", "(I)I"⟩
  | 11 => ⟨"java/lang/Exception", "<init>", "()V"⟩
  | 12 => ⟨"java/util/NoSuchElementException", "<init>", "()V"⟩
  | 13 => ⟨"java/lang/Long", "valueOf", "(J)Ljava/lang/Long;"⟩
  | _ => ⟨"", "", ""⟩
def kSig (k : Nat) : Nat × Nat := match k with
  | 1 => (1, 1)
  | 2 => (2, 2)
  | 3 => (2, 2)
  | 4 => (2, 1)
  | 5 => (2, 1)
  | 6 => (2, 5)
  | 7 => (2, 2)
  | 8 => (0, 1)
  | 9 => (0, 2)
  | 10 => (0, 2)
  | 11 => (1, 1)
  | 12 => (1, 1)
  | 13 => (2, 1)
  | _ => (0, 0)
def okI (x : Nat × Nat × Nat × Nat) : Prop := ∀ o idx : Nat, idx < 1000 → o * 1000 + idx = x.1 → Cond.methodLink (oN o) idx (kName x.2.1) ∈ lw_all ∧ x.2.2 = kSig x.2.1
theorem il_0_3 : okI (3, 2, 2, 2) := by
  intro o idx h1 h2
  have e1 : o = 0 := by omega
  have e2 : idx = 3 := by omega
  subst e1 e2
  exact ⟨(lw_g (lw_at lw_m6 201 rfl) rfl), rfl⟩
theorem il_0_9 : okI (9, 3, 2, 2) := by
  intro o idx h1 h2
  have e1 : o = 0 := by omega
  have e2 : idx = 9 := by omega
  subst e1 e2
  exact ⟨(lw_g (lw_at lw_m6 202 rfl) rfl), rfl⟩
theorem il_0_50 : okI (50, 1, 1, 1) := by
  intro o idx h1 h2
  have e1 : o = 0 := by omega
  have e2 : idx = 50 := by omega
  subst e1 e2
  exact ⟨(lw_g (lw_at lw_m1 68 rfl) rfl), rfl⟩
theorem il_0_229 : okI (229, 4, 2, 1) := by
  intro o idx h1 h2
  have e1 : o = 0 := by omega
  have e2 : idx = 229 := by omega
  subst e1 e2
  exact ⟨(lw_g (lw_at lw_m7 60 rfl) rfl), rfl⟩
theorem il_0_355 : okI (355, 6, 2, 5) := by
  intro o idx h1 h2
  have e1 : o = 0 := by omega
  have e2 : idx = 355 := by omega
  subst e1 e2
  exact ⟨(lw_g (lw_at lw_m8 189 rfl) rfl), rfl⟩
theorem il_0_398 : okI (398, 12, 1, 1) := by
  intro o idx h1 h2
  have e1 : o = 0 := by omega
  have e2 : idx = 398 := by omega
  subst e1 e2
  exact ⟨(lw_g (lw_at lw_m9 65 rfl) rfl), rfl⟩
theorem il_1_3 : okI (1003, 1, 1, 1) := by
  intro o idx h1 h2
  have e1 : o = 1 := by omega
  have e2 : idx = 3 := by omega
  subst e1 e2
  exact ⟨(lw_g (lw_at lw_m1 76 rfl) rfl), rfl⟩
theorem il_1_127 : okI (1127, 8, 0, 1) := by
  intro o idx h1 h2
  have e1 : o = 1 := by omega
  have e2 : idx = 127 := by omega
  subst e1 e2
  exact ⟨(lw_g (lw_at lw_m4 11 rfl) rfl), rfl⟩
theorem il_1_133 : okI (1133, 9, 0, 2) := by
  intro o idx h1 h2
  have e1 : o = 1 := by omega
  have e2 : idx = 133 := by omega
  subst e1 e2
  exact ⟨(lw_g (lw_at lw_m4 12 rfl) rfl), rfl⟩
theorem il_1_152 : okI (1152, 10, 0, 2) := by
  intro o idx h1 h2
  have e1 : o = 1 := by omega
  have e2 : idx = 152 := by omega
  subst e1 e2
  exact ⟨(lw_g (lw_at lw_m3 156 rfl) rfl), rfl⟩
theorem il_1_281 : okI (1281, 13, 2, 1) := by
  intro o idx h1 h2
  have e1 : o = 1 := by omega
  have e2 : idx = 281 := by omega
  subst e1 e2
  exact ⟨(lw_g (lw_at lw_m5 85 rfl) rfl), rfl⟩
theorem il_2_3 : okI (2003, 1, 1, 1) := by
  intro o idx h1 h2
  have e1 : o = 2 := by omega
  have e2 : idx = 3 := by omega
  subst e1 e2
  exact ⟨(lw_g (lw_at lw_m1 171 rfl) rfl), rfl⟩
theorem il_3_3 : okI (3003, 1, 1, 1) := by
  intro o idx h1 h2
  have e1 : o = 3 := by omega
  have e2 : idx = 3 := by omega
  subst e1 e2
  exact ⟨(lw_g (lw_at lw_m1 214 rfl) rfl), rfl⟩
theorem il_4_1 : okI (4001, 1, 1, 1) := by
  intro o idx h1 h2
  have e1 : o = 4 := by omega
  have e2 : idx = 1 := by omega
  subst e1 e2
  exact ⟨(lw_g (lw_at lw_m2 8 rfl) rfl), rfl⟩
theorem il_5_1 : okI (5001, 1, 1, 1) := by
  intro o idx h1 h2
  have e1 : o = 5 := by omega
  have e2 : idx = 1 := by omega
  subst e1 e2
  exact ⟨(lw_g (lw_at lw_m2 162 rfl) rfl), rfl⟩
theorem il_6_19 : okI (6019, 6, 2, 5) := by
  intro o idx h1 h2
  have e1 : o = 6 := by omega
  have e2 : idx = 19 := by omega
  subst e1 e2
  exact ⟨(lw_g (lw_at lw_m7 147 rfl) rfl), rfl⟩
theorem il_6_25 : okI (6025, 5, 2, 1) := by
  intro o idx h1 h2
  have e1 : o = 6 := by omega
  have e2 : idx = 25 := by omega
  subst e1 e2
  exact ⟨(lw_g (lw_at lw_m7 37 rfl) rfl), rfl⟩
theorem il_6_33 : okI (6033, 2, 2, 2) := by
  intro o idx h1 h2
  have e1 : o = 6 := by omega
  have e2 : idx = 33 := by omega
  subst e1 e2
  exact ⟨(lw_g (lw_at lw_m8 34 rfl) rfl), rfl⟩
theorem il_9_19 : okI (9019, 6, 2, 5) := by
  intro o idx h1 h2
  have e1 : o = 9 := by omega
  have e2 : idx = 19 := by omega
  subst e1 e2
  exact ⟨(lw_g (lw_at lw_m7 158 rfl) rfl), rfl⟩
theorem il_9_25 : okI (9025, 4, 2, 1) := by
  intro o idx h1 h2
  have e1 : o = 9 := by omega
  have e2 : idx = 25 := by omega
  subst e1 e2
  exact ⟨(lw_g (lw_at lw_m7 48 rfl) rfl), rfl⟩
theorem il_9_31 : okI (9031, 2, 2, 2) := by
  intro o idx h1 h2
  have e1 : o = 9 := by omega
  have e2 : idx = 31 := by omega
  subst e1 e2
  exact ⟨(lw_g (lw_at lw_m7 205 rfl) rfl), rfl⟩
theorem il_10_15 : okI (10015, 6, 2, 5) := by
  intro o idx h1 h2
  have e1 : o = 10 := by omega
  have e2 : idx = 15 := by omega
  subst e1 e2
  exact ⟨(lw_g (lw_at lw_m7 152 rfl) rfl), rfl⟩
theorem il_10_21 : okI (10021, 2, 2, 2) := by
  intro o idx h1 h2
  have e1 : o = 10 := by omega
  have e2 : idx = 21 := by omega
  subst e1 e2
  exact ⟨(lw_g (lw_at lw_m7 200 rfl) rfl), rfl⟩
theorem il_12_1 : okI (12001, 1, 1, 1) := by
  intro o idx h1 h2
  have e1 : o = 12 := by omega
  have e2 : idx = 1 := by omega
  subst e1 e2
  exact ⟨(lw_g (lw_at lw_m4 173 rfl) rfl), rfl⟩
theorem il_28_1 : okI (28001, 1, 1, 1) := by
  intro o idx h1 h2
  have e1 : o = 28 := by omega
  have e2 : idx = 1 := by omega
  subst e1 e2
  exact ⟨(lw_g (lw_at lw_m6 68 rfl) rfl), rfl⟩
theorem il_29_1 : okI (29001, 1, 1, 1) := by
  intro o idx h1 h2
  have e1 : o = 29 := by omega
  have e2 : idx = 1 := by omega
  subst e1 e2
  exact ⟨(lw_g (lw_at lw_m7 163 rfl) rfl), rfl⟩
theorem il_30_1 : okI (30001, 1, 1, 1) := by
  intro o idx h1 h2
  have e1 : o = 30 := by omega
  have e2 : idx = 1 := by omega
  subst e1 e2
  exact ⟨(lw_g (lw_at lw_m9 32 rfl) rfl), rfl⟩
theorem il_33_9 : okI (33009, 1, 1, 1) := by
  intro o idx h1 h2
  have e1 : o = 33 := by omega
  have e2 : idx = 9 := by omega
  subst e1 e2
  exact ⟨(lw_g (lw_at lw_m3 23 rfl) rfl), rfl⟩
theorem il_34_9 : okI (34009, 1, 1, 1) := by
  intro o idx h1 h2
  have e1 : o = 34 := by omega
  have e2 : idx = 9 := by omega
  subst e1 e2
  exact ⟨(lw_g (lw_at lw_m3 64 rfl) rfl), rfl⟩
theorem il_35_1 : okI (35001, 11, 1, 1) := by
  intro o idx h1 h2
  have e1 : o = 35 := by omega
  have e2 : idx = 1 := by omega
  subst e1 e2
  exact ⟨(lw_g (lw_at lw_m4 82 rfl) rfl), rfl⟩
theorem il_36_66 : okI (36066, 7, 2, 2) := by
  intro o idx h1 h2
  have e1 : o = 36 := by omega
  have e2 : idx = 66 := by omega
  subst e1 e2
  exact ⟨(lw_g (lw_at lw_m5 23 rfl) rfl), rfl⟩
theorem il_36_79 : okI (36079, 3, 2, 2) := by
  intro o idx h1 h2
  have e1 : o = 36 := by omega
  have e2 : idx = 79 := by omega
  subst e1 e2
  exact ⟨(lw_g (lw_at lw_m5 79 rfl) rfl), rfl⟩
theorem il_36_112 : okI (36112, 6, 2, 5) := by
  intro o idx h1 h2
  have e1 : o = 36 := by omega
  have e2 : idx = 112 := by omega
  subst e1 e2
  exact ⟨(lw_g (lw_at lw_m7 122 rfl) rfl), rfl⟩
theorem il_39_1 : okI (39001, 1, 1, 1) := by
  intro o idx h1 h2
  have e1 : o = 39 := by omega
  have e2 : idx = 1 := by omega
  subst e1 e2
  exact ⟨(lw_g (lw_at lw_m5 166 rfl) rfl), rfl⟩
theorem il_40_1 : okI (40001, 1, 1, 1) := by
  intro o idx h1 h2
  have e1 : o = 40 := by omega
  have e2 : idx = 1 := by omega
  subst e1 e2
  exact ⟨(lw_g (lw_at lw_m5 226 rfl) rfl), rfl⟩
theorem il_41_3 : okI (41003, 1, 1, 1) := by
  intro o idx h1 h2
  have e1 : o = 41 := by omega
  have e2 : idx = 3 := by omega
  subst e1 e2
  exact ⟨(lw_g (lw_at lw_m2 103 rfl) rfl), rfl⟩
theorem il_43_9 : okI (43009, 1, 1, 1) := by
  intro o idx h1 h2
  have e1 : o = 43 := by omega
  have e2 : idx = 9 := by omega
  subst e1 e2
  exact ⟨(lw_g (lw_at lw_m2 230 rfl) rfl), rfl⟩
theorem il_45_1 : okI (45001, 1, 1, 1) := by
  intro o idx h1 h2
  have e1 : o = 45 := by omega
  have e2 : idx = 1 := by omega
  subst e1 e2
  exact ⟨(lw_g (lw_at lw_m1 226 rfl) rfl), rfl⟩
theorem il_48_194 : okI (48194, 3, 2, 2) := by
  intro o idx h1 h2
  have e1 : o = 48 := by omega
  have e2 : idx = 194 := by omega
  subst e1 e2
  exact ⟨(lw_g (lw_at lw_m5 18 rfl) rfl), rfl⟩
theorem il_49_150 : okI (49150, 6, 2, 5) := by
  intro o idx h1 h2
  have e1 : o = 49 := by omega
  have e2 : idx = 150 := by omega
  subst e1 e2
  exact ⟨(lw_g (lw_at lw_m5 76 rfl) rfl), rfl⟩
theorem il_49_304 : okI (49304, 2, 2, 2) := by
  intro o idx h1 h2
  have e1 : o = 49 := by omega
  have e2 : idx = 304 := by omega
  subst e1 e2
  exact ⟨(lw_g (lw_at lw_m5 75 rfl) rfl), rfl⟩
theorem il_51_1 : okI (51001, 1, 1, 1) := by
  intro o idx h1 h2
  have e1 : o = 51 := by omega
  have e2 : idx = 1 := by omega
  subst e1 e2
  exact ⟨(lw_g (lw_at lw_m5 100 rfl) rfl), rfl⟩
theorem iTab_ok : ∀ x ∈ iTab, okI x := List.forall_mem_cons.mpr ⟨il_0_3, List.forall_mem_cons.mpr ⟨il_0_9, List.forall_mem_cons.mpr ⟨il_0_50, List.forall_mem_cons.mpr ⟨il_0_229, List.forall_mem_cons.mpr ⟨il_0_355, List.forall_mem_cons.mpr ⟨il_0_398, List.forall_mem_cons.mpr ⟨il_1_3, List.forall_mem_cons.mpr ⟨il_1_127, List.forall_mem_cons.mpr ⟨il_1_133, List.forall_mem_cons.mpr ⟨il_1_152, List.forall_mem_cons.mpr ⟨il_1_281, List.forall_mem_cons.mpr ⟨il_2_3, List.forall_mem_cons.mpr ⟨il_3_3, List.forall_mem_cons.mpr ⟨il_4_1, List.forall_mem_cons.mpr ⟨il_5_1, List.forall_mem_cons.mpr ⟨il_6_19, List.forall_mem_cons.mpr ⟨il_6_25, List.forall_mem_cons.mpr ⟨il_6_33, List.forall_mem_cons.mpr ⟨il_9_19, List.forall_mem_cons.mpr ⟨il_9_25, List.forall_mem_cons.mpr ⟨il_9_31, List.forall_mem_cons.mpr ⟨il_10_15, List.forall_mem_cons.mpr ⟨il_10_21, List.forall_mem_cons.mpr ⟨il_12_1, List.forall_mem_cons.mpr ⟨il_28_1, List.forall_mem_cons.mpr ⟨il_29_1, List.forall_mem_cons.mpr ⟨il_30_1, List.forall_mem_cons.mpr ⟨il_33_9, List.forall_mem_cons.mpr ⟨il_34_9, List.forall_mem_cons.mpr ⟨il_35_1, List.forall_mem_cons.mpr ⟨il_36_66, List.forall_mem_cons.mpr ⟨il_36_79, List.forall_mem_cons.mpr ⟨il_36_112, List.forall_mem_cons.mpr ⟨il_39_1, List.forall_mem_cons.mpr ⟨il_40_1, List.forall_mem_cons.mpr ⟨il_41_3, List.forall_mem_cons.mpr ⟨il_43_9, List.forall_mem_cons.mpr ⟨il_45_1, List.forall_mem_cons.mpr ⟨il_48_194, List.forall_mem_cons.mpr ⟨il_49_150, List.forall_mem_cons.mpr ⟨il_49_304, List.forall_mem_cons.mpr ⟨il_51_1, fun _ h => absurd h List.not_mem_nil⟩⟩⟩⟩⟩⟩⟩⟩⟩⟩⟩⟩⟩⟩⟩⟩⟩⟩⟩⟩⟩⟩⟩⟩⟩⟩⟩⟩⟩⟩⟩⟩⟩⟩⟩⟩⟩⟩⟩⟩⟩⟩
theorem il_ok {o idx kind tag n : Nat} (h : iT o idx = some (kind, tag, n)) : Cond.methodLink (oN o) idx (kName kind) ∈ lw_all ∧ (tag, n) = kSig kind := by
  unfold iT at h
  split at h
  · rename_i hi
    exact iTab_ok _ (lookup_mem h) o idx hi rfl
  · cases h
theorem qj_oi : Cond.instanceMethod Lib.objectInit ∈ lw_all := (lw_g (lw_at lw_m1 69 rfl) rfl)
theorem qj_oc : Cond.code Lib.objectInit ⟨#[0xb1]⟩ 1 none ∈ lw_all := (lw_g (lw_at lw_m1 70 rfl) rfl)
theorem qj_mi : Cond.initialized "java/lang/Math" ∈ lw_all := (lw_g (lw_at lw_m1 25 rfl) rfl)
theorem qj_xs : Cond.static Lib.Math.max.name ∈ lw_all := (lw_g (lw_at lw_m3 185 rfl) rfl)
theorem qj_xc : Cond.code Lib.Math.max.name Lib.Math.max.code 2 (some .int) ∈ lw_all := (lw_g (lw_at lw_m3 186 rfl) rfl)
theorem qj_ns : Cond.static Lib.Math.min.name ∈ lw_all := (lw_g (lw_at lw_m3 188 rfl) rfl)
theorem qj_nc : Cond.code Lib.Math.min.name Lib.Math.min.code 2 (some .int) ∈ lw_all := (lw_g (lw_at lw_m3 189 rfl) rfl)
theorem qj_as : Cond.static Lib.Math.abs.name ∈ lw_all := (lw_g (lw_at lw_m7 49 rfl) rfl)
theorem qj_ac : Cond.code Lib.Math.abs.name Lib.Math.abs.code 1 (some .int) ∈ lw_all := (lw_g (lw_at lw_m7 50 rfl) rfl)
theorem qj_ls : Cond.static Lib.MathLoose.abs_long.x ∈ lw_all := (lw_g (lw_at lw_m7 38 rfl) rfl)
theorem qj_lc : Cond.code Lib.MathLoose.abs_long.x Lib.MathLoose.abs_long.code 2 (some .long) ∈ lw_all := (lw_g (lw_at lw_m7 39 rfl) rfl)
theorem qj_cs : Cond.static arraycopyName ∈ lw_all := (lw_g (lw_at lw_m5 77 rfl) rfl)
theorem qj_cn : Cond.native arraycopyName ∈ lw_all := (lw_g (lw_at lw_m5 78 rfl) rfl)
theorem qj_si : Cond.initialized "java/lang/System" ∈ lw_all := (lw_g (lw_at lw_m1 41 rfl) rfl)
