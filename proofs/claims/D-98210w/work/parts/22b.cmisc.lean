/-! THE COMPONENT: classes made, casts, arrays made, constants (printed by gen/ctab.py) -/
set_option maxRecDepth 100000
/-- arrays' kinds: 0 int, 1 boolean, 2 long, 3 byte, 4 Object, 5 Lock, 6 Mark, 7 String, 8 int[], 9 Object (one of the JDK's own, only read) -/
def kTy (k : Nat) : FieldType := match k with
  | 0 => .int
  | 1 => .boolean
  | 2 => .long
  | 3 => .byte
  | 5 => .object "KnowLocks$Lock"
  | 6 => .object "KnowLocks$Mark"
  | 7 => .object "java/lang/String"
  | 8 => .array .int
  | _ => .object "java/lang/Object"

def okNw (x : Nat × Nat × Nat) : Prop := Cond.classLink (oN x.1) x.2.1 (cNm x.2.2) ∈ lw_all ∧ (cCl[x.2.2]?).isSome = true ∧ x.2.2 ≠ 39
def nwT_l0 : List (Nat × Nat × Nat × Nat) := [(12, 0, 12, 13), (18, 0, 18, 14), (21, 0, 21, 15), (24, 0, 24, 16), (27, 0, 27, 12), (30, 0, 30, 9), (35, 0, 35, 10), (38, 0, 38, 7), (41, 0, 41, 8), (44, 0, 44, 11), (47, 0, 47, 6), (53, 0, 53, 1), (60, 0, 60, 2), (63, 0, 63, 3)]
theorem nwT_o0 : ∀ x ∈ nwT_l0, okNw x.2 := List.forall_mem_cons.mpr ⟨(⟨(lw_g (lw_at lw_m4 165 rfl) rfl), rfl, by decide⟩ : okNw (0, 12, 13)), List.forall_mem_cons.mpr ⟨(⟨(lw_g (lw_at lw_m4 195 rfl) rfl), rfl, by decide⟩ : okNw (0, 18, 14)), List.forall_mem_cons.mpr ⟨(⟨(lw_g (lw_at lw_m4 209 rfl) rfl), rfl, by decide⟩ : okNw (0, 21, 15)), List.forall_mem_cons.mpr ⟨(⟨(lw_g (lw_at lw_m4 220 rfl) rfl), rfl, by decide⟩ : okNw (0, 24, 16)), List.forall_mem_cons.mpr ⟨(⟨(lw_g (lw_at lw_m4 231 rfl) rfl), rfl, by decide⟩ : okNw (0, 27, 12)), List.forall_mem_cons.mpr ⟨(⟨(lw_g (lw_at lw_m2 95 rfl) rfl), rfl, by decide⟩ : okNw (0, 30, 9)), List.forall_mem_cons.mpr ⟨(⟨(lw_g (lw_at lw_m2 111 rfl) rfl), rfl, by decide⟩ : okNw (0, 35, 10)), List.forall_mem_cons.mpr ⟨(⟨(lw_g (lw_at lw_m2 121 rfl) rfl), rfl, by decide⟩ : okNw (0, 38, 7)), List.forall_mem_cons.mpr ⟨(⟨(lw_g (lw_at lw_m2 137 rfl) rfl), rfl, by decide⟩ : okNw (0, 41, 8)), List.forall_mem_cons.mpr ⟨(⟨(lw_g (lw_at lw_m2 146 rfl) rfl), rfl, by decide⟩ : okNw (0, 44, 11)), List.forall_mem_cons.mpr ⟨(⟨(lw_g (lw_at lw_m2 153 rfl) rfl), rfl, by decide⟩ : okNw (0, 47, 6)), List.forall_mem_cons.mpr ⟨(⟨(lw_g (lw_at lw_m1 71 rfl) rfl), rfl, by decide⟩ : okNw (0, 53, 1)), List.forall_mem_cons.mpr ⟨(⟨(lw_g (lw_at lw_m1 166 rfl) rfl), rfl, by decide⟩ : okNw (0, 60, 2)), List.forall_mem_cons.mpr ⟨(⟨(lw_g (lw_at lw_m1 209 rfl) rfl), rfl, by decide⟩ : okNw (0, 63, 3)), fun _ h => absurd h List.not_mem_nil⟩⟩⟩⟩⟩⟩⟩⟩⟩⟩⟩⟩⟩⟩
def nwT_l1 : List (Nat × Nat × Nat × Nat) := [(74, 0, 74, 36), (84, 0, 84, 31), (93, 0, 93, 33), (103, 0, 103, 32), (110, 0, 110, 34), (117, 0, 117, 30), (138, 0, 138, 35), (242, 0, 242, 29), (332, 0, 332, 28), (396, 0, 396, 38), (1159, 1, 159, 35), (1188, 1, 188, 3), (1240, 1, 240, 36), (1256, 1, 256, 12)]
theorem nwT_o1 : ∀ x ∈ nwT_l1, okNw x.2 := List.forall_mem_cons.mpr ⟨(⟨(lw_g (lw_at lw_m2 216 rfl) rfl), rfl, by decide⟩ : okNw (0, 74, 36)), List.forall_mem_cons.mpr ⟨(⟨(lw_g (lw_at lw_m2 222 rfl) rfl), rfl, by decide⟩ : okNw (0, 84, 31)), List.forall_mem_cons.mpr ⟨(⟨(lw_g (lw_at lw_m3 18 rfl) rfl), rfl, by decide⟩ : okNw (0, 93, 33)), List.forall_mem_cons.mpr ⟨(⟨(lw_g (lw_at lw_m3 46 rfl) rfl), rfl, by decide⟩ : okNw (0, 103, 32)), List.forall_mem_cons.mpr ⟨(⟨(lw_g (lw_at lw_m3 59 rfl) rfl), rfl, by decide⟩ : okNw (0, 110, 34)), List.forall_mem_cons.mpr ⟨(⟨(lw_g (lw_at lw_m3 75 rfl) rfl), rfl, by decide⟩ : okNw (0, 117, 30)), List.forall_mem_cons.mpr ⟨(⟨(lw_g (lw_at lw_m3 136 rfl) rfl), rfl, by decide⟩ : okNw (0, 138, 35)), List.forall_mem_cons.mpr ⟨(⟨(lw_g (lw_at lw_m7 123 rfl) rfl), rfl, by decide⟩ : okNw (0, 242, 29)), List.forall_mem_cons.mpr ⟨(⟨(lw_g (lw_at lw_m8 166 rfl) rfl), rfl, by decide⟩ : okNw (0, 332, 28)), List.forall_mem_cons.mpr ⟨(⟨(lw_g (lw_at lw_m9 54 rfl) rfl), rfl, by decide⟩ : okNw (0, 396, 38)), List.forall_mem_cons.mpr ⟨(⟨(lw_g (lw_at lw_m4 41 rfl) rfl), rfl, by decide⟩ : okNw (1, 159, 35)), List.forall_mem_cons.mpr ⟨(⟨(lw_g (lw_at lw_m4 2 rfl) rfl), rfl, by decide⟩ : okNw (1, 188, 3)), List.forall_mem_cons.mpr ⟨(⟨(lw_g (lw_at lw_m6 59 rfl) rfl), rfl, by decide⟩ : okNw (1, 240, 36)), List.forall_mem_cons.mpr ⟨(⟨(lw_g (lw_at lw_m4 145 rfl) rfl), rfl, by decide⟩ : okNw (1, 256, 12)), fun _ h => absurd h List.not_mem_nil⟩⟩⟩⟩⟩⟩⟩⟩⟩⟩⟩⟩⟩⟩
def nwT_l2 : List (Nat × Nat × Nat × Nat) := [(1323, 1, 323, 28), (1341, 1, 341, 20), (1356, 1, 356, 24), (1359, 1, 359, 25), (1365, 1, 365, 26), (1368, 1, 368, 27), (1374, 1, 374, 21), (1377, 1, 377, 22), (1383, 1, 383, 23), (1386, 1, 386, 18), (1389, 1, 389, 17), (1392, 1, 392, 19), (2009, 2, 9, 5), (2012, 2, 12, 2)]
theorem nwT_o2 : ∀ x ∈ nwT_l2, okNw x.2 := List.forall_mem_cons.mpr ⟨(⟨(lw_g (lw_at lw_m6 63 rfl) rfl), rfl, by decide⟩ : okNw (1, 323, 28)), List.forall_mem_cons.mpr ⟨(⟨(lw_g (lw_at lw_m5 202 rfl) rfl), rfl, by decide⟩ : okNw (1, 341, 20)), List.forall_mem_cons.mpr ⟨(⟨(lw_g (lw_at lw_m6 23 rfl) rfl), rfl, by decide⟩ : okNw (1, 356, 24)), List.forall_mem_cons.mpr ⟨(⟨(lw_g (lw_at lw_m6 31 rfl) rfl), rfl, by decide⟩ : okNw (1, 359, 25)), List.forall_mem_cons.mpr ⟨(⟨(lw_g (lw_at lw_m6 7 rfl) rfl), rfl, by decide⟩ : okNw (1, 365, 26)), List.forall_mem_cons.mpr ⟨(⟨(lw_g (lw_at lw_m6 15 rfl) rfl), rfl, by decide⟩ : okNw (1, 368, 27)), List.forall_mem_cons.mpr ⟨(⟨(lw_g (lw_at lw_m5 231 rfl) rfl), rfl, by decide⟩ : okNw (1, 374, 21)), List.forall_mem_cons.mpr ⟨(⟨(lw_g (lw_at lw_m5 239 rfl) rfl), rfl, by decide⟩ : okNw (1, 377, 22)), List.forall_mem_cons.mpr ⟨(⟨(lw_g (lw_at lw_m5 218 rfl) rfl), rfl, by decide⟩ : okNw (1, 383, 23)), List.forall_mem_cons.mpr ⟨(⟨(lw_g (lw_at lw_m5 158 rfl) rfl), rfl, by decide⟩ : okNw (1, 386, 18)), List.forall_mem_cons.mpr ⟨(⟨(lw_g (lw_at lw_m5 171 rfl) rfl), rfl, by decide⟩ : okNw (1, 389, 17)), List.forall_mem_cons.mpr ⟨(⟨(lw_g (lw_at lw_m5 181 rfl) rfl), rfl, by decide⟩ : okNw (1, 392, 19)), List.forall_mem_cons.mpr ⟨(⟨(lw_g (lw_at lw_m1 172 rfl) rfl), rfl, by decide⟩ : okNw (2, 9, 5)), List.forall_mem_cons.mpr ⟨(⟨(lw_g (lw_at lw_m8 67 rfl) rfl), rfl, by decide⟩ : okNw (2, 12, 2)), fun _ h => absurd h List.not_mem_nil⟩⟩⟩⟩⟩⟩⟩⟩⟩⟩⟩⟩⟩⟩
def nwT_l3 : List (Nat × Nat × Nat × Nat) := [(2086, 2, 86, 12), (3009, 3, 9, 36), (3040, 3, 40, 4), (3055, 3, 55, 12), (3061, 3, 61, 37), (5008, 5, 8, 5), (6010, 6, 10, 6), (9010, 9, 10, 9), (10010, 10, 10, 10), (20007, 20, 7, 36), (31051, 31, 51, 12), (33096, 33, 96, 12), (34062, 34, 62, 12), (37001, 37, 1, 37)]
theorem nwT_o3 : ∀ x ∈ nwT_l3, okNw x.2 := List.forall_mem_cons.mpr ⟨(⟨(lw_g (lw_at lw_m6 197 rfl) rfl), rfl, by decide⟩ : okNw (2, 86, 12)), List.forall_mem_cons.mpr ⟨(⟨(lw_g (lw_at lw_m1 215 rfl) rfl), rfl, by decide⟩ : okNw (3, 9, 36)), List.forall_mem_cons.mpr ⟨(⟨(lw_g (lw_at lw_m2 3 rfl) rfl), rfl, by decide⟩ : okNw (3, 40, 4)), List.forall_mem_cons.mpr ⟨(⟨(lw_g (lw_at lw_m4 130 rfl) rfl), rfl, by decide⟩ : okNw (3, 55, 12)), List.forall_mem_cons.mpr ⟨(⟨(lw_g (lw_at lw_m4 135 rfl) rfl), rfl, by decide⟩ : okNw (3, 61, 37)), List.forall_mem_cons.mpr ⟨(⟨(lw_g (lw_at lw_m7 129 rfl) rfl), rfl, by decide⟩ : okNw (5, 8, 5)), List.forall_mem_cons.mpr ⟨(⟨(lw_g (lw_at lw_m7 146 rfl) rfl), rfl, by decide⟩ : okNw (6, 10, 6)), List.forall_mem_cons.mpr ⟨(⟨(lw_g (lw_at lw_m7 157 rfl) rfl), rfl, by decide⟩ : okNw (9, 10, 9)), List.forall_mem_cons.mpr ⟨(⟨(lw_g (lw_at lw_m7 151 rfl) rfl), rfl, by decide⟩ : okNw (10, 10, 10)), List.forall_mem_cons.mpr ⟨(⟨(lw_g (lw_at lw_m5 208 rfl) rfl), rfl, by decide⟩ : okNw (20, 7, 36)), List.forall_mem_cons.mpr ⟨(⟨(lw_g (lw_at lw_m8 96 rfl) rfl), rfl, by decide⟩ : okNw (31, 51, 12)), List.forall_mem_cons.mpr ⟨(⟨(lw_g (lw_at lw_m8 151 rfl) rfl), rfl, by decide⟩ : okNw (33, 96, 12)), List.forall_mem_cons.mpr ⟨(⟨(lw_g (lw_at lw_m8 230 rfl) rfl), rfl, by decide⟩ : okNw (34, 62, 12)), List.forall_mem_cons.mpr ⟨(⟨(lw_g (lw_at lw_m5 92 rfl) rfl), rfl, by decide⟩ : okNw (37, 1, 37)), fun _ h => absurd h List.not_mem_nil⟩⟩⟩⟩⟩⟩⟩⟩⟩⟩⟩⟩⟩⟩
def nwT_l4 : List (Nat × Nat × Nat × Nat) := [(43019, 43, 19, 5)]
theorem nwT_o4 : ∀ x ∈ nwT_l4, okNw x.2 := List.forall_mem_cons.mpr ⟨(⟨(lw_g (lw_at lw_m2 231 rfl) rfl), rfl, by decide⟩ : okNw (43, 19, 5)), fun _ h => absurd h List.not_mem_nil⟩
def nwT (k : Nat) : Option (Nat × Nat × Nat) := if k < 64 then nwT_l0.lookup k else if k < 1257 then nwT_l1.lookup k else if k < 2013 then nwT_l2.lookup k else if k < 37002 then nwT_l3.lookup k else if k < 43020 then nwT_l4.lookup k else none
theorem nwT_ok {k : Nat} {x : Nat × Nat × Nat} (h : nwT k = some x) : okNw x := by
  unfold nwT at h
  by_cases h0 : k < 64
  · rw [if_pos h0] at h; exact nwT_o0 _ (lookup_mem h)
  rw [if_neg h0] at h
  by_cases h1 : k < 1257
  · rw [if_pos h1] at h; exact nwT_o1 _ (lookup_mem h)
  rw [if_neg h1] at h
  by_cases h2 : k < 2013
  · rw [if_pos h2] at h; exact nwT_o2 _ (lookup_mem h)
  rw [if_neg h2] at h
  by_cases h3 : k < 37002
  · rw [if_pos h3] at h; exact nwT_o3 _ (lookup_mem h)
  rw [if_neg h3] at h
  by_cases h4 : k < 43020
  · rw [if_pos h4] at h; exact nwT_o4 _ (lookup_mem h)
  rw [if_neg h4] at h
  cases h
def ncp (o idx : Nat) : Option Nat := (nwT (o * 1000 + idx)).bind (fun x => if x.1 = o ∧ x.2.1 = idx then some x.2.2 else none)
theorem ncp_0_12 : ncp 0 12 = some 13 := rfl
theorem ncp_0_18 : ncp 0 18 = some 14 := rfl
theorem ncp_0_21 : ncp 0 21 = some 15 := rfl
theorem ncp_0_24 : ncp 0 24 = some 16 := rfl
theorem ncp_0_27 : ncp 0 27 = some 12 := rfl
theorem ncp_0_30 : ncp 0 30 = some 9 := rfl
theorem ncp_0_35 : ncp 0 35 = some 10 := rfl
theorem ncp_0_38 : ncp 0 38 = some 7 := rfl
theorem ncp_0_41 : ncp 0 41 = some 8 := rfl
theorem ncp_0_44 : ncp 0 44 = some 11 := rfl
theorem ncp_0_47 : ncp 0 47 = some 6 := rfl
theorem ncp_0_53 : ncp 0 53 = some 1 := rfl
theorem ncp_0_60 : ncp 0 60 = some 2 := rfl
theorem ncp_0_63 : ncp 0 63 = some 3 := rfl
theorem ncp_0_74 : ncp 0 74 = some 36 := rfl
theorem ncp_0_84 : ncp 0 84 = some 31 := rfl
theorem ncp_0_93 : ncp 0 93 = some 33 := rfl
theorem ncp_0_103 : ncp 0 103 = some 32 := rfl
theorem ncp_0_110 : ncp 0 110 = some 34 := rfl
theorem ncp_0_117 : ncp 0 117 = some 30 := rfl
theorem ncp_0_138 : ncp 0 138 = some 35 := rfl
theorem ncp_0_242 : ncp 0 242 = some 29 := rfl
theorem ncp_0_332 : ncp 0 332 = some 28 := rfl
theorem ncp_0_396 : ncp 0 396 = some 38 := rfl
theorem ncp_1_159 : ncp 1 159 = some 35 := rfl
theorem ncp_1_188 : ncp 1 188 = some 3 := rfl
theorem ncp_1_240 : ncp 1 240 = some 36 := rfl
theorem ncp_1_256 : ncp 1 256 = some 12 := rfl
theorem ncp_1_323 : ncp 1 323 = some 28 := rfl
theorem ncp_1_341 : ncp 1 341 = some 20 := rfl
theorem ncp_1_356 : ncp 1 356 = some 24 := rfl
theorem ncp_1_359 : ncp 1 359 = some 25 := rfl
theorem ncp_1_365 : ncp 1 365 = some 26 := rfl
theorem ncp_1_368 : ncp 1 368 = some 27 := rfl
theorem ncp_1_374 : ncp 1 374 = some 21 := rfl
theorem ncp_1_377 : ncp 1 377 = some 22 := rfl
theorem ncp_1_383 : ncp 1 383 = some 23 := rfl
theorem ncp_1_386 : ncp 1 386 = some 18 := rfl
theorem ncp_1_389 : ncp 1 389 = some 17 := rfl
theorem ncp_1_392 : ncp 1 392 = some 19 := rfl
theorem ncp_2_9 : ncp 2 9 = some 5 := rfl
theorem ncp_2_12 : ncp 2 12 = some 2 := rfl
theorem ncp_2_86 : ncp 2 86 = some 12 := rfl
theorem ncp_3_9 : ncp 3 9 = some 36 := rfl
theorem ncp_3_40 : ncp 3 40 = some 4 := rfl
theorem ncp_3_55 : ncp 3 55 = some 12 := rfl
theorem ncp_3_61 : ncp 3 61 = some 37 := rfl
theorem ncp_5_8 : ncp 5 8 = some 5 := rfl
theorem ncp_6_10 : ncp 6 10 = some 6 := rfl
theorem ncp_9_10 : ncp 9 10 = some 9 := rfl
theorem ncp_10_10 : ncp 10 10 = some 10 := rfl
theorem ncp_20_7 : ncp 20 7 = some 36 := rfl
theorem ncp_31_51 : ncp 31 51 = some 12 := rfl
theorem ncp_33_96 : ncp 33 96 = some 12 := rfl
theorem ncp_34_62 : ncp 34 62 = some 12 := rfl
theorem ncp_37_1 : ncp 37 1 = some 37 := rfl
theorem ncp_43_19 : ncp 43 19 = some 5 := rfl
def okCk (x : Nat × Nat × Nat) : Prop := ∃ nm : String, Cond.classLink (oN x.1) x.2.1 nm ∈ lw_all ∧ ((nm = cNm x.2.2) ∨ Cond.castable (cNm x.2.2) nm ∈ nwl)
def ckT_l0 : List (Nat × Nat × Nat × Nat) := [(1213, 0, 12, 13), (1814, 0, 18, 14), (2115, 0, 21, 15), (2416, 0, 24, 16), (2712, 0, 27, 12), (2713, 0, 27, 13), (2714, 0, 27, 14), (2715, 0, 27, 15), (2716, 0, 27, 16), (3009, 0, 30, 9), (3510, 0, 35, 10), (3807, 0, 38, 7), (4108, 0, 41, 8), (4411, 0, 44, 11)]
theorem ckT_o0 : ∀ x ∈ ckT_l0, okCk x.2 := List.forall_mem_cons.mpr ⟨(⟨"KnowLocks$Maid", (lw_g (lw_at lw_m4 165 rfl) rfl), Or.inl rfl⟩ : okCk (0, 12, 13)), List.forall_mem_cons.mpr ⟨(⟨"KnowLocks$Child", (lw_g (lw_at lw_m4 195 rfl) rfl), Or.inl rfl⟩ : okCk (0, 18, 14)), List.forall_mem_cons.mpr ⟨(⟨"KnowLocks$Dog", (lw_g (lw_at lw_m4 209 rfl) rfl), Or.inl rfl⟩ : okCk (0, 21, 15)), List.forall_mem_cons.mpr ⟨(⟨"KnowLocks$Twin", (lw_g (lw_at lw_m4 220 rfl) rfl), Or.inl rfl⟩ : okCk (0, 24, 16)), List.forall_mem_cons.mpr ⟨(⟨"KnowLocks$Hand", (lw_g (lw_at lw_m4 231 rfl) rfl), Or.inl rfl⟩ : okCk (0, 27, 12)), List.forall_mem_cons.mpr ⟨(⟨"KnowLocks$Hand", (lw_g (lw_at lw_m4 231 rfl) rfl), Or.inr (nw_mem (lw_at lw_m12 50 rfl) rfl)⟩ : okCk (0, 27, 13)), List.forall_mem_cons.mpr ⟨(⟨"KnowLocks$Hand", (lw_g (lw_at lw_m4 231 rfl) rfl), Or.inr (nw_mem (lw_at lw_m12 48 rfl) rfl)⟩ : okCk (0, 27, 14)), List.forall_mem_cons.mpr ⟨(⟨"KnowLocks$Hand", (lw_g (lw_at lw_m4 231 rfl) rfl), Or.inr (nw_mem (lw_at lw_m12 49 rfl) rfl)⟩ : okCk (0, 27, 15)), List.forall_mem_cons.mpr ⟨(⟨"KnowLocks$Hand", (lw_g (lw_at lw_m4 231 rfl) rfl), Or.inr (nw_mem (lw_at lw_m12 51 rfl) rfl)⟩ : okCk (0, 27, 16)), List.forall_mem_cons.mpr ⟨(⟨"KnowLocks$Nearest", (lw_g (lw_at lw_m2 95 rfl) rfl), Or.inl rfl⟩ : okCk (0, 30, 9)), List.forall_mem_cons.mpr ⟨(⟨"KnowLocks$Counts", (lw_g (lw_at lw_m2 111 rfl) rfl), Or.inl rfl⟩ : okCk (0, 35, 10)), List.forall_mem_cons.mpr ⟨(⟨"KnowLocks$Cheap", (lw_g (lw_at lw_m2 121 rfl) rfl), Or.inl rfl⟩ : okCk (0, 38, 7)), List.forall_mem_cons.mpr ⟨(⟨"KnowLocks$Nervous", (lw_g (lw_at lw_m2 137 rfl) rfl), Or.inl rfl⟩ : okCk (0, 41, 8)), List.forall_mem_cons.mpr ⟨(⟨"KnowLocks$Bank", (lw_g (lw_at lw_m2 146 rfl) rfl), Or.inl rfl⟩ : okCk (0, 44, 11)), fun _ h => absurd h List.not_mem_nil⟩⟩⟩⟩⟩⟩⟩⟩⟩⟩⟩⟩⟩⟩
def ckT_l1 : List (Nat × Nat × Nat × Nat) := [(4706, 0, 47, 6), (4707, 0, 47, 7), (4708, 0, 47, 8), (5301, 0, 53, 1), (6002, 0, 60, 2), (6303, 0, 63, 3), (7436, 0, 74, 36), (8431, 0, 84, 31), (9333, 0, 93, 33), (10332, 0, 103, 32), (11034, 0, 110, 34), (11730, 0, 117, 30), (13835, 0, 138, 35), (24229, 0, 242, 29)]
theorem ckT_o1 : ∀ x ∈ ckT_l1, okCk x.2 := List.forall_mem_cons.mpr ⟨(⟨"KnowLocks$Mean", (lw_g (lw_at lw_m2 153 rfl) rfl), Or.inl rfl⟩ : okCk (0, 47, 6)), List.forall_mem_cons.mpr ⟨(⟨"KnowLocks$Mean", (lw_g (lw_at lw_m2 153 rfl) rfl), Or.inr (nw_mem (lw_at lw_m12 59 rfl) rfl)⟩ : okCk (0, 47, 7)), List.forall_mem_cons.mpr ⟨(⟨"KnowLocks$Mean", (lw_g (lw_at lw_m2 153 rfl) rfl), Or.inr (nw_mem (lw_at lw_m12 60 rfl) rfl)⟩ : okCk (0, 47, 8)), List.forall_mem_cons.mpr ⟨(⟨"KnowLocks$Reader", (lw_g (lw_at lw_m1 71 rfl) rfl), Or.inl rfl⟩ : okCk (0, 53, 1)), List.forall_mem_cons.mpr ⟨(⟨"KnowLocks$Night", (lw_g (lw_at lw_m1 166 rfl) rfl), Or.inl rfl⟩ : okCk (0, 60, 2)), List.forall_mem_cons.mpr ⟨(⟨"KnowLocks$Quarter", (lw_g (lw_at lw_m1 209 rfl) rfl), Or.inl rfl⟩ : okCk (0, 63, 3)), List.forall_mem_cons.mpr ⟨(⟨"java/util/ArrayList", (lw_g (lw_at lw_m2 216 rfl) rfl), Or.inl rfl⟩ : okCk (0, 74, 36)), List.forall_mem_cons.mpr ⟨(⟨"KnowLocks$Breaks", (lw_g (lw_at lw_m2 222 rfl) rfl), Or.inl rfl⟩ : okCk (0, 84, 31)), List.forall_mem_cons.mpr ⟨(⟨"KnowLocks$Errors", (lw_g (lw_at lw_m3 18 rfl) rfl), Or.inl rfl⟩ : okCk (0, 93, 33)), List.forall_mem_cons.mpr ⟨(⟨"KnowLocks$Trained", (lw_g (lw_at lw_m3 46 rfl) rfl), Or.inl rfl⟩ : okCk (0, 103, 32)), List.forall_mem_cons.mpr ⟨(⟨"KnowLocks$Game", (lw_g (lw_at lw_m3 59 rfl) rfl), Or.inl rfl⟩ : okCk (0, 110, 34)), List.forall_mem_cons.mpr ⟨(⟨"KnowLocks$Mark", (lw_g (lw_at lw_m3 75 rfl) rfl), Or.inl rfl⟩ : okCk (0, 117, 30)), List.forall_mem_cons.mpr ⟨(⟨"KnowLocks$Wrong", (lw_g (lw_at lw_m3 136 rfl) rfl), Or.inl rfl⟩ : okCk (0, 138, 35)), List.forall_mem_cons.mpr ⟨(⟨"KnowLocks$Behind", (lw_g (lw_at lw_m7 123 rfl) rfl), Or.inl rfl⟩ : okCk (0, 242, 29)), fun _ h => absurd h List.not_mem_nil⟩⟩⟩⟩⟩⟩⟩⟩⟩⟩⟩⟩⟩⟩
def ckT_l2 : List (Nat × Nat × Nat × Nat) := [(33228, 0, 332, 28), (39638, 0, 396, 38), (115935, 1, 159, 35), (118803, 1, 188, 3), (124036, 1, 240, 36), (125612, 1, 256, 12), (125613, 1, 256, 13), (125614, 1, 256, 14), (125615, 1, 256, 15), (125616, 1, 256, 16), (132328, 1, 323, 28), (134120, 1, 341, 20), (135624, 1, 356, 24), (135925, 1, 359, 25)]
theorem ckT_o2 : ∀ x ∈ ckT_l2, okCk x.2 := List.forall_mem_cons.mpr ⟨(⟨"KnowLocks$Tried", (lw_g (lw_at lw_m8 166 rfl) rfl), Or.inl rfl⟩ : okCk (0, 332, 28)), List.forall_mem_cons.mpr ⟨(⟨"java/util/NoSuchElementException", (lw_g (lw_at lw_m9 54 rfl) rfl), Or.inl rfl⟩ : okCk (0, 396, 38)), List.forall_mem_cons.mpr ⟨(⟨"KnowLocks$Wrong", (lw_g (lw_at lw_m4 41 rfl) rfl), Or.inl rfl⟩ : okCk (1, 159, 35)), List.forall_mem_cons.mpr ⟨(⟨"KnowLocks$Quarter", (lw_g (lw_at lw_m4 2 rfl) rfl), Or.inl rfl⟩ : okCk (1, 188, 3)), List.forall_mem_cons.mpr ⟨(⟨"java/util/ArrayList", (lw_g (lw_at lw_m6 59 rfl) rfl), Or.inl rfl⟩ : okCk (1, 240, 36)), List.forall_mem_cons.mpr ⟨(⟨"KnowLocks$Hand", (lw_g (lw_at lw_m4 145 rfl) rfl), Or.inl rfl⟩ : okCk (1, 256, 12)), List.forall_mem_cons.mpr ⟨(⟨"KnowLocks$Hand", (lw_g (lw_at lw_m4 145 rfl) rfl), Or.inr (nw_mem (lw_at lw_m12 50 rfl) rfl)⟩ : okCk (1, 256, 13)), List.forall_mem_cons.mpr ⟨(⟨"KnowLocks$Hand", (lw_g (lw_at lw_m4 145 rfl) rfl), Or.inr (nw_mem (lw_at lw_m12 48 rfl) rfl)⟩ : okCk (1, 256, 14)), List.forall_mem_cons.mpr ⟨(⟨"KnowLocks$Hand", (lw_g (lw_at lw_m4 145 rfl) rfl), Or.inr (nw_mem (lw_at lw_m12 49 rfl) rfl)⟩ : okCk (1, 256, 15)), List.forall_mem_cons.mpr ⟨(⟨"KnowLocks$Hand", (lw_g (lw_at lw_m4 145 rfl) rfl), Or.inr (nw_mem (lw_at lw_m12 51 rfl) rfl)⟩ : okCk (1, 256, 16)), List.forall_mem_cons.mpr ⟨(⟨"KnowLocks$Tried", (lw_g (lw_at lw_m6 63 rfl) rfl), Or.inl rfl⟩ : okCk (1, 323, 28)), List.forall_mem_cons.mpr ⟨(⟨"KnowLocks$Chain", (lw_g (lw_at lw_m5 202 rfl) rfl), Or.inl rfl⟩ : okCk (1, 341, 20)), List.forall_mem_cons.mpr ⟨(⟨"KnowLocks$And", (lw_g (lw_at lw_m6 23 rfl) rfl), Or.inl rfl⟩ : okCk (1, 356, 24)), List.forall_mem_cons.mpr ⟨(⟨"KnowLocks$Or", (lw_g (lw_at lw_m6 31 rfl) rfl), Or.inl rfl⟩ : okCk (1, 359, 25)), fun _ h => absurd h List.not_mem_nil⟩⟩⟩⟩⟩⟩⟩⟩⟩⟩⟩⟩⟩⟩
def ckT_l3 : List (Nat × Nat × Nat × Nat) := [(136526, 1, 365, 26), (136827, 1, 368, 27), (137421, 1, 374, 21), (137722, 1, 377, 22), (138323, 1, 383, 23), (138618, 1, 386, 18), (138917, 1, 389, 17), (139219, 1, 392, 19), (200905, 2, 9, 5), (201202, 2, 12, 2), (208612, 2, 86, 12), (208613, 2, 86, 13), (208614, 2, 86, 14), (208615, 2, 86, 15)]
theorem ckT_o3 : ∀ x ∈ ckT_l3, okCk x.2 := List.forall_mem_cons.mpr ⟨(⟨"KnowLocks$Less", (lw_g (lw_at lw_m6 7 rfl) rfl), Or.inl rfl⟩ : okCk (1, 365, 26)), List.forall_mem_cons.mpr ⟨(⟨"KnowLocks$Same", (lw_g (lw_at lw_m6 15 rfl) rfl), Or.inl rfl⟩ : okCk (1, 368, 27)), List.forall_mem_cons.mpr ⟨(⟨"KnowLocks$Plus", (lw_g (lw_at lw_m5 231 rfl) rfl), Or.inl rfl⟩ : okCk (1, 374, 21)), List.forall_mem_cons.mpr ⟨(⟨"KnowLocks$Minus", (lw_g (lw_at lw_m5 239 rfl) rfl), Or.inl rfl⟩ : okCk (1, 377, 22)), List.forall_mem_cons.mpr ⟨(⟨"KnowLocks$Times", (lw_g (lw_at lw_m5 218 rfl) rfl), Or.inl rfl⟩ : okCk (1, 383, 23)), List.forall_mem_cons.mpr ⟨(⟨"KnowLocks$Fact", (lw_g (lw_at lw_m5 158 rfl) rfl), Or.inl rfl⟩ : okCk (1, 386, 18)), List.forall_mem_cons.mpr ⟨(⟨"KnowLocks$Plain", (lw_g (lw_at lw_m5 171 rfl) rfl), Or.inl rfl⟩ : okCk (1, 389, 17)), List.forall_mem_cons.mpr ⟨(⟨"KnowLocks$Not", (lw_g (lw_at lw_m5 181 rfl) rfl), Or.inl rfl⟩ : okCk (1, 392, 19)), List.forall_mem_cons.mpr ⟨(⟨"KnowLocks$Lock", (lw_g (lw_at lw_m1 172 rfl) rfl), Or.inl rfl⟩ : okCk (2, 9, 5)), List.forall_mem_cons.mpr ⟨(⟨"KnowLocks$Night", (lw_g (lw_at lw_m8 67 rfl) rfl), Or.inl rfl⟩ : okCk (2, 12, 2)), List.forall_mem_cons.mpr ⟨(⟨"KnowLocks$Hand", (lw_g (lw_at lw_m6 197 rfl) rfl), Or.inl rfl⟩ : okCk (2, 86, 12)), List.forall_mem_cons.mpr ⟨(⟨"KnowLocks$Hand", (lw_g (lw_at lw_m6 197 rfl) rfl), Or.inr (nw_mem (lw_at lw_m12 50 rfl) rfl)⟩ : okCk (2, 86, 13)), List.forall_mem_cons.mpr ⟨(⟨"KnowLocks$Hand", (lw_g (lw_at lw_m6 197 rfl) rfl), Or.inr (nw_mem (lw_at lw_m12 48 rfl) rfl)⟩ : okCk (2, 86, 14)), List.forall_mem_cons.mpr ⟨(⟨"KnowLocks$Hand", (lw_g (lw_at lw_m6 197 rfl) rfl), Or.inr (nw_mem (lw_at lw_m12 49 rfl) rfl)⟩ : okCk (2, 86, 15)), fun _ h => absurd h List.not_mem_nil⟩⟩⟩⟩⟩⟩⟩⟩⟩⟩⟩⟩⟩⟩
def ckT_l4 : List (Nat × Nat × Nat × Nat) := [(208616, 2, 86, 16), (300936, 3, 9, 36), (304004, 3, 40, 4), (305512, 3, 55, 12), (305513, 3, 55, 13), (305514, 3, 55, 14), (305515, 3, 55, 15), (305516, 3, 55, 16), (306137, 3, 61, 37), (306139, 3, 61, 39), (500805, 5, 8, 5), (601006, 6, 10, 6), (601007, 6, 10, 7), (601008, 6, 10, 8)]
theorem ckT_o4 : ∀ x ∈ ckT_l4, okCk x.2 := List.forall_mem_cons.mpr ⟨(⟨"KnowLocks$Hand", (lw_g (lw_at lw_m6 197 rfl) rfl), Or.inr (nw_mem (lw_at lw_m12 51 rfl) rfl)⟩ : okCk (2, 86, 16)), List.forall_mem_cons.mpr ⟨(⟨"java/util/ArrayList", (lw_g (lw_at lw_m1 215 rfl) rfl), Or.inl rfl⟩ : okCk (3, 9, 36)), List.forall_mem_cons.mpr ⟨(⟨"KnowLocks$Facts", (lw_g (lw_at lw_m2 3 rfl) rfl), Or.inl rfl⟩ : okCk (3, 40, 4)), List.forall_mem_cons.mpr ⟨(⟨"KnowLocks$Hand", (lw_g (lw_at lw_m4 130 rfl) rfl), Or.inl rfl⟩ : okCk (3, 55, 12)), List.forall_mem_cons.mpr ⟨(⟨"KnowLocks$Hand", (lw_g (lw_at lw_m4 130 rfl) rfl), Or.inr (nw_mem (lw_at lw_m12 50 rfl) rfl)⟩ : okCk (3, 55, 13)), List.forall_mem_cons.mpr ⟨(⟨"KnowLocks$Hand", (lw_g (lw_at lw_m4 130 rfl) rfl), Or.inr (nw_mem (lw_at lw_m12 48 rfl) rfl)⟩ : okCk (3, 55, 14)), List.forall_mem_cons.mpr ⟨(⟨"KnowLocks$Hand", (lw_g (lw_at lw_m4 130 rfl) rfl), Or.inr (nw_mem (lw_at lw_m12 49 rfl) rfl)⟩ : okCk (3, 55, 15)), List.forall_mem_cons.mpr ⟨(⟨"KnowLocks$Hand", (lw_g (lw_at lw_m4 130 rfl) rfl), Or.inr (nw_mem (lw_at lw_m12 51 rfl) rfl)⟩ : okCk (3, 55, 16)), List.forall_mem_cons.mpr ⟨(⟨"java/lang/Long", (lw_g (lw_at lw_m4 135 rfl) rfl), Or.inl rfl⟩ : okCk (3, 61, 37)), List.forall_mem_cons.mpr ⟨(⟨"java/lang/Long", (lw_g (lw_at lw_m4 135 rfl) rfl), Or.inl rfl⟩ : okCk (3, 61, 39)), List.forall_mem_cons.mpr ⟨(⟨"KnowLocks$Lock", (lw_g (lw_at lw_m7 129 rfl) rfl), Or.inl rfl⟩ : okCk (5, 8, 5)), List.forall_mem_cons.mpr ⟨(⟨"KnowLocks$Mean", (lw_g (lw_at lw_m7 146 rfl) rfl), Or.inl rfl⟩ : okCk (6, 10, 6)), List.forall_mem_cons.mpr ⟨(⟨"KnowLocks$Mean", (lw_g (lw_at lw_m7 146 rfl) rfl), Or.inr (nw_mem (lw_at lw_m12 59 rfl) rfl)⟩ : okCk (6, 10, 7)), List.forall_mem_cons.mpr ⟨(⟨"KnowLocks$Mean", (lw_g (lw_at lw_m7 146 rfl) rfl), Or.inr (nw_mem (lw_at lw_m12 60 rfl) rfl)⟩ : okCk (6, 10, 8)), fun _ h => absurd h List.not_mem_nil⟩⟩⟩⟩⟩⟩⟩⟩⟩⟩⟩⟩⟩⟩
def ckT_l5 : List (Nat × Nat × Nat × Nat) := [(901009, 9, 10, 9), (1001010, 10, 10, 10), (2000736, 20, 7, 36), (2003421, 20, 34, 21), (2003422, 20, 34, 22), (2003423, 20, 34, 23), (2003424, 20, 34, 24), (2003425, 20, 34, 25), (2003426, 20, 34, 26), (2003427, 20, 34, 27), (3105112, 31, 51, 12), (3105113, 31, 51, 13), (3105114, 31, 51, 14), (3105115, 31, 51, 15)]
theorem ckT_o5 : ∀ x ∈ ckT_l5, okCk x.2 := List.forall_mem_cons.mpr ⟨(⟨"KnowLocks$Nearest", (lw_g (lw_at lw_m7 157 rfl) rfl), Or.inl rfl⟩ : okCk (9, 10, 9)), List.forall_mem_cons.mpr ⟨(⟨"KnowLocks$Counts", (lw_g (lw_at lw_m7 151 rfl) rfl), Or.inl rfl⟩ : okCk (10, 10, 10)), List.forall_mem_cons.mpr ⟨(⟨"java/util/ArrayList", (lw_g (lw_at lw_m5 208 rfl) rfl), Or.inl rfl⟩ : okCk (20, 7, 36)), List.forall_mem_cons.mpr ⟨(⟨"KnowLocks$Link", (lw_g (lw_at lw_m6 227 rfl) rfl), Or.inr (nw_mem (lw_at lw_m12 56 rfl) rfl)⟩ : okCk (20, 34, 21)), List.forall_mem_cons.mpr ⟨(⟨"KnowLocks$Link", (lw_g (lw_at lw_m6 227 rfl) rfl), Or.inr (nw_mem (lw_at lw_m12 54 rfl) rfl)⟩ : okCk (20, 34, 22)), List.forall_mem_cons.mpr ⟨(⟨"KnowLocks$Link", (lw_g (lw_at lw_m6 227 rfl) rfl), Or.inr (nw_mem (lw_at lw_m12 58 rfl) rfl)⟩ : okCk (20, 34, 23)), List.forall_mem_cons.mpr ⟨(⟨"KnowLocks$Link", (lw_g (lw_at lw_m6 227 rfl) rfl), Or.inr (nw_mem (lw_at lw_m12 52 rfl) rfl)⟩ : okCk (20, 34, 24)), List.forall_mem_cons.mpr ⟨(⟨"KnowLocks$Link", (lw_g (lw_at lw_m6 227 rfl) rfl), Or.inr (nw_mem (lw_at lw_m12 55 rfl) rfl)⟩ : okCk (20, 34, 25)), List.forall_mem_cons.mpr ⟨(⟨"KnowLocks$Link", (lw_g (lw_at lw_m6 227 rfl) rfl), Or.inr (nw_mem (lw_at lw_m12 53 rfl) rfl)⟩ : okCk (20, 34, 26)), List.forall_mem_cons.mpr ⟨(⟨"KnowLocks$Link", (lw_g (lw_at lw_m6 227 rfl) rfl), Or.inr (nw_mem (lw_at lw_m12 57 rfl) rfl)⟩ : okCk (20, 34, 27)), List.forall_mem_cons.mpr ⟨(⟨"KnowLocks$Hand", (lw_g (lw_at lw_m8 96 rfl) rfl), Or.inl rfl⟩ : okCk (31, 51, 12)), List.forall_mem_cons.mpr ⟨(⟨"KnowLocks$Hand", (lw_g (lw_at lw_m8 96 rfl) rfl), Or.inr (nw_mem (lw_at lw_m12 50 rfl) rfl)⟩ : okCk (31, 51, 13)), List.forall_mem_cons.mpr ⟨(⟨"KnowLocks$Hand", (lw_g (lw_at lw_m8 96 rfl) rfl), Or.inr (nw_mem (lw_at lw_m12 48 rfl) rfl)⟩ : okCk (31, 51, 14)), List.forall_mem_cons.mpr ⟨(⟨"KnowLocks$Hand", (lw_g (lw_at lw_m8 96 rfl) rfl), Or.inr (nw_mem (lw_at lw_m12 49 rfl) rfl)⟩ : okCk (31, 51, 15)), fun _ h => absurd h List.not_mem_nil⟩⟩⟩⟩⟩⟩⟩⟩⟩⟩⟩⟩⟩⟩
def ckT_l6 : List (Nat × Nat × Nat × Nat) := [(3105116, 31, 51, 16), (3309612, 33, 96, 12), (3309613, 33, 96, 13), (3309614, 33, 96, 14), (3309615, 33, 96, 15), (3309616, 33, 96, 16), (3406212, 34, 62, 12), (3406213, 34, 62, 13), (3406214, 34, 62, 14), (3406215, 34, 62, 15), (3406216, 34, 62, 16), (3700137, 37, 1, 37), (3700139, 37, 1, 39), (4301905, 43, 19, 5)]
theorem ckT_o6 : ∀ x ∈ ckT_l6, okCk x.2 := List.forall_mem_cons.mpr ⟨(⟨"KnowLocks$Hand", (lw_g (lw_at lw_m8 96 rfl) rfl), Or.inr (nw_mem (lw_at lw_m12 51 rfl) rfl)⟩ : okCk (31, 51, 16)), List.forall_mem_cons.mpr ⟨(⟨"KnowLocks$Hand", (lw_g (lw_at lw_m8 151 rfl) rfl), Or.inl rfl⟩ : okCk (33, 96, 12)), List.forall_mem_cons.mpr ⟨(⟨"KnowLocks$Hand", (lw_g (lw_at lw_m8 151 rfl) rfl), Or.inr (nw_mem (lw_at lw_m12 50 rfl) rfl)⟩ : okCk (33, 96, 13)), List.forall_mem_cons.mpr ⟨(⟨"KnowLocks$Hand", (lw_g (lw_at lw_m8 151 rfl) rfl), Or.inr (nw_mem (lw_at lw_m12 48 rfl) rfl)⟩ : okCk (33, 96, 14)), List.forall_mem_cons.mpr ⟨(⟨"KnowLocks$Hand", (lw_g (lw_at lw_m8 151 rfl) rfl), Or.inr (nw_mem (lw_at lw_m12 49 rfl) rfl)⟩ : okCk (33, 96, 15)), List.forall_mem_cons.mpr ⟨(⟨"KnowLocks$Hand", (lw_g (lw_at lw_m8 151 rfl) rfl), Or.inr (nw_mem (lw_at lw_m12 51 rfl) rfl)⟩ : okCk (33, 96, 16)), List.forall_mem_cons.mpr ⟨(⟨"KnowLocks$Hand", (lw_g (lw_at lw_m8 230 rfl) rfl), Or.inl rfl⟩ : okCk (34, 62, 12)), List.forall_mem_cons.mpr ⟨(⟨"KnowLocks$Hand", (lw_g (lw_at lw_m8 230 rfl) rfl), Or.inr (nw_mem (lw_at lw_m12 50 rfl) rfl)⟩ : okCk (34, 62, 13)), List.forall_mem_cons.mpr ⟨(⟨"KnowLocks$Hand", (lw_g (lw_at lw_m8 230 rfl) rfl), Or.inr (nw_mem (lw_at lw_m12 48 rfl) rfl)⟩ : okCk (34, 62, 14)), List.forall_mem_cons.mpr ⟨(⟨"KnowLocks$Hand", (lw_g (lw_at lw_m8 230 rfl) rfl), Or.inr (nw_mem (lw_at lw_m12 49 rfl) rfl)⟩ : okCk (34, 62, 15)), List.forall_mem_cons.mpr ⟨(⟨"KnowLocks$Hand", (lw_g (lw_at lw_m8 230 rfl) rfl), Or.inr (nw_mem (lw_at lw_m12 51 rfl) rfl)⟩ : okCk (34, 62, 16)), List.forall_mem_cons.mpr ⟨(⟨"java/lang/Long", (lw_g (lw_at lw_m5 92 rfl) rfl), Or.inl rfl⟩ : okCk (37, 1, 37)), List.forall_mem_cons.mpr ⟨(⟨"java/lang/Long", (lw_g (lw_at lw_m5 92 rfl) rfl), Or.inl rfl⟩ : okCk (37, 1, 39)), List.forall_mem_cons.mpr ⟨(⟨"KnowLocks$Lock", (lw_g (lw_at lw_m2 231 rfl) rfl), Or.inl rfl⟩ : okCk (43, 19, 5)), fun _ h => absurd h List.not_mem_nil⟩⟩⟩⟩⟩⟩⟩⟩⟩⟩⟩⟩⟩⟩
def ckT (k : Nat) : Option (Nat × Nat × Nat) := if k < 4412 then ckT_l0.lookup k else if k < 24230 then ckT_l1.lookup k else if k < 135926 then ckT_l2.lookup k else if k < 208616 then ckT_l3.lookup k else if k < 601009 then ckT_l4.lookup k else if k < 3105116 then ckT_l5.lookup k else if k < 4301906 then ckT_l6.lookup k else none
theorem ckT_ok {k : Nat} {x : Nat × Nat × Nat} (h : ckT k = some x) : okCk x := by
  unfold ckT at h
  by_cases h0 : k < 4412
  · rw [if_pos h0] at h; exact ckT_o0 _ (lookup_mem h)
  rw [if_neg h0] at h
  by_cases h1 : k < 24230
  · rw [if_pos h1] at h; exact ckT_o1 _ (lookup_mem h)
  rw [if_neg h1] at h
  by_cases h2 : k < 135926
  · rw [if_pos h2] at h; exact ckT_o2 _ (lookup_mem h)
  rw [if_neg h2] at h
  by_cases h3 : k < 208616
  · rw [if_pos h3] at h; exact ckT_o3 _ (lookup_mem h)
  rw [if_neg h3] at h
  by_cases h4 : k < 601009
  · rw [if_pos h4] at h; exact ckT_o4 _ (lookup_mem h)
  rw [if_neg h4] at h
  by_cases h5 : k < 3105116
  · rw [if_pos h5] at h; exact ckT_o5 _ (lookup_mem h)
  rw [if_neg h5] at h
  by_cases h6 : k < 4301906
  · rw [if_pos h6] at h; exact ckT_o6 _ (lookup_mem h)
  rw [if_neg h6] at h
  cases h
def kcc (o idx ci : Nat) : Bool := match ckT (fKey o idx ci) with
  | some x => decide (x.1 = o ∧ x.2.1 = idx ∧ x.2.2 = ci)
  | none => false
theorem kcc_0_12_13 : kcc 0 12 13 = true := rfl
theorem kcc_0_18_14 : kcc 0 18 14 = true := rfl
theorem kcc_0_21_15 : kcc 0 21 15 = true := rfl
theorem kcc_0_24_16 : kcc 0 24 16 = true := rfl
theorem kcc_0_27_12 : kcc 0 27 12 = true := rfl
theorem kcc_0_27_13 : kcc 0 27 13 = true := rfl
theorem kcc_0_27_14 : kcc 0 27 14 = true := rfl
theorem kcc_0_27_15 : kcc 0 27 15 = true := rfl
theorem kcc_0_27_16 : kcc 0 27 16 = true := rfl
theorem kcc_0_30_9 : kcc 0 30 9 = true := rfl
theorem kcc_0_35_10 : kcc 0 35 10 = true := rfl
theorem kcc_0_38_7 : kcc 0 38 7 = true := rfl
theorem kcc_0_41_8 : kcc 0 41 8 = true := rfl
theorem kcc_0_44_11 : kcc 0 44 11 = true := rfl
theorem kcc_0_47_6 : kcc 0 47 6 = true := rfl
theorem kcc_0_47_7 : kcc 0 47 7 = true := rfl
theorem kcc_0_47_8 : kcc 0 47 8 = true := rfl
theorem kcc_0_53_1 : kcc 0 53 1 = true := rfl
theorem kcc_0_60_2 : kcc 0 60 2 = true := rfl
theorem kcc_0_63_3 : kcc 0 63 3 = true := rfl
theorem kcc_0_74_36 : kcc 0 74 36 = true := rfl
theorem kcc_0_84_31 : kcc 0 84 31 = true := rfl
theorem kcc_0_93_33 : kcc 0 93 33 = true := rfl
theorem kcc_0_103_32 : kcc 0 103 32 = true := rfl
theorem kcc_0_110_34 : kcc 0 110 34 = true := rfl
theorem kcc_0_117_30 : kcc 0 117 30 = true := rfl
theorem kcc_0_138_35 : kcc 0 138 35 = true := rfl
theorem kcc_0_242_29 : kcc 0 242 29 = true := rfl
theorem kcc_0_332_28 : kcc 0 332 28 = true := rfl
theorem kcc_0_396_38 : kcc 0 396 38 = true := rfl
theorem kcc_1_159_35 : kcc 1 159 35 = true := rfl
theorem kcc_1_188_3 : kcc 1 188 3 = true := rfl
theorem kcc_1_240_36 : kcc 1 240 36 = true := rfl
theorem kcc_1_256_12 : kcc 1 256 12 = true := rfl
theorem kcc_1_256_13 : kcc 1 256 13 = true := rfl
theorem kcc_1_256_14 : kcc 1 256 14 = true := rfl
theorem kcc_1_256_15 : kcc 1 256 15 = true := rfl
theorem kcc_1_256_16 : kcc 1 256 16 = true := rfl
theorem kcc_1_323_28 : kcc 1 323 28 = true := rfl
theorem kcc_1_341_20 : kcc 1 341 20 = true := rfl
theorem kcc_1_356_24 : kcc 1 356 24 = true := rfl
theorem kcc_1_359_25 : kcc 1 359 25 = true := rfl
theorem kcc_1_365_26 : kcc 1 365 26 = true := rfl
theorem kcc_1_368_27 : kcc 1 368 27 = true := rfl
theorem kcc_1_374_21 : kcc 1 374 21 = true := rfl
theorem kcc_1_377_22 : kcc 1 377 22 = true := rfl
theorem kcc_1_383_23 : kcc 1 383 23 = true := rfl
theorem kcc_1_386_18 : kcc 1 386 18 = true := rfl
theorem kcc_1_389_17 : kcc 1 389 17 = true := rfl
theorem kcc_1_392_19 : kcc 1 392 19 = true := rfl
theorem kcc_2_9_5 : kcc 2 9 5 = true := rfl
theorem kcc_2_12_2 : kcc 2 12 2 = true := rfl
theorem kcc_2_86_12 : kcc 2 86 12 = true := rfl
theorem kcc_2_86_13 : kcc 2 86 13 = true := rfl
theorem kcc_2_86_14 : kcc 2 86 14 = true := rfl
theorem kcc_2_86_15 : kcc 2 86 15 = true := rfl
theorem kcc_2_86_16 : kcc 2 86 16 = true := rfl
theorem kcc_3_9_36 : kcc 3 9 36 = true := rfl
theorem kcc_3_40_4 : kcc 3 40 4 = true := rfl
theorem kcc_3_55_12 : kcc 3 55 12 = true := rfl
theorem kcc_3_55_13 : kcc 3 55 13 = true := rfl
theorem kcc_3_55_14 : kcc 3 55 14 = true := rfl
theorem kcc_3_55_15 : kcc 3 55 15 = true := rfl
theorem kcc_3_55_16 : kcc 3 55 16 = true := rfl
theorem kcc_3_61_37 : kcc 3 61 37 = true := rfl
theorem kcc_3_61_39 : kcc 3 61 39 = true := rfl
theorem kcc_5_8_5 : kcc 5 8 5 = true := rfl
theorem kcc_6_10_6 : kcc 6 10 6 = true := rfl
theorem kcc_6_10_7 : kcc 6 10 7 = true := rfl
theorem kcc_6_10_8 : kcc 6 10 8 = true := rfl
theorem kcc_9_10_9 : kcc 9 10 9 = true := rfl
theorem kcc_10_10_10 : kcc 10 10 10 = true := rfl
theorem kcc_20_7_36 : kcc 20 7 36 = true := rfl
theorem kcc_20_34_21 : kcc 20 34 21 = true := rfl
theorem kcc_20_34_22 : kcc 20 34 22 = true := rfl
theorem kcc_20_34_23 : kcc 20 34 23 = true := rfl
theorem kcc_20_34_24 : kcc 20 34 24 = true := rfl
theorem kcc_20_34_25 : kcc 20 34 25 = true := rfl
theorem kcc_20_34_26 : kcc 20 34 26 = true := rfl
theorem kcc_20_34_27 : kcc 20 34 27 = true := rfl
theorem kcc_31_51_12 : kcc 31 51 12 = true := rfl
theorem kcc_31_51_13 : kcc 31 51 13 = true := rfl
theorem kcc_31_51_14 : kcc 31 51 14 = true := rfl
theorem kcc_31_51_15 : kcc 31 51 15 = true := rfl
theorem kcc_31_51_16 : kcc 31 51 16 = true := rfl
theorem kcc_33_96_12 : kcc 33 96 12 = true := rfl
theorem kcc_33_96_13 : kcc 33 96 13 = true := rfl
theorem kcc_33_96_14 : kcc 33 96 14 = true := rfl
theorem kcc_33_96_15 : kcc 33 96 15 = true := rfl
theorem kcc_33_96_16 : kcc 33 96 16 = true := rfl
theorem kcc_34_62_12 : kcc 34 62 12 = true := rfl
theorem kcc_34_62_13 : kcc 34 62 13 = true := rfl
theorem kcc_34_62_14 : kcc 34 62 14 = true := rfl
theorem kcc_34_62_15 : kcc 34 62 15 = true := rfl
theorem kcc_34_62_16 : kcc 34 62 16 = true := rfl
theorem kcc_37_1_37 : kcc 37 1 37 = true := rfl
theorem kcc_37_1_39 : kcc 37 1 39 = true := rfl
theorem kcc_43_19_5 : kcc 43 19 5 = true := rfl
def okCa (x : Nat × Nat) : Prop := Cond.classLink (oN x.1) x.2 "[I" ∈ lw_all
def caT_l0 : List (Nat × Nat × Nat) := [(1293, 1, 293), (2132, 2, 132)]
theorem caT_o0 : ∀ x ∈ caT_l0, okCa x.2 := List.forall_mem_cons.mpr ⟨((lw_g (lw_at lw_m5 113 rfl) rfl) : okCa (1, 293)), List.forall_mem_cons.mpr ⟨((lw_g (lw_at lw_m8 44 rfl) rfl) : okCa (2, 132)), fun _ h => absurd h List.not_mem_nil⟩⟩
def caT (k : Nat) : Option (Nat × Nat) := if k < 2133 then caT_l0.lookup k else none
theorem caT_ok {k : Nat} {x : Nat × Nat} (h : caT k = some x) : okCa x := by
  unfold caT at h
  by_cases h0 : k < 2133
  · rw [if_pos h0] at h; exact caT_o0 _ (lookup_mem h)
  rw [if_neg h0] at h
  cases h
def kca (o idx : Nat) : Bool := match caT (o * 1000 + idx) with
  | some x => decide (x.1 = o ∧ x.2 = idx)
  | none => false
theorem kca_1_293 : kca 1 293 = true := rfl
theorem kca_2_132 : kca 2 132 = true := rfl
def okAn (x : Nat × Nat × Nat) : Prop := x.2.2 < 8 ∧ ∃ C : String, Cond.classLink (oN x.1) x.2.1 C ∈ lw_all ∧ Cond.arrayOver (.object C) ∈ nwl ∧ kTy x.2.2 = .object C
def anT_l0 : List (Nat × Nat × Nat × Nat) := [(117, 0, 117, 6), (1009, 1, 9, 7), (2009, 2, 9, 5), (5008, 5, 8, 5), (36007, 36, 7, 4), (43019, 43, 19, 5), (49002, 49, 2, 4)]
theorem anT_o0 : ∀ x ∈ anT_l0, okAn x.2 := List.forall_mem_cons.mpr ⟨(⟨by decide, "KnowLocks$Mark", (lw_g (lw_at lw_m3 75 rfl) rfl), nw_mem (lw_at lw_m3 76 rfl) rfl, rfl⟩ : okAn (0, 117, 6)), List.forall_mem_cons.mpr ⟨(⟨by decide, "java/lang/String", (lw_g (lw_at lw_m1 77 rfl) rfl), nw_mem (lw_at lw_m1 78 rfl) rfl, rfl⟩ : okAn (1, 9, 7)), List.forall_mem_cons.mpr ⟨(⟨by decide, "KnowLocks$Lock", (lw_g (lw_at lw_m1 172 rfl) rfl), nw_mem (lw_at lw_m1 173 rfl) rfl, rfl⟩ : okAn (2, 9, 5)), List.forall_mem_cons.mpr ⟨(⟨by decide, "KnowLocks$Lock", (lw_g (lw_at lw_m7 129 rfl) rfl), nw_mem (lw_at lw_m1 173 rfl) rfl, rfl⟩ : okAn (5, 8, 5)), List.forall_mem_cons.mpr ⟨(⟨by decide, "java/lang/Object", (lw_g (lw_at lw_m1 227 rfl) rfl), nw_mem (lw_at lw_m1 228 rfl) rfl, rfl⟩ : okAn (36, 7, 4)), List.forall_mem_cons.mpr ⟨(⟨by decide, "KnowLocks$Lock", (lw_g (lw_at lw_m2 231 rfl) rfl), nw_mem (lw_at lw_m1 173 rfl) rfl, rfl⟩ : okAn (43, 19, 5)), List.forall_mem_cons.mpr ⟨(⟨by decide, "java/lang/Object", (lw_g (lw_at lw_m5 74 rfl) rfl), nw_mem (lw_at lw_m1 228 rfl) rfl, rfl⟩ : okAn (49, 2, 4)), fun _ h => absurd h List.not_mem_nil⟩⟩⟩⟩⟩⟩⟩
def anT (k : Nat) : Option (Nat × Nat × Nat) := if k < 49003 then anT_l0.lookup k else none
theorem anT_ok {k : Nat} {x : Nat × Nat × Nat} (h : anT k = some x) : okAn x := by
  unfold anT at h
  by_cases h0 : k < 49003
  · rw [if_pos h0] at h; exact anT_o0 _ (lookup_mem h)
  rw [if_neg h0] at h
  cases h
def acp (o idx : Nat) : Option Nat := (anT (o * 1000 + idx)).bind (fun x => if x.1 = o ∧ x.2.1 = idx then some x.2.2 else none)
theorem acp_0_117 : acp 0 117 = some 6 := rfl
theorem acp_1_9 : acp 1 9 = some 7 := rfl
theorem acp_2_9 : acp 2 9 = some 5 := rfl
theorem acp_5_8 : acp 5 8 = some 5 := rfl
theorem acp_36_7 : acp 36 7 = some 4 := rfl
theorem acp_43_19 : acp 43 19 = some 5 := rfl
theorem acp_49_2 : acp 49 2 = some 4 := rfl
def okLc (x : Nat × Nat × Int64) : Prop := Cond.constantLong (oN x.1) x.2.1 x.2.2 ∈ lw_all
def lcT_l0 : List (Nat × Nat × Nat × Int64) := [(385, 0, 385, 1103515245), (387, 0, 387, 12345), (389, 0, 389, 2147483648), (391, 0, 391, 65536), (1117, 1, 117, 255), (1131, 1, 131, 27), (1137, 1, 137, 96), (1146, 1, 146, 10), (1148, 1, 148, 48), (6031, 6, 31, 10), (37230, 37, 230, -128), (37232, 37, 232, 127)]
theorem lcT_o0 : ∀ x ∈ lcT_l0, okLc x.2 := List.forall_mem_cons.mpr ⟨((lw_g (lw_at lw_m9 78 rfl) rfl) : okLc (0, 385, 1103515245)), List.forall_mem_cons.mpr ⟨((lw_g (lw_at lw_m9 79 rfl) rfl) : okLc (0, 387, 12345)), List.forall_mem_cons.mpr ⟨((lw_g (lw_at lw_m9 80 rfl) rfl) : okLc (0, 389, 2147483648)), List.forall_mem_cons.mpr ⟨((lw_g (lw_at lw_m9 81 rfl) rfl) : okLc (0, 391, 65536)), List.forall_mem_cons.mpr ⟨((lw_g (lw_at lw_m3 128 rfl) rfl) : okLc (1, 117, 255)), List.forall_mem_cons.mpr ⟨((lw_g (lw_at lw_m3 148 rfl) rfl) : okLc (1, 131, 27)), List.forall_mem_cons.mpr ⟨((lw_g (lw_at lw_m3 149 rfl) rfl) : okLc (1, 137, 96)), List.forall_mem_cons.mpr ⟨((lw_g (lw_at lw_m3 153 rfl) rfl) : okLc (1, 146, 10)), List.forall_mem_cons.mpr ⟨((lw_g (lw_at lw_m3 154 rfl) rfl) : okLc (1, 148, 48)), List.forall_mem_cons.mpr ⟨((lw_g (lw_at lw_m7 40 rfl) rfl) : okLc (6, 31, 10)), List.forall_mem_cons.mpr ⟨((lw_g (lw_at lw_m5 88 rfl) rfl) : okLc (37, 230, -128)), List.forall_mem_cons.mpr ⟨((lw_g (lw_at lw_m5 89 rfl) rfl) : okLc (37, 232, 127)), fun _ h => absurd h List.not_mem_nil⟩⟩⟩⟩⟩⟩⟩⟩⟩⟩⟩⟩
def lcT (k : Nat) : Option (Nat × Nat × Int64) := if k < 37233 then lcT_l0.lookup k else none
theorem lcT_ok {k : Nat} {x : Nat × Nat × Int64} (h : lcT k = some x) : okLc x := by
  unfold lcT at h
  by_cases h0 : k < 37233
  · rw [if_pos h0] at h; exact lcT_o0 _ (lookup_mem h)
  rw [if_neg h0] at h
  cases h
def lcc (o idx : Nat) : Option Int64 := (lcT (o * 1000 + idx)).bind (fun x => if x.1 = o ∧ x.2.1 = idx then some x.2.2 else none)
theorem lcc_0_385 : lcc 0 385 = some (1103515245) := rfl
theorem lcc_0_387 : lcc 0 387 = some (12345) := rfl
theorem lcc_0_389 : lcc 0 389 = some (2147483648) := rfl
theorem lcc_0_391 : lcc 0 391 = some (65536) := rfl
theorem lcc_1_117 : lcc 1 117 = some (255) := rfl
theorem lcc_1_131 : lcc 1 131 = some (27) := rfl
theorem lcc_1_137 : lcc 1 137 = some (96) := rfl
theorem lcc_1_146 : lcc 1 146 = some (10) := rfl
theorem lcc_1_148 : lcc 1 148 = some (48) := rfl
theorem lcc_6_31 : lcc 6 31 = some (10) := rfl
theorem lcc_37_230 : lcc 37 230 = some (-128) := rfl
theorem lcc_37_232 : lcc 37 232 = some (127) := rfl
def okIc (x : Nat × Nat × Int32) : Prop := Cond.constant (oN x.1) x.2.1 x.2.2 ∈ lw_all
def icT_l0 : List (Nat × Nat × Nat × Int32) := [(33046, 33, 46, 268435456), (48200, 48, 200, 2147483639)]
theorem icT_o0 : ∀ x ∈ icT_l0, okIc x.2 := List.forall_mem_cons.mpr ⟨((lw_g (lw_at lw_m8 143 rfl) rfl) : okIc (33, 46, 268435456)), List.forall_mem_cons.mpr ⟨((lw_g (lw_at lw_m5 19 rfl) rfl) : okIc (48, 200, 2147483639)), fun _ h => absurd h List.not_mem_nil⟩⟩
def icT (k : Nat) : Option (Nat × Nat × Int32) := if k < 48201 then icT_l0.lookup k else none
theorem icT_ok {k : Nat} {x : Nat × Nat × Int32} (h : icT k = some x) : okIc x := by
  unfold icT at h
  by_cases h0 : k < 48201
  · rw [if_pos h0] at h; exact icT_o0 _ (lookup_mem h)
  rw [if_neg h0] at h
  cases h
def icc (o idx : Nat) : Option Int32 := (icT (o * 1000 + idx)).bind (fun x => if x.1 = o ∧ x.2.1 = idx then some x.2.2 else none)
theorem icc_33_46 : icc 33 46 = some (268435456) := rfl
theorem icc_48_200 : icc 48 200 = some (2147483639) := rfl
/-- the String constants: class, entry, text -/
def sStr : List (Nat × String) := [(11, "hour"), (13, "day"), (15, "opened"), (17, "trust"), (19, "times"), (21, "far"), (29, "mark"), (31, "which"), (36, "owner"), (38, "maid"), (40, "child"), (42, "dog"), (44, "twin"), (49, "mean"), (51, "nearest"), (53, "counts"), (55, "cheap"), (57, "nervous"), (59, "bank"), (64, "hand"), (66, "marks"), (68, "slip"), (70, "door"), (72, "near"), (74, "street"), (76, "gossip"), (78, "guard"), (80, "to"), (82, "learn"), (84, "feel"), (86, "not"), (88, "and"), (90, "or"), (95, "shut"), (150, "()<=+-*;"), (319, "night"), (321, "try")]
