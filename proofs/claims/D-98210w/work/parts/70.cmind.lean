set_option maxRecDepth 100000
/-! THE COMPONENT's HEAP: reads behind writes -/
theorem nI_100k {n : Nat} (h : n ≤ 100000) : (nI n ≤ 100000) = True := eq_true (nI_le (b := 100000) h (by omega))
theorem nI_100 {n : Nat} (h : n ≤ 100) : (nI n ≤ 100) = True := eq_true (nI_le (b := 100) h (by omega))
theorem upd_e {f : Nat → Int32} {k : Nat} {x : Int32} : upd f k x k = x := pk_us
theorem upd_n {f : Nat → Int32} {k j : Nat} {x : Int32} (h : j ≠ k) : upd f k x j = f j := pk_un h
theorem pC_pC {σ : CM} {a : Nat} {c c' : Cl} : pC (pC σ a c) a c' = pC σ a c' := by
  unfold pC
  refine Prod.ext rfl (Prod.ext rfl ?_)
  funext b
  dsimp only
  split <;> rfl
theorem gC_ne' {σ : CM} {a b : Nat} {c : Cl} (h : b ≠ a) : gC (pC σ a c) b = gC σ b := gC_ne h
theorem gC_old' {σ : CM} {k b : Nat} {c : Cl} (h : b < σ.1) : gC (aC σ k c) b = gC σ b := gC_old (Nat.ne_of_lt h)
theorem labs {a b : Nat} (ha : a < 2 ^ 62) (hb : b < 2 ^ 62) : (if lN a - lN b < 0 then -(lN a - lN b) else lN a - lN b) = lN (awN a b) := by
  unfold awN
  by_cases h : a < b
  · have e : lN a - lN b = -(lN (b - a)) := by
      rw [← lN_sub (Nat.le_of_lt h)]
      rw [Int64.neg_sub]
    rw [if_pos h, if_pos, e, Int64.neg_neg]
    rw [e]
    rw [Int64.lt_iff_toInt_lt]
    show (-(Int64.ofNat (b - a))).toInt < _
    rw [Int64.toInt_neg_ofNat_of_le (by omega)]
    have e0 : (0 : Int64).toInt = 0 := by decide
    omega
  · rw [if_neg h, if_neg, lN_sub (by omega)]
    rw [lN_sub (by omega)]
    intro z
    rw [Int64.lt_iff_toInt_lt, pk_lT (by omega)] at z
    have e0 : (0 : Int64).toInt = 0 := by decide
    omega
/-! MINDS -/
def mnC (kd : Nat) : Nat := if kd = 3 then 7 else if kd = 4 then 8 else 6
/-- a mind of a kind at a: what it knows of a row -/
def MindAt (σ : CM) (a kd : Nat) (r : Nat → Nat) : Prop :=
  if kd = 1 then gC σ a = some (.inl (9, [.ref (a + 1), .int (nI (r 11))])) ∧ ∃ F, gC σ (a + 1) = some (.inr (0, 24, .inl F)) ∧ ∀ i, i < 4 * r 11 → F i = nI (r (12 + i))
  else if kd = 2 then gC σ a = some (.inl (10, [.ref (a + 1)])) ∧ ∃ F, gC σ (a + 1) = some (.inr (0, 40, .inl F)) ∧ ∀ i, i < 40 → F i = nI (r (36 + i))
  else if kd = 5 then gC σ a = some (.inl (11, []))
  else gC σ a = some (.inl (mnC kd, [.ref (a + 1), .int (nI (r 10))])) ∧ ∃ F, gC σ (a + 1) = some (.inr (0, 4, .inl F)) ∧ ∀ i, i < 4 → F i = nI (r (6 + i))
/-- an array of ints that are small -/
def IA (σ : CM) (a n : Nat) (f : Nat → Nat) : Prop := ∃ F, gC σ a = some (.inr (0, n, .inl F)) ∧ ∀ i, i < n → F i = nI (f i)
section
variable {zs : Nat → Nat} {e : Nat} {σ : CM} {P : CR → Prop} {a fa kd B : Nat} {r f : Nat → Nat}
theorem MindAt.m (h : MindAt σ a kd r) (hk : kd = 0 ∨ kd = 3 ∨ kd = 4) : gC σ a = some (.inl (mnC kd, [.ref (a + 1), .int (nI (r 10))])) ∧ ∃ F, gC σ (a + 1) = some (.inr (0, 4, .inl F)) ∧ ∀ i, i < 4 → F i = nI (r (6 + i)) := by
  unfold MindAt at h
  rw [if_neg (by omega), if_neg (by omega), if_neg (by omega)] at h
  exact h
theorem c_far_m (hk : kd = 0 ∨ kd = 3 ∨ kd = 4) (hM : MindAt σ a kd r) (hF : IA σ fa 4 f) (hf : ∀ k, k < 4 → f k ≤ 9) (hr : RO B r) (hB : B ≤ 5900000) : EC zs (Jc zs) e cX10_far (some .int) 6 0 0 [some (.ref a), some (.ref fa), none, none, none] [] σ P ↔ P (.inl (some (.int (faV (faS kd r f)))), σ) := by
  obtain ⟨hm, G, hg, hG⟩ := hM.m hk
  obtain ⟨F, hfa, hF⟩ := hF
  have f0 := hf 0 (by omega)
  have f1 := hf 1 (by omega)
  have f2 := hf 2 (by omega)
  have f3 := hf 3 (by omega)
  have r6 := hr.1 6 (by omega)
  have r7 := hr.1 7 (by omega)
  have r8 := hr.1 8 (by omega)
  have r9 := hr.1 9 (by omega)
  have r10 := hr.1 10 (by omega)
  have p0 := mulle r10 f0
  have p1 := mulle r10 f1
  have p2 := mulle r10 f2
  have p3 := mulle r10 f3
  have a0 := awN_le r6 (C := B * 9) (by omega) p0
  have a1 := awN_le r7 (C := B * 9) (by omega) p1
  have a2 := awN_le r8 (C := B * 9) (by omega) p2
  have a3 := awN_le r9 (C := B * 9) (by omega) p3
  have g0 := hG 0 (by omega)
  have g1 := hG 1 (by omega)
  have g2 := hG 2 (by omega)
  have g3 := hG 3 (by omega)
  have hF0 := hF 0 (by omega)
  have hF1 := hF 1 (by omega)
  have hF2 := hF 2 (by omega)
  have hF3 := hF 3 (by omega)
  have ten : (10 : Int64) = lN 10 := rfl
  have zer : (0 : Int64) = lN 0 := rfl
  simp only [Nat.reduceAdd] at g0 g1 g2 g3
  have fin : faS kd r f = if r 10 = 0 then none else some (10 * (awN (r 6) (r 10 * f 0) + (awN (r 7) (r 10 * f 1) + (awN (r 8) (r 10 * f 2) + awN (r 9) (r 10 * f 3)))) / r 10) := by
    unfold faS
    rw [if_neg (by omega), if_neg (by omega), if_neg (by omega)]
  rw [fin]
  have cls : mnC kd = 6 ∨ mnC kd = 7 ∨ mnC kd = 8 := by unfold mnC; rcases hk with rfl | rfl | rfl <;> simp
  by_cases h0 : r 10 = 0
  · rw [if_pos h0]
    rcases cls with hc | hc | hc <;> rw [hc] at hm <;> simp (disch := omega) only [ec_aload_n (i := 0) dX10_far_0 rfl, ec_get dX10_far_1, gw_6_15_6, gw_6_15_7, gw_6_15_8, ec_if_ne (t := 9) dX10_far_4 rfl, ec_iconst (v := (-1)) dX10_far_7 rfl, ec_iret dX10_far_8, ec_zret dX10_far_8, ec_lconst (v := 0) dX10_far_9 rfl, ec_lstore_n (i := 2) dX10_far_10 rfl, ec_iconst (v := nI 0) dX10_far_11 rfl, ec_istore dX10_far_12, ec_iload dX10_far_14, ec_iconst (v := nI 4) dX10_far_16 rfl, ec_icmp_ge (t := 52) dX10_far_17 rfl, ec_lload_n (i := 2) dX10_far_20 rfl, ec_aload_n (i := 0) dX10_far_21 rfl, ec_get dX10_far_22, gw_6_9_6, gw_6_9_7, gw_6_9_8, ec_iload dX10_far_25, ec_iald dX10_far_27, iaE_i, ec_i2l dX10_far_28, ec_aload_n (i := 0) dX10_far_29 rfl, ec_get dX10_far_30, ec_i2l dX10_far_33, ec_aload_n (i := 1) dX10_far_34 rfl, ec_iload dX10_far_35, ec_iald dX10_far_37, ec_i2l dX10_far_38, ec_lmul dX10_far_39, ec_lsub dX10_far_40, ec_j21 dX10_far_41 iT_6_25, J_5, ec_ladd dX10_far_44, ec_lstore_n (i := 2) dX10_far_45 rfl, ec_iinc (v := nI 1) dX10_far_46 rfl, ec_goto (t := 14) dX10_far_49 rfl, ec_ldc2 dX10_far_52 lcc_6_31, ec_lload_n (i := 2) dX10_far_55 rfl, ec_lmul dX10_far_56, ec_aload_n (i := 0) dX10_far_57 rfl, ec_get dX10_far_58, ec_i2l dX10_far_61, ec_ldiv dX10_far_62, ec_l2i dX10_far_63, ec_iret dX10_far_64, ec_zret dX10_far_64, cat1_i, cat1_r, cat1_u, catB_n, catB_i, catB_r, catB_l, catB_u, lg_0, lg_s, ldEI_i, ldEL_l, ldEA_r, ldEA_n, lin_0, lin_s, ls1_0, ls1_1, ls1_s, ls2_0, ls2_1, ls2_s, lcl_i, lcl_r, lcl_l, lcl_u, lcl_n, lent_i, lent_r, lent_l, lent_u, lent_0, lent_s, Option.toList_some, Option.toList_none, List.cons_append, List.nil_append, Nat.reduceAdd, true_and, vin_0, vin_s, aE_0, aE_s, EK_r, EK_t, List.set_cons_zero, List.set_cons_succ, va_rf_s, va_rf_n, pC_1, pC_21, aC_1, aC_21, gC_self, gC_new, eI_, eLg_, eV_, eInc_, eN_, eS_, eJ_, eCl_, nI_add, nI_mul, nI_subI, nI_clampI, inb_t, nI_lt0, nI_0le, nI_m1, nI_m1', nI_ofNat, bI_01, b01_0, b01_1, bI_eq0, bI_eq1, bb_01, true_or, or_true, false_or, or_false, eq_self, Nat.reduceAdd, Nat.reduceMul, Nat.reduceSub, Nat.reduceLT, Nat.reduceLeDiff, Nat.reduceEqDiff, ↓reduceIte, and_true, true_and, and_self, Nat.add_zero, Nat.zero_add, not_false_eq_true, not_true_eq_false, faV_n, faV_s, m1_lt0, m1_0le, m1_eq0, m1_le, le_m1, m1_lt, lt_m1, nI_100k, nI_100, upd_e, upd_n, pC_pC, gC_ne', gC_old', nI_lt_t, nI_lt_f, nI_le_t, nI_le_f, nI_eq_t, nI_eq_f, nI_eq0_t, nI_eq0_f, nI_0lt_t, nI_0lt_f, nI_le0_t, nI_le0_f, nI_eq1_t, nI_eq1_f, hm, hg, hfa, h0]
  · rw [if_neg h0]
    rcases cls with hc | hc | hc <;> rw [hc] at hm
    all_goals
      simp (disch := omega) only [ec_aload_n (i := 0) dX10_far_0 rfl, ec_get dX10_far_1, gw_6_15_6, gw_6_15_7, gw_6_15_8, ec_if_ne (t := 9) dX10_far_4 rfl, ec_iconst (v := (-1)) dX10_far_7 rfl, ec_iret dX10_far_8, ec_zret dX10_far_8, ec_lconst (v := 0) dX10_far_9 rfl, ec_lstore_n (i := 2) dX10_far_10 rfl, ec_iconst (v := nI 0) dX10_far_11 rfl, ec_istore dX10_far_12, ec_iload dX10_far_14, ec_iconst (v := nI 4) dX10_far_16 rfl, ec_icmp_ge (t := 52) dX10_far_17 rfl, ec_lload_n (i := 2) dX10_far_20 rfl, ec_aload_n (i := 0) dX10_far_21 rfl, ec_get dX10_far_22, gw_6_9_6, gw_6_9_7, gw_6_9_8, ec_iload dX10_far_25, ec_iald dX10_far_27, iaE_i, ec_i2l dX10_far_28, ec_aload_n (i := 0) dX10_far_29 rfl, ec_get dX10_far_30, ec_i2l dX10_far_33, ec_aload_n (i := 1) dX10_far_34 rfl, ec_iload dX10_far_35, ec_iald dX10_far_37, ec_i2l dX10_far_38, ec_lmul dX10_far_39, ec_lsub dX10_far_40, ec_j21 dX10_far_41 iT_6_25, J_5, ec_ladd dX10_far_44, ec_lstore_n (i := 2) dX10_far_45 rfl, ec_iinc (v := nI 1) dX10_far_46 rfl, ec_goto (t := 14) dX10_far_49 rfl, ec_ldc2 dX10_far_52 lcc_6_31, ec_lload_n (i := 2) dX10_far_55 rfl, ec_lmul dX10_far_56, ec_aload_n (i := 0) dX10_far_57 rfl, ec_get dX10_far_58, ec_i2l dX10_far_61, ec_ldiv dX10_far_62, ec_l2i dX10_far_63, ec_iret dX10_far_64, ec_zret dX10_far_64, cat1_i, cat1_r, cat1_u, catB_n, catB_i, catB_r, catB_l, catB_u, lg_0, lg_s, ldEI_i, ldEL_l, ldEA_r, ldEA_n, lin_0, lin_s, ls1_0, ls1_1, ls1_s, ls2_0, ls2_1, ls2_s, lcl_i, lcl_r, lcl_l, lcl_u, lcl_n, lent_i, lent_r, lent_l, lent_u, lent_0, lent_s, Option.toList_some, Option.toList_none, List.cons_append, List.nil_append, Nat.reduceAdd, true_and, vin_0, vin_s, aE_0, aE_s, EK_r, EK_t, List.set_cons_zero, List.set_cons_succ, va_rf_s, va_rf_n, pC_1, pC_21, aC_1, aC_21, gC_self, gC_new, eI_, eLg_, eV_, eInc_, eN_, eS_, eJ_, eCl_, nI_add, nI_mul, nI_subI, nI_clampI, inb_t, nI_lt0, nI_0le, nI_m1, nI_m1', nI_ofNat, bI_01, b01_0, b01_1, bI_eq0, bI_eq1, bb_01, true_or, or_true, false_or, or_false, eq_self, Nat.reduceAdd, Nat.reduceMul, Nat.reduceSub, Nat.reduceLT, Nat.reduceLeDiff, Nat.reduceEqDiff, ↓reduceIte, and_true, true_and, and_self, Nat.add_zero, Nat.zero_add, not_false_eq_true, not_true_eq_false, faV_n, faV_s, m1_lt0, m1_0le, m1_eq0, m1_le, le_m1, m1_lt, lt_m1, nI_100k, nI_100, upd_e, upd_n, pC_pC, gC_ne', gC_old', nI_lt_t, nI_lt_f, nI_le_t, nI_le_f, nI_eq_t, nI_eq_f, nI_eq0_t, nI_eq0_f, nI_0lt_t, nI_0lt_f, nI_le0_t, nI_le0_f, nI_eq1_t, nI_eq1_f, hm, hg, hfa, g0, g1, g2, g3, hF0, hF1, hF2, hF3, nI_l, lN_mul, labs, ten]
      simp (disch := omega) only [zer, lN_add, Nat.zero_add, lN_mul, pk_lDiv, lN_i, pk_lEQ, Nat.add_assoc, not_false_eq_true, true_and, h0]
/-- nothing but S has changed, nothing is new -/
def Fs (S : Nat → Prop) (σ σ' : CM) : Prop := σ'.1 = σ.1 ∧ σ'.2.1 = σ.2.1 ∧ (∀ b, ¬ S b → gC σ' b = gC σ b) ∧ ∀ b c, gC σ' b = some c → ∃ c0, gC σ b = some c0
theorem Fs.rf {S : Nat → Prop} : Fs S σ σ := ⟨rfl, rfl, fun _ _ => rfl, fun _ c h => ⟨c, h⟩⟩
theorem Fs.p {S : Nat → Prop} {σ' : CM} {x : Nat} {c0 c : Cl} (h : Fs S σ σ') (hx : gC σ' x = some c0) (hS : S x) : Fs S σ (pC σ' x c) := by
  refine ⟨h.1, h.2.1, fun b hb => ?_, fun b d hb => ?_⟩
  · rw [gC_ne (fun z : b = x => hb (by rw [z]; exact hS))]; exact h.2.2.1 b hb
  · by_cases hbx : b = x
    · subst hbx; exact h.2.2.2 _ _ hx
    · rw [gC_ne hbx] at hb; exact h.2.2.2 b d hb
theorem Fs.tr {S : Nat → Prop} {σ' σ'' : CM} (h : Fs S σ σ') (h' : Fs S σ' σ'') : Fs S σ σ'' := ⟨h'.1.trans h.1, h'.2.1.trans h.2.1, fun b hb => (h'.2.2.1 b hb).trans (h.2.2.1 b hb), fun b c hb => by obtain ⟨c0, h0⟩ := h'.2.2.2 b c hb; exact h.2.2.2 b c0 h0⟩
theorem Fs.sub {S S' : Nat → Prop} {σ' : CM} (h : Fs S σ σ') (hs : ∀ b, S b → S' b) : Fs S' σ σ' := ⟨h.1, h.2.1, fun b hb => h.2.2.1 b (fun z => hb (hs b z)), h.2.2.2⟩
theorem Fs.g {S : Nat → Prop} {σ' : CM} (h : Fs S σ σ') {b : Nat} (hb : ¬ S b) {x : Option Cl} (e : gC σ b = x) : gC σ' b = x := (h.2.2.1 b hb).trans e
theorem IA.k {σ' : CM} {n : Nat} (h : IA σ a n f) (e : gC σ' a = gC σ a) : IA σ' a n f := by obtain ⟨F, h1, h2⟩ := h; exact ⟨F, e.trans h1, h2⟩
theorem MindAt.k {σ' : CM} (h : MindAt σ a kd r) (e0 : gC σ' a = gC σ a) (e1 : gC σ' (a + 1) = gC σ (a + 1)) : MindAt σ' a kd r := by
  unfold MindAt at h ⊢
  rw [e0, e1]
  exact h
theorem MindAt.n (h : MindAt σ a 1 r) : gC σ a = some (.inl (9, [.ref (a + 1), .int (nI (r 11))])) ∧ ∃ F, gC σ (a + 1) = some (.inr (0, 24, .inl F)) ∧ ∀ i, i < 4 * r 11 → F i = nI (r (12 + i)) := h
theorem MindAt.c (h : MindAt σ a 2 r) : gC σ a = some (.inl (10, [.ref (a + 1)])) ∧ ∃ F, gC σ (a + 1) = some (.inr (0, 40, .inl F)) ∧ ∀ i, i < 40 → F i = nI (r (36 + i)) := h
theorem MindAt.b (h : MindAt σ a 5 r) : gC σ a = some (.inl (11, [])) := h
theorem c_far_2 (hM : MindAt σ a 2 r) (hF : IA σ fa 4 f) (hf : ∀ k, k < 4 → f k ≤ 9) : EC zs (Jc zs) e cX9_far (some .int) 10 0 0 [some (.ref a), some (.ref fa), none, none] [] σ P ↔ P (.inl (some (.int (faV (faS 2 r f)))), σ) := by
  obtain ⟨hm, G, hg, hG⟩ := hM.c
  obtain ⟨F, hfa, hF⟩ := hF
  have f0 := hf 0 (by omega)
  have f1 := hf 1 (by omega)
  have f2 := hf 2 (by omega)
  have f3 := hf 3 (by omega)
  have g0 := hG (f 0) (by omega)
  have g1 := hG (10 + f 1) (by omega)
  have g2 := hG (20 + f 2) (by omega)
  have g3 := hG (30 + f 3) (by omega)
  simp only [← Nat.add_assoc, Nat.reduceAdd] at g0 g1 g2 g3
  simp (disch := omega) only [ec_iconst (v := nI 0) dX9_far_0 rfl, ec_istore_n (i := 2) dX9_far_1 rfl, ec_iconst (v := nI 0) dX9_far_2 rfl, ec_istore_n (i := 3) dX9_far_3 rfl, ec_iload_n (i := 3) dX9_far_4 rfl, ec_iconst (v := nI 4) dX9_far_5 rfl, ec_icmp_ge (t := 31) dX9_far_6 rfl, ec_iload_n (i := 2) dX9_far_9 rfl, ec_aload_n (i := 0) dX9_far_10 rfl, ec_get dX9_far_11, gw_10_9_10, ec_bipush (v := nI 10) dX9_far_14 rfl, ec_iload_n (i := 3) dX9_far_16 rfl, ec_imul dX9_far_17, ec_aload_n (i := 1) dX9_far_18 rfl, ec_iload_n (i := 3) dX9_far_19 rfl, ec_iald dX9_far_20, iaE_i, ec_iadd dX9_far_21, ec_iald dX9_far_22, ec_iadd dX9_far_23, ec_istore_n (i := 2) dX9_far_24 rfl, ec_iinc (v := nI 1) dX9_far_25 rfl, ec_goto (t := 4) dX9_far_28 rfl, ec_iload_n (i := 2) dX9_far_31 rfl, ec_iret dX9_far_32, ec_zret dX9_far_32, cat1_i, cat1_r, cat1_u, catB_n, catB_i, catB_r, catB_l, catB_u, lg_0, lg_s, ldEI_i, ldEL_l, ldEA_r, ldEA_n, lin_0, lin_s, ls1_0, ls1_1, ls1_s, ls2_0, ls2_1, ls2_s, lcl_i, lcl_r, lcl_l, lcl_u, lcl_n, lent_i, lent_r, lent_l, lent_u, lent_0, lent_s, Option.toList_some, Option.toList_none, List.cons_append, List.nil_append, Nat.reduceAdd, true_and, vin_0, vin_s, aE_0, aE_s, EK_r, EK_t, List.set_cons_zero, List.set_cons_succ, va_rf_s, va_rf_n, pC_1, pC_21, aC_1, aC_21, gC_self, gC_new, eI_, eLg_, eV_, eInc_, eN_, eS_, eJ_, eCl_, nI_add, nI_mul, nI_subI, nI_clampI, inb_t, nI_lt0, nI_0le, nI_m1, nI_m1', nI_ofNat, bI_01, b01_0, b01_1, bI_eq0, bI_eq1, bb_01, true_or, or_true, false_or, or_false, eq_self, Nat.reduceAdd, Nat.reduceMul, Nat.reduceSub, Nat.reduceLT, Nat.reduceLeDiff, Nat.reduceEqDiff, ↓reduceIte, and_true, true_and, and_self, Nat.add_zero, Nat.zero_add, not_false_eq_true, not_true_eq_false, faV_n, faV_s, m1_lt0, m1_0le, m1_eq0, m1_le, le_m1, m1_lt, lt_m1, nI_100k, nI_100, upd_e, upd_n, pC_pC, gC_ne', gC_old', nI_lt_t, nI_lt_f, nI_le_t, nI_le_f, nI_eq_t, nI_eq_f, nI_eq0_t, nI_eq0_f, nI_0lt_t, nI_0lt_f, nI_le0_t, nI_le0_f, nI_eq1_t, nI_eq1_f, hm, hg, hfa, hF 0, hF 1, hF 2, hF 3, g0, g1, g2, g3, Nat.add_assoc]
  exact Iff.rfl
theorem c_far_5 : EC zs (Jc zs) e cX13_far (some .int) 11 0 0 [some (.ref a), some (.ref fa)] [] σ P ↔ P (.inl (some (.int (faV (faS 5 r f)))), σ) := by
  simp (disch := omega) only [ec_iconst (v := (-1)) dX13_far_0 rfl, ec_iret dX13_far_1, ec_zret dX13_far_1, cat1_i, cat1_r, cat1_u, catB_n, catB_i, catB_r, catB_l, catB_u, lg_0, lg_s, ldEI_i, ldEL_l, ldEA_r, ldEA_n, lin_0, lin_s, ls1_0, ls1_1, ls1_s, ls2_0, ls2_1, ls2_s, lcl_i, lcl_r, lcl_l, lcl_u, lcl_n, lent_i, lent_r, lent_l, lent_u, lent_0, lent_s, Option.toList_some, Option.toList_none, List.cons_append, List.nil_append, Nat.reduceAdd, true_and, vin_0, vin_s, aE_0, aE_s, EK_r, EK_t, List.set_cons_zero, List.set_cons_succ, va_rf_s, va_rf_n, pC_1, pC_21, aC_1, aC_21, gC_self, gC_new, eI_, eLg_, eV_, eInc_, eN_, eS_, eJ_, eCl_, nI_add, nI_mul, nI_subI, nI_clampI, inb_t, nI_lt0, nI_0le, nI_m1, nI_m1', nI_ofNat, bI_01, b01_0, b01_1, bI_eq0, bI_eq1, bb_01, true_or, or_true, false_or, or_false, eq_self, Nat.reduceAdd, Nat.reduceMul, Nat.reduceSub, Nat.reduceLT, Nat.reduceLeDiff, Nat.reduceEqDiff, ↓reduceIte, and_true, true_and, and_self, Nat.add_zero, Nat.zero_add, not_false_eq_true, not_true_eq_false, faV_n, faV_s, m1_lt0, m1_0le, m1_eq0, m1_le, le_m1, m1_lt, lt_m1, nI_100k, nI_100, upd_e, upd_n, pC_pC, gC_ne', gC_old', nI_lt_t, nI_lt_f, nI_le_t, nI_le_f, nI_eq_t, nI_eq_f, nI_eq0_t, nI_eq0_f, nI_0lt_t, nI_0lt_f, nI_le0_t, nI_le0_f, nI_eq1_t, nI_eq1_f]
  exact Iff.rfl
theorem aw_i {a b : Nat} (ha : a < 2 ^ 31) (hb : b < 2 ^ 31) : (if nI a - nI b < 0 then -(nI a - nI b) else nI a - nI b) = nI (awN a b) := by
  unfold awN
  by_cases h : a < b
  · have e : nI a - nI b = -(nI (b - a)) := by rw [← nI_subI (Nat.le_of_lt h), Int32.neg_sub]
    rw [if_pos h, if_pos, e, Int32.neg_neg]
    rw [e, Int32.lt_iff_toInt_lt]
    rw [Int32.toInt_neg, nI_toInt (by omega), Int.bmod_eq_of_le (by omega) (by omega)]
    have e0 : (0 : Int32).toInt = 0 := by decide
    omega
  · rw [if_neg h, if_neg, nI_subI (by omega)]
    rw [nI_subI (by omega)]
    exact nI_pos (by omega)
theorem c_far_lo (hM : MindAt σ a 1 r) (hF : IA σ fa 4 f) (hf : ∀ k, k < 4 → f k ≤ 9) (hr : RO B r) : ∀ (n j : Nat), r 11 = j + n → ∀ (x4 x5 : Option Value), EC zs (Jc zs) e cX8_far (some .int) 9 0 4 [some (.ref a), some (.ref fa), some (.int (faV (nrS r f j))), some (.int (nI j)), x4, x5] [] σ P ↔ P (.inl (some (.int (faV ((nrS r f (j + n)).map (fun n => 10 * n))))), σ)
  | 0, j, hj, x4, x5 => by
    have h11 := hr.2.2.2.1
    obtain ⟨hm, G, hg, hG⟩ := hM.n
    cases hn : nrS r f j with
    | none => simp (disch := omega) only [ec_iconst (v := (-1)) dX8_far_0 rfl, ec_istore_n (i := 2) dX8_far_1 rfl, ec_iconst (v := nI 0) dX8_far_2 rfl, ec_istore_n (i := 3) dX8_far_3 rfl, ec_iload_n (i := 3) dX8_far_4 rfl, ec_aload_n (i := 0) dX8_far_5 rfl, ec_get dX8_far_6, gw_9_15_9, ec_icmp_ge (t := 74) dX8_far_9 rfl, ec_istore dX8_far_13, ec_iconst (v := nI 0) dX8_far_15 rfl, ec_istore dX8_far_16, ec_iload dX8_far_18, ec_iconst (v := nI 4) dX8_far_20 rfl, ec_icmp_ge (t := 54) dX8_far_21 rfl, ec_iload dX8_far_24, ec_aload_n (i := 0) dX8_far_26 rfl, ec_get dX8_far_27, gw_9_9_9, ec_iconst (v := nI 4) dX8_far_30 rfl, ec_iload_n (i := 3) dX8_far_31 rfl, ec_imul dX8_far_32, ec_iload dX8_far_33, ec_iadd dX8_far_35, ec_iald dX8_far_36, iaE_i, ec_aload_n (i := 1) dX8_far_37 rfl, ec_iload dX8_far_38, ec_iald dX8_far_40, ec_isub dX8_far_41, ec_j21 dX8_far_42 iT_9_25, J_4, ec_iadd dX8_far_45, ec_istore dX8_far_46, ec_iinc (v := nI 1) dX8_far_48 rfl, ec_goto (t := 18) dX8_far_51 rfl, ec_iload_n (i := 2) dX8_far_54 rfl, ec_iconst (v := (-1)) dX8_far_55 rfl, ec_icmp_eq (t := 65) dX8_far_56 rfl, ec_iload dX8_far_59, ec_iload_n (i := 2) dX8_far_61 rfl, ec_icmp_ge (t := 68) dX8_far_62 rfl, ec_iload dX8_far_65, ec_istore_n (i := 2) dX8_far_67 rfl, ec_iinc (v := nI 1) dX8_far_68 rfl, ec_goto (t := 4) dX8_far_71 rfl, ec_iload_n (i := 2) dX8_far_74 rfl, ec_iconst (v := (-1)) dX8_far_75 rfl, ec_icmp_ne (t := 83) dX8_far_76 rfl, ec_iconst (v := (-1)) dX8_far_79 rfl, ec_goto (t := 87) dX8_far_80 rfl, ec_bipush (v := nI 10) dX8_far_83 rfl, ec_iload_n (i := 2) dX8_far_85 rfl, ec_imul dX8_far_86, ec_iret dX8_far_87, ec_zret dX8_far_87, cat1_i, cat1_r, cat1_u, catB_n, catB_i, catB_r, catB_l, catB_u, lg_0, lg_s, ldEI_i, ldEL_l, ldEA_r, ldEA_n, lin_0, lin_s, ls1_0, ls1_1, ls1_s, ls2_0, ls2_1, ls2_s, lcl_i, lcl_r, lcl_l, lcl_u, lcl_n, lent_i, lent_r, lent_l, lent_u, lent_0, lent_s, Option.toList_some, Option.toList_none, List.cons_append, List.nil_append, Nat.reduceAdd, true_and, vin_0, vin_s, aE_0, aE_s, EK_r, EK_t, List.set_cons_zero, List.set_cons_succ, va_rf_s, va_rf_n, pC_1, pC_21, aC_1, aC_21, gC_self, gC_new, eI_, eLg_, eV_, eInc_, eN_, eS_, eJ_, eCl_, nI_add, nI_mul, nI_subI, nI_clampI, inb_t, nI_lt0, nI_0le, nI_m1, nI_m1', nI_ofNat, bI_01, b01_0, b01_1, bI_eq0, bI_eq1, bb_01, true_or, or_true, false_or, or_false, eq_self, Nat.reduceAdd, Nat.reduceMul, Nat.reduceSub, Nat.reduceLT, Nat.reduceLeDiff, Nat.reduceEqDiff, ↓reduceIte, and_true, true_and, and_self, Nat.add_zero, Nat.zero_add, not_false_eq_true, not_true_eq_false, faV_n, faV_s, m1_lt0, m1_0le, m1_eq0, m1_le, le_m1, m1_lt, lt_m1, nI_100k, nI_100, upd_e, upd_n, pC_pC, gC_ne', gC_old', nI_lt_t, nI_lt_f, nI_le_t, nI_le_f, nI_eq_t, nI_eq_f, nI_eq0_t, nI_eq0_f, nI_0lt_t, nI_0lt_f, nI_le0_t, nI_le0_f, nI_eq1_t, nI_eq1_f, hm, hn, Option.map_none]
    | some b =>
      have hb := nrS_le hr hf j b (by omega) hn
      simp (disch := omega) only [ec_iconst (v := (-1)) dX8_far_0 rfl, ec_istore_n (i := 2) dX8_far_1 rfl, ec_iconst (v := nI 0) dX8_far_2 rfl, ec_istore_n (i := 3) dX8_far_3 rfl, ec_iload_n (i := 3) dX8_far_4 rfl, ec_aload_n (i := 0) dX8_far_5 rfl, ec_get dX8_far_6, gw_9_15_9, ec_icmp_ge (t := 74) dX8_far_9 rfl, ec_istore dX8_far_13, ec_iconst (v := nI 0) dX8_far_15 rfl, ec_istore dX8_far_16, ec_iload dX8_far_18, ec_iconst (v := nI 4) dX8_far_20 rfl, ec_icmp_ge (t := 54) dX8_far_21 rfl, ec_iload dX8_far_24, ec_aload_n (i := 0) dX8_far_26 rfl, ec_get dX8_far_27, gw_9_9_9, ec_iconst (v := nI 4) dX8_far_30 rfl, ec_iload_n (i := 3) dX8_far_31 rfl, ec_imul dX8_far_32, ec_iload dX8_far_33, ec_iadd dX8_far_35, ec_iald dX8_far_36, iaE_i, ec_aload_n (i := 1) dX8_far_37 rfl, ec_iload dX8_far_38, ec_iald dX8_far_40, ec_isub dX8_far_41, ec_j21 dX8_far_42 iT_9_25, J_4, ec_iadd dX8_far_45, ec_istore dX8_far_46, ec_iinc (v := nI 1) dX8_far_48 rfl, ec_goto (t := 18) dX8_far_51 rfl, ec_iload_n (i := 2) dX8_far_54 rfl, ec_iconst (v := (-1)) dX8_far_55 rfl, ec_icmp_eq (t := 65) dX8_far_56 rfl, ec_iload dX8_far_59, ec_iload_n (i := 2) dX8_far_61 rfl, ec_icmp_ge (t := 68) dX8_far_62 rfl, ec_iload dX8_far_65, ec_istore_n (i := 2) dX8_far_67 rfl, ec_iinc (v := nI 1) dX8_far_68 rfl, ec_goto (t := 4) dX8_far_71 rfl, ec_iload_n (i := 2) dX8_far_74 rfl, ec_iconst (v := (-1)) dX8_far_75 rfl, ec_icmp_ne (t := 83) dX8_far_76 rfl, ec_iconst (v := (-1)) dX8_far_79 rfl, ec_goto (t := 87) dX8_far_80 rfl, ec_bipush (v := nI 10) dX8_far_83 rfl, ec_iload_n (i := 2) dX8_far_85 rfl, ec_imul dX8_far_86, ec_iret dX8_far_87, ec_zret dX8_far_87, cat1_i, cat1_r, cat1_u, catB_n, catB_i, catB_r, catB_l, catB_u, lg_0, lg_s, ldEI_i, ldEL_l, ldEA_r, ldEA_n, lin_0, lin_s, ls1_0, ls1_1, ls1_s, ls2_0, ls2_1, ls2_s, lcl_i, lcl_r, lcl_l, lcl_u, lcl_n, lent_i, lent_r, lent_l, lent_u, lent_0, lent_s, Option.toList_some, Option.toList_none, List.cons_append, List.nil_append, Nat.reduceAdd, true_and, vin_0, vin_s, aE_0, aE_s, EK_r, EK_t, List.set_cons_zero, List.set_cons_succ, va_rf_s, va_rf_n, pC_1, pC_21, aC_1, aC_21, gC_self, gC_new, eI_, eLg_, eV_, eInc_, eN_, eS_, eJ_, eCl_, nI_add, nI_mul, nI_subI, nI_clampI, inb_t, nI_lt0, nI_0le, nI_m1, nI_m1', nI_ofNat, bI_01, b01_0, b01_1, bI_eq0, bI_eq1, bb_01, true_or, or_true, false_or, or_false, eq_self, Nat.reduceAdd, Nat.reduceMul, Nat.reduceSub, Nat.reduceLT, Nat.reduceLeDiff, Nat.reduceEqDiff, ↓reduceIte, and_true, true_and, and_self, Nat.add_zero, Nat.zero_add, not_false_eq_true, not_true_eq_false, faV_n, faV_s, m1_lt0, m1_0le, m1_eq0, m1_le, le_m1, m1_lt, lt_m1, nI_100k, nI_100, upd_e, upd_n, pC_pC, gC_ne', gC_old', nI_lt_t, nI_lt_f, nI_le_t, nI_le_f, nI_eq_t, nI_eq_f, nI_eq0_t, nI_eq0_f, nI_0lt_t, nI_0lt_f, nI_le0_t, nI_le0_f, nI_eq1_t, nI_eq1_f, hm, hn, Option.map_some]
  | n + 1, j, hj, x4, x5 => by
    have h11 := hr.2.2.2.1
    have ih := c_far_lo hM hF hf hr n (j + 1) (by omega)
    obtain ⟨hm, G, hg, hG⟩ := hM.n
    obtain ⟨F, hfa, hF⟩ := hF
    have f0 := hf 0 (by omega)
    have f1 := hf 1 (by omega)
    have f2 := hf 2 (by omega)
    have f3 := hf 3 (by omega)
    have m0 := hr.2.2.2.2.1 (4 * j) (by omega)
    have m1 := hr.2.2.2.2.1 (4 * j + 1) (by omega)
    have m2 := hr.2.2.2.2.1 (4 * j + 2) (by omega)
    have m3 := hr.2.2.2.2.1 (4 * j + 3) (by omega)
    have a0 := awN_le m0 (C := 9) (by omega) f0
    have a1 := awN_le m1 (C := 9) (by omega) f1
    have a2 := awN_le m2 (C := 9) (by omega) f2
    have a3 := awN_le m3 (C := 9) (by omega) f3
    have g0 := hG (4 * j) (by omega)
    have g1 := hG (4 * j + 1) (by omega)
    have g2 := hG (4 * j + 2) (by omega)
    have g3 := hG (4 * j + 3) (by omega)
    rw [show j + (n + 1) = j + 1 + n by omega]
    cases hn : nrS r f j with
    | none =>
      have e1 := nrS.eq_2 r f j
      rw [hn] at e1
      simp only [e1, faV_s] at ih
      rw [ec_iload_n (i := 3) dX8_far_4 rfl]
      simp (disch := omega) only [ec_iconst (v := (-1)) dX8_far_0 rfl, ec_istore_n (i := 2) dX8_far_1 rfl, ec_iconst (v := nI 0) dX8_far_2 rfl, ec_istore_n (i := 3) dX8_far_3 rfl, ec_aload_n (i := 0) dX8_far_5 rfl, ec_get dX8_far_6, gw_9_15_9, ec_icmp_ge (t := 74) dX8_far_9 rfl, ec_iconst (v := nI 0) dX8_far_12 rfl, ec_istore dX8_far_13, ec_iconst (v := nI 0) dX8_far_15 rfl, ec_istore dX8_far_16, ec_iload dX8_far_18, ec_iconst (v := nI 4) dX8_far_20 rfl, ec_icmp_ge (t := 54) dX8_far_21 rfl, ec_iload dX8_far_24, ec_aload_n (i := 0) dX8_far_26 rfl, ec_get dX8_far_27, gw_9_9_9, ec_iconst (v := nI 4) dX8_far_30 rfl, ec_iload_n (i := 3) dX8_far_31 rfl, ec_imul dX8_far_32, ec_iload dX8_far_33, ec_iadd dX8_far_35, ec_iald dX8_far_36, iaE_i, ec_aload_n (i := 1) dX8_far_37 rfl, ec_iload dX8_far_38, ec_iald dX8_far_40, ec_isub dX8_far_41, ec_j21 dX8_far_42 iT_9_25, J_4, ec_iadd dX8_far_45, ec_istore dX8_far_46, ec_iinc (v := nI 1) dX8_far_48 rfl, ec_goto (t := 18) dX8_far_51 rfl, ec_iload_n (i := 2) dX8_far_54 rfl, ec_iconst (v := (-1)) dX8_far_55 rfl, ec_icmp_eq (t := 65) dX8_far_56 rfl, ec_iload dX8_far_59, ec_iload_n (i := 2) dX8_far_61 rfl, ec_icmp_ge (t := 68) dX8_far_62 rfl, ec_iload dX8_far_65, ec_istore_n (i := 2) dX8_far_67 rfl, ec_iinc (v := nI 1) dX8_far_68 rfl, ec_goto (t := 4) dX8_far_71 rfl, ec_iload_n (i := 2) dX8_far_74 rfl, ec_iconst (v := (-1)) dX8_far_75 rfl, ec_icmp_ne (t := 83) dX8_far_76 rfl, ec_iconst (v := (-1)) dX8_far_79 rfl, ec_goto (t := 87) dX8_far_80 rfl, ec_bipush (v := nI 10) dX8_far_83 rfl, ec_iload_n (i := 2) dX8_far_85 rfl, ec_imul dX8_far_86, ec_iret dX8_far_87, ec_zret dX8_far_87, cat1_i, cat1_r, cat1_u, catB_n, catB_i, catB_r, catB_l, catB_u, lg_0, lg_s, ldEI_i, ldEL_l, ldEA_r, ldEA_n, lin_0, lin_s, ls1_0, ls1_1, ls1_s, ls2_0, ls2_1, ls2_s, lcl_i, lcl_r, lcl_l, lcl_u, lcl_n, lent_i, lent_r, lent_l, lent_u, lent_0, lent_s, Option.toList_some, Option.toList_none, List.cons_append, List.nil_append, Nat.reduceAdd, true_and, vin_0, vin_s, aE_0, aE_s, EK_r, EK_t, List.set_cons_zero, List.set_cons_succ, va_rf_s, va_rf_n, pC_1, pC_21, aC_1, aC_21, gC_self, gC_new, eI_, eLg_, eV_, eInc_, eN_, eS_, eJ_, eCl_, nI_add, nI_mul, nI_subI, nI_clampI, inb_t, nI_lt0, nI_0le, nI_m1, nI_m1', nI_ofNat, bI_01, b01_0, b01_1, bI_eq0, bI_eq1, bb_01, true_or, or_true, false_or, or_false, eq_self, Nat.reduceAdd, Nat.reduceMul, Nat.reduceSub, Nat.reduceLT, Nat.reduceLeDiff, Nat.reduceEqDiff, ↓reduceIte, and_true, true_and, and_self, Nat.add_zero, Nat.zero_add, not_false_eq_true, not_true_eq_false, faV_n, faV_s, m1_lt0, m1_0le, m1_eq0, m1_le, le_m1, m1_lt, lt_m1, nI_100k, nI_100, upd_e, upd_n, pC_pC, gC_ne', gC_old', nI_lt_t, nI_lt_f, nI_le_t, nI_le_f, nI_eq_t, nI_eq_f, nI_eq0_t, nI_eq0_f, nI_0lt_t, nI_0lt_f, nI_le0_t, nI_le0_f, nI_eq1_t, nI_eq1_f, hm, hg, hfa, hF 0, hF 1, hF 2, hF 3, g0, g1, g2, g3, aw_i, Nat.add_assoc]
      rw [Nat.add_assoc] at ih
      exact ih _ _
    | some b =>
      have hb := nrS_le hr hf j b (by omega) hn
      have e1 := nrS.eq_2 r f j
      rw [hn] at e1
      simp only [e1, faV_s] at ih
      rw [ec_iload_n (i := 3) dX8_far_4 rfl]
      simp (disch := omega) only [ec_iconst (v := (-1)) dX8_far_0 rfl, ec_istore_n (i := 2) dX8_far_1 rfl, ec_iconst (v := nI 0) dX8_far_2 rfl, ec_istore_n (i := 3) dX8_far_3 rfl, ec_aload_n (i := 0) dX8_far_5 rfl, ec_get dX8_far_6, gw_9_15_9, ec_icmp_ge (t := 74) dX8_far_9 rfl, ec_iconst (v := nI 0) dX8_far_12 rfl, ec_istore dX8_far_13, ec_iconst (v := nI 0) dX8_far_15 rfl, ec_istore dX8_far_16, ec_iload dX8_far_18, ec_iconst (v := nI 4) dX8_far_20 rfl, ec_icmp_ge (t := 54) dX8_far_21 rfl, ec_iload dX8_far_24, ec_aload_n (i := 0) dX8_far_26 rfl, ec_get dX8_far_27, gw_9_9_9, ec_iconst (v := nI 4) dX8_far_30 rfl, ec_iload_n (i := 3) dX8_far_31 rfl, ec_imul dX8_far_32, ec_iload dX8_far_33, ec_iadd dX8_far_35, ec_iald dX8_far_36, iaE_i, ec_aload_n (i := 1) dX8_far_37 rfl, ec_iload dX8_far_38, ec_iald dX8_far_40, ec_isub dX8_far_41, ec_j21 dX8_far_42 iT_9_25, J_4, ec_iadd dX8_far_45, ec_istore dX8_far_46, ec_iinc (v := nI 1) dX8_far_48 rfl, ec_goto (t := 18) dX8_far_51 rfl, ec_iconst (v := (-1)) dX8_far_55 rfl, ec_icmp_eq (t := 65) dX8_far_56 rfl, ec_iload dX8_far_59, ec_iload_n (i := 2) dX8_far_61 rfl, ec_icmp_ge (t := 68) dX8_far_62 rfl, ec_iload dX8_far_65, ec_istore_n (i := 2) dX8_far_67 rfl, ec_iinc (v := nI 1) dX8_far_68 rfl, ec_goto (t := 4) dX8_far_71 rfl, ec_iload_n (i := 2) dX8_far_74 rfl, ec_iconst (v := (-1)) dX8_far_75 rfl, ec_icmp_ne (t := 83) dX8_far_76 rfl, ec_iconst (v := (-1)) dX8_far_79 rfl, ec_goto (t := 87) dX8_far_80 rfl, ec_bipush (v := nI 10) dX8_far_83 rfl, ec_iload_n (i := 2) dX8_far_85 rfl, ec_imul dX8_far_86, ec_iret dX8_far_87, ec_zret dX8_far_87, cat1_i, cat1_r, cat1_u, catB_n, catB_i, catB_r, catB_l, catB_u, lg_0, lg_s, ldEI_i, ldEL_l, ldEA_r, ldEA_n, lin_0, lin_s, ls1_0, ls1_1, ls1_s, ls2_0, ls2_1, ls2_s, lcl_i, lcl_r, lcl_l, lcl_u, lcl_n, lent_i, lent_r, lent_l, lent_u, lent_0, lent_s, Option.toList_some, Option.toList_none, List.cons_append, List.nil_append, Nat.reduceAdd, true_and, vin_0, vin_s, aE_0, aE_s, EK_r, EK_t, List.set_cons_zero, List.set_cons_succ, va_rf_s, va_rf_n, pC_1, pC_21, aC_1, aC_21, gC_self, gC_new, eI_, eLg_, eV_, eInc_, eN_, eS_, eJ_, eCl_, nI_add, nI_mul, nI_subI, nI_clampI, inb_t, nI_lt0, nI_0le, nI_m1, nI_m1', nI_ofNat, bI_01, b01_0, b01_1, bI_eq0, bI_eq1, bb_01, true_or, or_true, false_or, or_false, eq_self, Nat.reduceAdd, Nat.reduceMul, Nat.reduceSub, Nat.reduceLT, Nat.reduceLeDiff, Nat.reduceEqDiff, ↓reduceIte, and_true, true_and, and_self, Nat.add_zero, Nat.zero_add, not_false_eq_true, not_true_eq_false, faV_n, faV_s, m1_lt0, m1_0le, m1_eq0, m1_le, le_m1, m1_lt, lt_m1, nI_100k, nI_100, upd_e, upd_n, pC_pC, gC_ne', gC_old', nI_lt_t, nI_lt_f, nI_le_t, nI_le_f, nI_eq_t, nI_eq_f, nI_eq0_t, nI_eq0_f, nI_0lt_t, nI_0lt_f, nI_le0_t, nI_le0_f, nI_eq1_t, nI_eq1_f, hm, hg, hfa, hF 0, hF 1, hF 2, hF 3, g0, g1, g2, g3, aw_i, Nat.add_assoc]
      rw [Nat.add_assoc] at ih
      by_cases hlt : awN (r (12 + 4 * j)) (f 0) + (awN (r (12 + (4 * j + 1))) (f 1) + (awN (r (12 + (4 * j + 2))) (f 2) + awN (r (12 + (4 * j + 3))) (f 3))) < b
      · rw [if_pos hlt] at ih
        rw [ec_iload_n (i := 2) dX8_far_54 rfl]
        simp (disch := omega) only [ec_iconst (v := (-1)) dX8_far_0 rfl, ec_istore_n (i := 2) dX8_far_1 rfl, ec_iconst (v := nI 0) dX8_far_2 rfl, ec_istore_n (i := 3) dX8_far_3 rfl, ec_aload_n (i := 0) dX8_far_5 rfl, ec_get dX8_far_6, gw_9_15_9, ec_icmp_ge (t := 74) dX8_far_9 rfl, ec_iconst (v := nI 0) dX8_far_12 rfl, ec_istore dX8_far_13, ec_iconst (v := nI 0) dX8_far_15 rfl, ec_istore dX8_far_16, ec_iload dX8_far_18, ec_iconst (v := nI 4) dX8_far_20 rfl, ec_icmp_ge (t := 54) dX8_far_21 rfl, ec_iload dX8_far_24, ec_aload_n (i := 0) dX8_far_26 rfl, ec_get dX8_far_27, gw_9_9_9, ec_iconst (v := nI 4) dX8_far_30 rfl, ec_iload_n (i := 3) dX8_far_31 rfl, ec_imul dX8_far_32, ec_iload dX8_far_33, ec_iadd dX8_far_35, ec_iald dX8_far_36, iaE_i, ec_aload_n (i := 1) dX8_far_37 rfl, ec_iload dX8_far_38, ec_iald dX8_far_40, ec_isub dX8_far_41, ec_j21 dX8_far_42 iT_9_25, J_4, ec_iadd dX8_far_45, ec_istore dX8_far_46, ec_iinc (v := nI 1) dX8_far_48 rfl, ec_goto (t := 18) dX8_far_51 rfl, ec_iload_n (i := 2) dX8_far_54 rfl, ec_iconst (v := (-1)) dX8_far_55 rfl, ec_icmp_eq (t := 65) dX8_far_56 rfl, ec_iload dX8_far_59, ec_iload_n (i := 2) dX8_far_61 rfl, ec_icmp_ge (t := 68) dX8_far_62 rfl, ec_iload dX8_far_65, ec_istore_n (i := 2) dX8_far_67 rfl, ec_iinc (v := nI 1) dX8_far_68 rfl, ec_goto (t := 4) dX8_far_71 rfl, ec_iload_n (i := 2) dX8_far_74 rfl, ec_iconst (v := (-1)) dX8_far_75 rfl, ec_icmp_ne (t := 83) dX8_far_76 rfl, ec_iconst (v := (-1)) dX8_far_79 rfl, ec_goto (t := 87) dX8_far_80 rfl, ec_bipush (v := nI 10) dX8_far_83 rfl, ec_iload_n (i := 2) dX8_far_85 rfl, ec_imul dX8_far_86, ec_iret dX8_far_87, ec_zret dX8_far_87, cat1_i, cat1_r, cat1_u, catB_n, catB_i, catB_r, catB_l, catB_u, lg_0, lg_s, ldEI_i, ldEL_l, ldEA_r, ldEA_n, lin_0, lin_s, ls1_0, ls1_1, ls1_s, ls2_0, ls2_1, ls2_s, lcl_i, lcl_r, lcl_l, lcl_u, lcl_n, lent_i, lent_r, lent_l, lent_u, lent_0, lent_s, Option.toList_some, Option.toList_none, List.cons_append, List.nil_append, Nat.reduceAdd, true_and, vin_0, vin_s, aE_0, aE_s, EK_r, EK_t, List.set_cons_zero, List.set_cons_succ, va_rf_s, va_rf_n, pC_1, pC_21, aC_1, aC_21, gC_self, gC_new, eI_, eLg_, eV_, eInc_, eN_, eS_, eJ_, eCl_, nI_add, nI_mul, nI_subI, nI_clampI, inb_t, nI_lt0, nI_0le, nI_m1, nI_m1', nI_ofNat, bI_01, b01_0, b01_1, bI_eq0, bI_eq1, bb_01, true_or, or_true, false_or, or_false, eq_self, Nat.reduceAdd, Nat.reduceMul, Nat.reduceSub, Nat.reduceLT, Nat.reduceLeDiff, Nat.reduceEqDiff, ↓reduceIte, and_true, true_and, and_self, Nat.add_zero, Nat.zero_add, not_false_eq_true, not_true_eq_false, faV_n, faV_s, m1_lt0, m1_0le, m1_eq0, m1_le, le_m1, m1_lt, lt_m1, nI_100k, nI_100, upd_e, upd_n, pC_pC, gC_ne', gC_old', nI_lt_t, nI_lt_f, nI_le_t, nI_le_f, nI_eq_t, nI_eq_f, nI_eq0_t, nI_eq0_f, nI_0lt_t, nI_0lt_f, nI_le0_t, nI_le0_f, nI_eq1_t, nI_eq1_f]
        exact ih _ _
      · rw [if_neg hlt] at ih
        rw [ec_iload_n (i := 2) dX8_far_54 rfl]
        simp (disch := omega) only [ec_iconst (v := (-1)) dX8_far_0 rfl, ec_istore_n (i := 2) dX8_far_1 rfl, ec_iconst (v := nI 0) dX8_far_2 rfl, ec_istore_n (i := 3) dX8_far_3 rfl, ec_aload_n (i := 0) dX8_far_5 rfl, ec_get dX8_far_6, gw_9_15_9, ec_icmp_ge (t := 74) dX8_far_9 rfl, ec_iconst (v := nI 0) dX8_far_12 rfl, ec_istore dX8_far_13, ec_iconst (v := nI 0) dX8_far_15 rfl, ec_istore dX8_far_16, ec_iload dX8_far_18, ec_iconst (v := nI 4) dX8_far_20 rfl, ec_icmp_ge (t := 54) dX8_far_21 rfl, ec_iload dX8_far_24, ec_aload_n (i := 0) dX8_far_26 rfl, ec_get dX8_far_27, gw_9_9_9, ec_iconst (v := nI 4) dX8_far_30 rfl, ec_iload_n (i := 3) dX8_far_31 rfl, ec_imul dX8_far_32, ec_iload dX8_far_33, ec_iadd dX8_far_35, ec_iald dX8_far_36, iaE_i, ec_aload_n (i := 1) dX8_far_37 rfl, ec_iload dX8_far_38, ec_iald dX8_far_40, ec_isub dX8_far_41, ec_j21 dX8_far_42 iT_9_25, J_4, ec_iadd dX8_far_45, ec_istore dX8_far_46, ec_iinc (v := nI 1) dX8_far_48 rfl, ec_goto (t := 18) dX8_far_51 rfl, ec_iload_n (i := 2) dX8_far_54 rfl, ec_iconst (v := (-1)) dX8_far_55 rfl, ec_icmp_eq (t := 65) dX8_far_56 rfl, ec_iload dX8_far_59, ec_iload_n (i := 2) dX8_far_61 rfl, ec_icmp_ge (t := 68) dX8_far_62 rfl, ec_iload dX8_far_65, ec_istore_n (i := 2) dX8_far_67 rfl, ec_iinc (v := nI 1) dX8_far_68 rfl, ec_goto (t := 4) dX8_far_71 rfl, ec_iload_n (i := 2) dX8_far_74 rfl, ec_iconst (v := (-1)) dX8_far_75 rfl, ec_icmp_ne (t := 83) dX8_far_76 rfl, ec_iconst (v := (-1)) dX8_far_79 rfl, ec_goto (t := 87) dX8_far_80 rfl, ec_bipush (v := nI 10) dX8_far_83 rfl, ec_iload_n (i := 2) dX8_far_85 rfl, ec_imul dX8_far_86, ec_iret dX8_far_87, ec_zret dX8_far_87, cat1_i, cat1_r, cat1_u, catB_n, catB_i, catB_r, catB_l, catB_u, lg_0, lg_s, ldEI_i, ldEL_l, ldEA_r, ldEA_n, lin_0, lin_s, ls1_0, ls1_1, ls1_s, ls2_0, ls2_1, ls2_s, lcl_i, lcl_r, lcl_l, lcl_u, lcl_n, lent_i, lent_r, lent_l, lent_u, lent_0, lent_s, Option.toList_some, Option.toList_none, List.cons_append, List.nil_append, Nat.reduceAdd, true_and, vin_0, vin_s, aE_0, aE_s, EK_r, EK_t, List.set_cons_zero, List.set_cons_succ, va_rf_s, va_rf_n, pC_1, pC_21, aC_1, aC_21, gC_self, gC_new, eI_, eLg_, eV_, eInc_, eN_, eS_, eJ_, eCl_, nI_add, nI_mul, nI_subI, nI_clampI, inb_t, nI_lt0, nI_0le, nI_m1, nI_m1', nI_ofNat, bI_01, b01_0, b01_1, bI_eq0, bI_eq1, bb_01, true_or, or_true, false_or, or_false, eq_self, Nat.reduceAdd, Nat.reduceMul, Nat.reduceSub, Nat.reduceLT, Nat.reduceLeDiff, Nat.reduceEqDiff, ↓reduceIte, and_true, true_and, and_self, Nat.add_zero, Nat.zero_add, not_false_eq_true, not_true_eq_false, faV_n, faV_s, m1_lt0, m1_0le, m1_eq0, m1_le, le_m1, m1_lt, lt_m1, nI_100k, nI_100, upd_e, upd_n, pC_pC, gC_ne', gC_old', nI_lt_t, nI_lt_f, nI_le_t, nI_le_f, nI_eq_t, nI_eq_f, nI_eq0_t, nI_eq0_f, nI_0lt_t, nI_0lt_f, nI_le0_t, nI_le0_f, nI_eq1_t, nI_eq1_f]
        exact ih _ _
theorem c_far_1 (hM : MindAt σ a 1 r) (hF : IA σ fa 4 f) (hf : ∀ k, k < 4 → f k ≤ 9) (hr : RO B r) : EC zs (Jc zs) e cX8_far (some .int) 9 0 0 [some (.ref a), some (.ref fa), none, none, none, none] [] σ P ↔ P (.inl (some (.int (faV (faS 1 r f)))), σ) := by
  simp (disch := omega) only [ec_iconst (v := (-1)) dX8_far_0 rfl, ec_istore_n (i := 2) dX8_far_1 rfl, ec_iconst (v := nI 0) dX8_far_2 rfl, ec_istore_n (i := 3) dX8_far_3 rfl, ec_aload_n (i := 0) dX8_far_5 rfl, ec_get dX8_far_6, gw_9_15_9, ec_icmp_ge (t := 74) dX8_far_9 rfl, ec_iconst (v := nI 0) dX8_far_12 rfl, ec_istore dX8_far_13, ec_iconst (v := nI 0) dX8_far_15 rfl, ec_istore dX8_far_16, ec_iload dX8_far_18, ec_iconst (v := nI 4) dX8_far_20 rfl, ec_icmp_ge (t := 54) dX8_far_21 rfl, ec_iload dX8_far_24, ec_aload_n (i := 0) dX8_far_26 rfl, ec_get dX8_far_27, gw_9_9_9, ec_iconst (v := nI 4) dX8_far_30 rfl, ec_iload_n (i := 3) dX8_far_31 rfl, ec_imul dX8_far_32, ec_iload dX8_far_33, ec_iadd dX8_far_35, ec_iald dX8_far_36, iaE_i, ec_aload_n (i := 1) dX8_far_37 rfl, ec_iload dX8_far_38, ec_iald dX8_far_40, ec_isub dX8_far_41, ec_j21 dX8_far_42 iT_9_25, J_4, ec_iadd dX8_far_45, ec_istore dX8_far_46, ec_iinc (v := nI 1) dX8_far_48 rfl, ec_goto (t := 18) dX8_far_51 rfl, ec_iload_n (i := 2) dX8_far_54 rfl, ec_iconst (v := (-1)) dX8_far_55 rfl, ec_icmp_eq (t := 65) dX8_far_56 rfl, ec_iload dX8_far_59, ec_iload_n (i := 2) dX8_far_61 rfl, ec_icmp_ge (t := 68) dX8_far_62 rfl, ec_iload dX8_far_65, ec_istore_n (i := 2) dX8_far_67 rfl, ec_iinc (v := nI 1) dX8_far_68 rfl, ec_goto (t := 4) dX8_far_71 rfl, ec_iload_n (i := 2) dX8_far_74 rfl, ec_iconst (v := (-1)) dX8_far_75 rfl, ec_icmp_ne (t := 83) dX8_far_76 rfl, ec_iconst (v := (-1)) dX8_far_79 rfl, ec_goto (t := 87) dX8_far_80 rfl, ec_bipush (v := nI 10) dX8_far_83 rfl, ec_iload_n (i := 2) dX8_far_85 rfl, ec_imul dX8_far_86, ec_iret dX8_far_87, ec_zret dX8_far_87, cat1_i, cat1_r, cat1_u, catB_n, catB_i, catB_r, catB_l, catB_u, lg_0, lg_s, ldEI_i, ldEL_l, ldEA_r, ldEA_n, lin_0, lin_s, ls1_0, ls1_1, ls1_s, ls2_0, ls2_1, ls2_s, lcl_i, lcl_r, lcl_l, lcl_u, lcl_n, lent_i, lent_r, lent_l, lent_u, lent_0, lent_s, Option.toList_some, Option.toList_none, List.cons_append, List.nil_append, Nat.reduceAdd, true_and, vin_0, vin_s, aE_0, aE_s, EK_r, EK_t, List.set_cons_zero, List.set_cons_succ, va_rf_s, va_rf_n, pC_1, pC_21, aC_1, aC_21, gC_self, gC_new, eI_, eLg_, eV_, eInc_, eN_, eS_, eJ_, eCl_, nI_add, nI_mul, nI_subI, nI_clampI, inb_t, nI_lt0, nI_0le, nI_m1, nI_m1', nI_ofNat, bI_01, b01_0, b01_1, bI_eq0, bI_eq1, bb_01, true_or, or_true, false_or, or_false, eq_self, Nat.reduceAdd, Nat.reduceMul, Nat.reduceSub, Nat.reduceLT, Nat.reduceLeDiff, Nat.reduceEqDiff, ↓reduceIte, and_true, true_and, and_self, Nat.add_zero, Nat.zero_add, not_false_eq_true, not_true_eq_false, faV_n, faV_s, m1_lt0, m1_0le, m1_eq0, m1_le, le_m1, m1_lt, lt_m1, nI_100k, nI_100, upd_e, upd_n, pC_pC, gC_ne', gC_old', nI_lt_t, nI_lt_f, nI_le_t, nI_le_f, nI_eq_t, nI_eq_f, nI_eq0_t, nI_eq0_f, nI_0lt_t, nI_0lt_f, nI_le0_t, nI_le0_f, nI_eq1_t, nI_eq1_f]
  have := c_far_lo (zs := zs) (e := e) (P := P) hM hF hf hr (r 11) 0 (by omega) none none
  rw [Nat.zero_add] at this
  exact this
end
