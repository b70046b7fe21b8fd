set_option maxRecDepth 100000
section
variable {zs : Nat → Nat} {e : Nat} {σ : CM} {P : CR → Prop} {a fa kd B m : Nat} {r f : Nat → Nat}
theorem mnC_cls (hk : kd = 0 ∨ kd = 3 ∨ kd = 4) : mnC kd = 6 ∨ mnC kd = 7 ∨ mnC kd = 8 := by unfold mnC; rcases hk with rfl | rfl | rfl <;> simp
theorem MindAt.mk_m (hk : kd = 0 ∨ kd = 3 ∨ kd = 4) {F : Nat → Int32} (h0 : gC σ a = some (.inl (mnC kd, [.ref (a + 1), .int (nI (r 10))]))) (h1 : gC σ (a + 1) = some (.inr (0, 4, .inl F))) (h2 : ∀ i, i < 4 → F i = nI (r (6 + i))) : MindAt σ a kd r := by
  unfold MindAt
  rw [if_neg (by omega), if_neg (by omega), if_neg (by omega)]
  exact ⟨h0, F, h1, h2⟩
/-- a mind's own cells -/
def MS (a : Nat) : Nat → Prop := fun b => b = a ∨ b = a + 1
theorem c_learns_m (hk : kd = 0 ∨ kd = 3 ∨ kd = 4) (hM : MindAt σ a kd r) (hF : IA σ fa 4 f) (hfa : fa ≠ a + 1) (hP : ∀ σ', Fs (MS a) σ σ' → MindAt σ' a kd (lrS kd r f m) → P (.inl none, σ')) : EC zs (Jc zs) e cX10_learns none 6 0 0 [some (.ref a), some (.ref fa), some (.int (nI m)), none] [] σ P := by
  obtain ⟨hm, G, hg, hG⟩ := hM.m hk
  obtain ⟨F, hfc, hF⟩ := hF
  have g0 := hG 0 (by omega)
  have g1 := hG 1 (by omega)
  have g2 := hG 2 (by omega)
  have g3 := hG 3 (by omega)
  simp only [Nat.reduceAdd] at g0 g1 g2 g3
  have lr : lrS kd r f m = upN (upN (upN (upN (upN r 6 (r 6 + m * f 0)) 7 (r 7 + m * f 1)) 8 (r 8 + m * f 2)) 9 (r 9 + m * f 3)) 10 (r 10 + m) := by
    unfold lrS
    rw [if_neg (by omega), if_neg (by omega), if_neg (by omega)]
  have fin : ∀ c : Nat, c = mnC kd → gC σ a = some (.inl (c, [.ref (a + 1), .int (nI (r 10))])) → P (.inl none, pC (pC σ (a + 1) (.inr (0, 4, .inl (upd (upd (upd (upd G 0 (nI (r 6 + m * f 0))) 1 (nI (r 7 + m * f 1))) 2 (nI (r 8 + m * f 2))) 3 (nI (r 9 + m * f 3)))))) a (.inl (c, [.ref (a + 1), .int (nI (r 10 + m))]))) := by
    intro c hc hmc
    have e1 : gC (pC σ (a + 1) (.inr (0, 4, .inl (upd (upd (upd (upd G 0 (nI (r 6 + m * f 0))) 1 (nI (r 7 + m * f 1))) 2 (nI (r 8 + m * f 2))) 3 (nI (r 9 + m * f 3)))))) a = some (.inl (c, [.ref (a + 1), .int (nI (r 10))])) := by rw [gC_ne (by omega)]; exact hmc
    refine hP _ ((Fs.rf.p hg (Or.inr rfl)).p e1 (Or.inl rfl)) (MindAt.mk_m hk (F := upd (upd (upd (upd G 0 (nI (r 6 + m * f 0))) 1 (nI (r 7 + m * f 1))) 2 (nI (r 8 + m * f 2))) 3 (nI (r 9 + m * f 3))) ?_ ?_ ?_)
    · rw [gC_self, hc, lr, upN_s]
    · rw [gC_ne (by omega), gC_self]
    · intro i hi
      rw [lr]
      have : i = 0 ∨ i = 1 ∨ i = 2 ∨ i = 3 := by omega
      rcases this with rfl | rfl | rfl | rfl <;> simp (disch := omega) only [upd_e, upd_n, upN_s, upN_n, Nat.reduceAdd]
  rcases mnC_cls hk with hc | hc | hc <;> rw [hc] at hm <;> simp (disch := omega) only [ec_iconst (v := nI 0) dX10_learns_0 rfl, ec_istore_n (i := 3) dX10_learns_1 rfl, ec_iload_n (i := 3) dX10_learns_2 rfl, ec_iconst (v := nI 4) dX10_learns_3 rfl, ec_icmp_ge (t := 27) dX10_learns_4 rfl, ec_aload_n (i := 0) dX10_learns_7 rfl, ec_get dX10_learns_8, gw_6_9_6, gw_6_9_7, gw_6_9_8, ec_iload_n (i := 3) dX10_learns_11 rfl, ec_dup2 dX10_learns_12, ec_iald dX10_learns_13, iaE_i, ec_iload_n (i := 2) dX10_learns_14 rfl, ec_aload_n (i := 1) dX10_learns_15 rfl, ec_iload_n (i := 3) dX10_learns_16 rfl, ec_iald dX10_learns_17, ec_imul dX10_learns_18, ec_iadd dX10_learns_19, ec_iast dX10_learns_20, isE_0, ec_iinc (v := nI 1) dX10_learns_21 rfl, ec_goto (t := 2) dX10_learns_24 rfl, ec_aload_n (i := 0) dX10_learns_27 rfl, ec_dup dX10_learns_28, ec_get dX10_learns_29, gw_6_15_6, gw_6_15_7, gw_6_15_8, ec_iload_n (i := 2) dX10_learns_32 rfl, ec_iadd dX10_learns_33, ec_put dX10_learns_34, pw_6_0_15_6, pw_6_0_15_7, pw_6_0_15_8, ec_vret dX10_learns_37, cat1_i, cat1_r, cat1_u, catB_n, catB_i, catB_r, catB_l, catB_u, lg_0, lg_s, ldEI_i, ldEL_l, ldEA_r, ldEA_n, lin_0, lin_s, ls1_0, ls1_1, ls1_s, ls2_0, ls2_1, ls2_s, lcl_i, lcl_r, lcl_l, lcl_u, lcl_n, lent_i, lent_r, lent_l, lent_u, lent_0, lent_s, Option.toList_some, Option.toList_none, List.cons_append, List.nil_append, Nat.reduceAdd, true_and, vin_0, vin_s, aE_0, aE_s, EK_r, EK_t, List.set_cons_zero, List.set_cons_succ, va_rf_s, va_rf_n, pC_1, pC_21, aC_1, aC_21, gC_self, gC_new, eI_, eLg_, eV_, eInc_, eN_, eS_, eJ_, eCl_, nI_add, nI_mul, nI_subI, nI_clampI, inb_t, nI_lt0, nI_0le, nI_m1, nI_m1', nI_ofNat, bI_01, b01_0, b01_1, bI_eq0, bI_eq1, bb_01, true_or, or_true, false_or, or_false, eq_self, Nat.reduceAdd, Nat.reduceMul, Nat.reduceSub, Nat.reduceLT, Nat.reduceLeDiff, Nat.reduceEqDiff, ↓reduceIte, and_true, true_and, and_self, Nat.add_zero, Nat.zero_add, not_false_eq_true, not_true_eq_false, faV_n, faV_s, m1_lt0, m1_0le, m1_eq0, m1_le, le_m1, m1_lt, lt_m1, nI_100k, nI_100, upd_e, upd_n, pC_pC, gC_ne', gC_old', nI_lt_t, nI_lt_f, nI_le_t, nI_le_f, nI_eq_t, nI_eq_f, nI_eq0_t, nI_eq0_f, nI_0lt_t, nI_0lt_f, nI_le0_t, nI_le0_f, nI_eq1_t, nI_eq1_f, hm, hg, hfc, g0, g1, g2, g3, hF 0, hF 1, hF 2, hF 3] <;> exact fin _ hc.symm hm
theorem c_learns_2 (hM : MindAt σ a 2 r) (hF : IA σ fa 4 f) (hfa : fa ≠ a + 1) (hf : ∀ k, k < 4 → f k ≤ 9) (hr : RO B r) (hB : B ≤ 5900000) (hm : m ≤ 9) (hP : ∀ σ', Fs (MS a) σ σ' → MindAt σ' a 2 (lrS 2 r f m) → P (.inl none, σ')) : EC zs (Jc zs) e cX9_learns none 10 0 0 [some (.ref a), some (.ref fa), some (.int (nI m)), none] [] σ P := by
  obtain ⟨hmc, G, hg, hG⟩ := hM.c
  obtain ⟨F, hfc, hF⟩ := hF
  have f0 := hf 0 (by omega)
  have f1 := hf 1 (by omega)
  have f2 := hf 2 (by omega)
  have f3 := hf 3 (by omega)
  have r0 := hr.1 (36 + f 0) (by omega)
  have r1 := hr.1 (46 + f 1) (by omega)
  have r2 := hr.1 (56 + f 2) (by omega)
  have r3 := hr.1 (66 + f 3) (by omega)
  have g0 := hG (f 0) (by omega)
  have g1 := hG (10 + f 1) (by omega)
  have g2 := hG (20 + f 2) (by omega)
  have g3 := hG (30 + f 3) (by omega)
  simp only [← Nat.add_assoc, Nat.reduceAdd] at g0 g1 g2 g3
  have hmin : ∀ x : Nat, x < 2 ^ 31 → (if nI x < nI 9999 then nI x else nI 9999) = nI (min 9999 x) := fun x hx => by
    by_cases h : x < 9999
    · rw [if_pos (nI_lt h (by omega)), Nat.min_eq_right (by omega)]
    · rw [if_neg (nI_nlt (by omega) hx), Nat.min_eq_left (by omega)]
  simp (disch := omega) only [ec_iconst (v := nI 0) dX9_learns_0 rfl, ec_istore_n (i := 3) dX9_learns_1 rfl, ec_iload_n (i := 3) dX9_learns_2 rfl, ec_iconst (v := nI 4) dX9_learns_3 rfl, ec_icmp_ge (t := 47) dX9_learns_4 rfl, ec_aload_n (i := 0) dX9_learns_7 rfl, ec_get dX9_learns_8, gw_10_9_10, ec_bipush (v := nI 10) dX9_learns_11 rfl, ec_iload_n (i := 3) dX9_learns_13 rfl, ec_imul dX9_learns_14, ec_aload_n (i := 1) dX9_learns_15 rfl, ec_iload_n (i := 3) dX9_learns_16 rfl, ec_iald dX9_learns_17, iaE_i, ec_iadd dX9_learns_18, ec_sipush (v := nI 9999) dX9_learns_19 rfl, ec_aload_n (i := 0) dX9_learns_22 rfl, ec_get dX9_learns_23, ec_bipush (v := nI 10) dX9_learns_26 rfl, ec_iload_n (i := 3) dX9_learns_28 rfl, ec_imul dX9_learns_29, ec_aload_n (i := 1) dX9_learns_30 rfl, ec_iload_n (i := 3) dX9_learns_31 rfl, ec_iald dX9_learns_32, ec_iadd dX9_learns_33, ec_iald dX9_learns_34, ec_iload_n (i := 2) dX9_learns_35 rfl, ec_iadd dX9_learns_36, ec_j22 dX9_learns_37 iT_10_21, J_2, ec_iast dX9_learns_40, isE_0, ec_iinc (v := nI 1) dX9_learns_41 rfl, ec_goto (t := 2) dX9_learns_44 rfl, ec_vret dX9_learns_47, cat1_i, cat1_r, cat1_u, catB_n, catB_i, catB_r, catB_l, catB_u, lg_0, lg_s, ldEI_i, ldEL_l, ldEA_r, ldEA_n, lin_0, lin_s, ls1_0, ls1_1, ls1_s, ls2_0, ls2_1, ls2_s, lcl_i, lcl_r, lcl_l, lcl_u, lcl_n, lent_i, lent_r, lent_l, lent_u, lent_0, lent_s, Option.toList_some, Option.toList_none, List.cons_append, List.nil_append, Nat.reduceAdd, true_and, vin_0, vin_s, aE_0, aE_s, EK_r, EK_t, List.set_cons_zero, List.set_cons_succ, va_rf_s, va_rf_n, pC_1, pC_21, aC_1, aC_21, gC_self, gC_new, eI_, eLg_, eV_, eInc_, eN_, eS_, eJ_, eCl_, nI_add, nI_mul, nI_subI, nI_clampI, inb_t, nI_lt0, nI_0le, nI_m1, nI_m1', nI_ofNat, bI_01, b01_0, b01_1, bI_eq0, bI_eq1, bb_01, true_or, or_true, false_or, or_false, eq_self, Nat.reduceAdd, Nat.reduceMul, Nat.reduceSub, Nat.reduceLT, Nat.reduceLeDiff, Nat.reduceEqDiff, ↓reduceIte, and_true, true_and, and_self, Nat.add_zero, Nat.zero_add, not_false_eq_true, not_true_eq_false, faV_n, faV_s, m1_lt0, m1_0le, m1_eq0, m1_le, le_m1, m1_lt, lt_m1, nI_100k, nI_100, upd_e, upd_n, pC_pC, gC_ne', gC_old', nI_lt_t, nI_lt_f, nI_le_t, nI_le_f, nI_eq_t, nI_eq_f, nI_eq0_t, nI_eq0_f, nI_0lt_t, nI_0lt_f, nI_le0_t, nI_le0_f, nI_eq1_t, nI_eq1_f, hmc, hg, hfc, g0, g1, g2, g3, hF 0, hF 1, hF 2, hF 3, hmin]
  refine hP _ (Fs.rf.p hg (Or.inr rfl)) ⟨?_, _, gC_self, ?_⟩
  · rw [gC_ne (by omega)]; exact hmc
  · intro i hi
    have := hG i hi
    unfold upd lrS upN
    simp only [Nat.reduceEqDiff, ↓reduceIte]
    by_cases h3 : i = 30 + f 3
    · rw [if_pos h3, if_pos (show 36 + i = 66 + f 3 by omega)]
    · rw [if_neg h3, if_neg (show ¬ 36 + i = 66 + f 3 by omega)]
      by_cases h2 : i = 20 + f 2
      · rw [if_pos h2, if_pos (show 36 + i = 56 + f 2 by omega)]
      · rw [if_neg h2, if_neg (show ¬ 36 + i = 56 + f 2 by omega)]
        by_cases h1 : i = 10 + f 1
        · rw [if_pos h1, if_pos (show 36 + i = 46 + f 1 by omega)]
        · rw [if_neg h1, if_neg (show ¬ 36 + i = 46 + f 1 by omega)]
          by_cases h0 : i = f 0
          · rw [if_pos h0, if_pos (show 36 + i = 36 + f 0 by omega)]
          · rw [if_neg h0, if_neg (show ¬ 36 + i = 36 + f 0 by omega)]; exact this
theorem c_learns_5 (hM : MindAt σ a 5 r) (hP : ∀ σ', Fs (MS a) σ σ' → MindAt σ' a 5 (lrS 5 r f m) → P (.inl none, σ')) : EC zs (Jc zs) e cX13_learns none 11 0 0 [some (.ref a), some (.ref fa), some (.int (nI m))] [] σ P := by
  simp (disch := omega) only [ec_vret dX13_learns_0, cat1_i, cat1_r, cat1_u, catB_n, catB_i, catB_r, catB_l, catB_u, lg_0, lg_s, ldEI_i, ldEL_l, ldEA_r, ldEA_n, lin_0, lin_s, ls1_0, ls1_1, ls1_s, ls2_0, ls2_1, ls2_s, lcl_i, lcl_r, lcl_l, lcl_u, lcl_n, lent_i, lent_r, lent_l, lent_u, lent_0, lent_s, Option.toList_some, Option.toList_none, List.cons_append, List.nil_append, Nat.reduceAdd, true_and, vin_0, vin_s, aE_0, aE_s, EK_r, EK_t, List.set_cons_zero, List.set_cons_succ, va_rf_s, va_rf_n, pC_1, pC_21, aC_1, aC_21, gC_self, gC_new, eI_, eLg_, eV_, eInc_, eN_, eS_, eJ_, eCl_, nI_add, nI_mul, nI_subI, nI_clampI, inb_t, nI_lt0, nI_0le, nI_m1, nI_m1', nI_ofNat, bI_01, b01_0, b01_1, bI_eq0, bI_eq1, bb_01, true_or, or_true, false_or, or_false, eq_self, Nat.reduceAdd, Nat.reduceMul, Nat.reduceSub, Nat.reduceLT, Nat.reduceLeDiff, Nat.reduceEqDiff, ↓reduceIte, and_true, true_and, and_self, Nat.add_zero, Nat.zero_add, not_false_eq_true, not_true_eq_false, faV_n, faV_s, m1_lt0, m1_0le, m1_eq0, m1_le, le_m1, m1_lt, lt_m1, nI_100k, nI_100, upd_e, upd_n, pC_pC, gC_ne', gC_old', nI_lt_t, nI_lt_f, nI_le_t, nI_le_f, nI_eq_t, nI_eq_f, nI_eq0_t, nI_eq0_f, nI_0lt_t, nI_0lt_f, nI_le0_t, nI_le0_f, nI_eq1_t, nI_eq1_f]
  exact hP _ Fs.rf hM
/-- rows one back in an array, down to place k + 1 -/
def shA (G : Nat → Int32) (n k : Nat) : Nat → Int32 := fun i => if k < i ∧ i < n then G (i - 4) else G i
theorem shA_next {G : Nat → Int32} {n k : Nat} (hk : 4 ≤ k) (hn : k < n) : upd (shA G n k) k (shA G n k (k - 4)) = shA G n (k - 1) := by
  funext i
  unfold upd shA
  by_cases h : i = k
  · subst h
    rw [if_pos rfl, if_neg (by omega), if_pos (by omega)]
  · rw [if_neg h]
    by_cases h2 : k < i ∧ i < n
    · rw [if_pos h2, if_pos (by omega)]
    · rw [if_neg h2, if_neg (by omega)]
theorem c_learns_sh {G : Nat → Int32} {v : Int32} {n : Nat} (hn : n ≤ 24) (hP : ∀ σ', Fs (MS a) σ σ' → gC σ' a = some (.inl (9, [.ref (a + 1), .int v])) → gC σ' (a + 1) = some (.inr (0, 24, .inl (shA G n 3))) → EC zs (Jc zs) e cX8_learns none 9 0 54 [some (.ref a), some (.ref fa), some (.int (nI m)), some (.int (nI 3))] [] σ' P) : ∀ (k : Nat), 3 ≤ k → k < n → ∀ σ', Fs (MS a) σ σ' → gC σ' a = some (.inl (9, [.ref (a + 1), .int v])) → gC σ' (a + 1) = some (.inr (0, 24, .inl (shA G n k))) → EC zs (Jc zs) e cX8_learns none 9 0 29 [some (.ref a), some (.ref fa), some (.int (nI m)), some (.int (nI k))] [] σ' P
  | 0, h, _, _, _, _, _ => by omega
  | k + 1, h3, hk, σ', hS, h0, h1 => by
    by_cases hk3 : k + 1 = 3
    · rw [hk3] at h1 ⊢
      simp (disch := omega) only [ec_iload_n (i := 2) dX8_learns_0 rfl, ec_if_ne (t := 5) dX8_learns_1 rfl, ec_vret dX8_learns_4, ec_aload_n (i := 0) dX8_learns_5 rfl, ec_bipush (v := nI 6) dX8_learns_6 rfl, ec_aload_n (i := 0) dX8_learns_8 rfl, ec_get dX8_learns_9, gw_9_15_9, ec_iconst (v := nI 1) dX8_learns_12 rfl, ec_iadd dX8_learns_13, ec_j22 dX8_learns_14 iT_9_31, J_2, ec_put dX8_learns_17, pw_9_0_15_9, ec_iconst (v := nI 4) dX8_learns_20 rfl, ec_aload_n (i := 0) dX8_learns_21 rfl, ec_get dX8_learns_22, ec_imul dX8_learns_25, ec_iconst (v := nI 1) dX8_learns_26 rfl, ec_isub dX8_learns_27, ec_istore_n (i := 3) dX8_learns_28 rfl, ec_iload_n (i := 3) dX8_learns_29 rfl, ec_iconst (v := nI 4) dX8_learns_30 rfl, ec_icmp_lt (t := 54) dX8_learns_31 rfl, ec_aload_n (i := 0) dX8_learns_34 rfl, ec_get dX8_learns_35, gw_9_9_9, ec_iload_n (i := 3) dX8_learns_38 rfl, ec_aload_n (i := 0) dX8_learns_39 rfl, ec_get dX8_learns_40, ec_iload_n (i := 3) dX8_learns_43 rfl, ec_iconst (v := nI 4) dX8_learns_44 rfl, ec_isub dX8_learns_45, ec_iald dX8_learns_46, iaE_i, ec_iast dX8_learns_47, isE_0, ec_iinc (v := (-1)) dX8_learns_48 rfl, ec_goto (t := 29) dX8_learns_51 rfl, ec_iconst (v := nI 0) dX8_learns_55 rfl, ec_aload_n (i := 0) dX8_learns_56 rfl, ec_get dX8_learns_57, ec_iconst (v := nI 0) dX8_learns_60 rfl, ec_iconst (v := nI 4) dX8_learns_61 rfl, ec_j25 dX8_learns_62 iT_9_19, J_6, JcpE_0, JcpE_4, ec_vret dX8_learns_65, cat1_i, cat1_r, cat1_u, catB_n, catB_i, catB_r, catB_l, catB_u, lg_0, lg_s, ldEI_i, ldEL_l, ldEA_r, ldEA_n, lin_0, lin_s, ls1_0, ls1_1, ls1_s, ls2_0, ls2_1, ls2_s, lcl_i, lcl_r, lcl_l, lcl_u, lcl_n, lent_i, lent_r, lent_l, lent_u, lent_0, lent_s, Option.toList_some, Option.toList_none, List.cons_append, List.nil_append, Nat.reduceAdd, true_and, vin_0, vin_s, aE_0, aE_s, EK_r, EK_t, List.set_cons_zero, List.set_cons_succ, va_rf_s, va_rf_n, pC_1, pC_21, aC_1, aC_21, gC_self, gC_new, eI_, eLg_, eV_, eInc_, eN_, eS_, eJ_, eCl_, nI_add, nI_mul, nI_subI, nI_clampI, inb_t, nI_lt0, nI_0le, nI_m1, nI_m1', nI_ofNat, bI_01, b01_0, b01_1, bI_eq0, bI_eq1, bb_01, true_or, or_true, false_or, or_false, eq_self, Nat.reduceAdd, Nat.reduceMul, Nat.reduceSub, Nat.reduceLT, Nat.reduceLeDiff, Nat.reduceEqDiff, ↓reduceIte, and_true, true_and, and_self, Nat.add_zero, Nat.zero_add, not_false_eq_true, not_true_eq_false, faV_n, faV_s, m1_lt0, m1_0le, m1_eq0, m1_le, le_m1, m1_lt, lt_m1, nI_100k, nI_100, upd_e, upd_n, pC_pC, gC_ne', gC_old', nI_lt_t, nI_lt_f, nI_le_t, nI_le_f, nI_eq_t, nI_eq_f, nI_eq0_t, nI_eq0_f, nI_0lt_t, nI_0lt_f, nI_le0_t, nI_le0_f, nI_eq1_t, nI_eq1_f]
      exact hP σ' hS h0 h1
    · have e0 : ∀ x : Nat, 1 ≤ x → nI x + -1 = nI (x - 1) := fun x hx => by rw [← nI_subI hx, Int32.sub_eq_add_neg]; rfl
      rw [ec_iload_n (i := 3) dX8_learns_29 rfl]
      simp (disch := omega) only [ec_iload_n (i := 2) dX8_learns_0 rfl, ec_if_ne (t := 5) dX8_learns_1 rfl, ec_vret dX8_learns_4, ec_aload_n (i := 0) dX8_learns_5 rfl, ec_bipush (v := nI 6) dX8_learns_6 rfl, ec_aload_n (i := 0) dX8_learns_8 rfl, ec_get dX8_learns_9, gw_9_15_9, ec_iconst (v := nI 1) dX8_learns_12 rfl, ec_iadd dX8_learns_13, ec_j22 dX8_learns_14 iT_9_31, J_2, ec_put dX8_learns_17, pw_9_0_15_9, ec_iconst (v := nI 4) dX8_learns_20 rfl, ec_aload_n (i := 0) dX8_learns_21 rfl, ec_get dX8_learns_22, ec_imul dX8_learns_25, ec_iconst (v := nI 1) dX8_learns_26 rfl, ec_isub dX8_learns_27, ec_istore_n (i := 3) dX8_learns_28 rfl, ec_iconst (v := nI 4) dX8_learns_30 rfl, ec_icmp_lt (t := 54) dX8_learns_31 rfl, ec_aload_n (i := 0) dX8_learns_34 rfl, ec_get dX8_learns_35, gw_9_9_9, ec_iload_n (i := 3) dX8_learns_38 rfl, ec_aload_n (i := 0) dX8_learns_39 rfl, ec_get dX8_learns_40, ec_iload_n (i := 3) dX8_learns_43 rfl, ec_iconst (v := nI 4) dX8_learns_44 rfl, ec_isub dX8_learns_45, ec_iald dX8_learns_46, iaE_i, ec_iast dX8_learns_47, isE_0, ec_iinc (v := (-1)) dX8_learns_48 rfl, ec_goto (t := 29) dX8_learns_51 rfl, ec_aload_n (i := 1) dX8_learns_54 rfl, ec_iconst (v := nI 0) dX8_learns_55 rfl, ec_aload_n (i := 0) dX8_learns_56 rfl, ec_get dX8_learns_57, ec_iconst (v := nI 0) dX8_learns_60 rfl, ec_iconst (v := nI 4) dX8_learns_61 rfl, ec_j25 dX8_learns_62 iT_9_19, J_6, JcpE_0, JcpE_4, ec_vret dX8_learns_65, cat1_i, cat1_r, cat1_u, catB_n, catB_i, catB_r, catB_l, catB_u, lg_0, lg_s, ldEI_i, ldEL_l, ldEA_r, ldEA_n, lin_0, lin_s, ls1_0, ls1_1, ls1_s, ls2_0, ls2_1, ls2_s, lcl_i, lcl_r, lcl_l, lcl_u, lcl_n, lent_i, lent_r, lent_l, lent_u, lent_0, lent_s, Option.toList_some, Option.toList_none, List.cons_append, List.nil_append, Nat.reduceAdd, true_and, vin_0, vin_s, aE_0, aE_s, EK_r, EK_t, List.set_cons_zero, List.set_cons_succ, va_rf_s, va_rf_n, pC_1, pC_21, aC_1, aC_21, gC_self, gC_new, eI_, eLg_, eV_, eInc_, eN_, eS_, eJ_, eCl_, nI_subI, nI_clampI, inb_t, nI_lt_f, ↓reduceIte, true_and, h0, h1, gC_self, gC_ne', e0, Nat.add_sub_cancel]
      have hz := shA_next (G := G) (n := n) (k := k + 1) (by omega) hk
      rw [Nat.add_sub_cancel] at hz
      rw [show k + 1 - 4 = k + 1 - 4 from rfl] at hz
      rw [hz]
      exact c_learns_sh hn hP k (by omega) (by omega) _ (hS.p h1 (Or.inr rfl)) (by rw [gC_ne (by omega)]; exact h0) gC_self
theorem c_learns_1 (hM : MindAt σ a 1 r) (hF : IA σ fa 4 f) (hfa : fa ≠ a + 1) (hr : RO B r) (hm : m ≤ 9) (hP : ∀ σ', Fs (MS a) σ σ' → MindAt σ' a 1 (lrS 1 r f m) → P (.inl none, σ')) : EC zs (Jc zs) e cX8_learns none 9 0 0 [some (.ref a), some (.ref fa), some (.int (nI m)), none] [] σ P := by
  obtain ⟨hmc, G, hg, hG⟩ := hM.n
  have r11 := hr.2.2.2.1
  by_cases h0 : m = 0
  · subst h0
    simp (disch := omega) only [ec_iload_n (i := 2) dX8_learns_0 rfl, ec_if_ne (t := 5) dX8_learns_1 rfl, ec_vret dX8_learns_4, ec_aload_n (i := 0) dX8_learns_5 rfl, ec_bipush (v := nI 6) dX8_learns_6 rfl, ec_aload_n (i := 0) dX8_learns_8 rfl, ec_get dX8_learns_9, gw_9_15_9, ec_iconst (v := nI 1) dX8_learns_12 rfl, ec_iadd dX8_learns_13, ec_j22 dX8_learns_14 iT_9_31, J_2, ec_put dX8_learns_17, pw_9_0_15_9, ec_iconst (v := nI 4) dX8_learns_20 rfl, ec_aload_n (i := 0) dX8_learns_21 rfl, ec_get dX8_learns_22, ec_imul dX8_learns_25, ec_iconst (v := nI 1) dX8_learns_26 rfl, ec_isub dX8_learns_27, ec_istore_n (i := 3) dX8_learns_28 rfl, ec_iload_n (i := 3) dX8_learns_29 rfl, ec_iconst (v := nI 4) dX8_learns_30 rfl, ec_icmp_lt (t := 54) dX8_learns_31 rfl, ec_aload_n (i := 0) dX8_learns_34 rfl, ec_get dX8_learns_35, gw_9_9_9, ec_iload_n (i := 3) dX8_learns_38 rfl, ec_aload_n (i := 0) dX8_learns_39 rfl, ec_get dX8_learns_40, ec_iload_n (i := 3) dX8_learns_43 rfl, ec_iconst (v := nI 4) dX8_learns_44 rfl, ec_isub dX8_learns_45, ec_iald dX8_learns_46, iaE_i, ec_iast dX8_learns_47, isE_0, ec_iinc (v := (-1)) dX8_learns_48 rfl, ec_goto (t := 29) dX8_learns_51 rfl, ec_aload_n (i := 1) dX8_learns_54 rfl, ec_iconst (v := nI 0) dX8_learns_55 rfl, ec_aload_n (i := 0) dX8_learns_56 rfl, ec_get dX8_learns_57, ec_iconst (v := nI 0) dX8_learns_60 rfl, ec_iconst (v := nI 4) dX8_learns_61 rfl, ec_j25 dX8_learns_62 iT_9_19, J_6, JcpE_0, JcpE_4, ec_vret dX8_learns_65, cat1_i, cat1_r, cat1_u, catB_n, catB_i, catB_r, catB_l, catB_u, lg_0, lg_s, ldEI_i, ldEL_l, ldEA_r, ldEA_n, lin_0, lin_s, ls1_0, ls1_1, ls1_s, ls2_0, ls2_1, ls2_s, lcl_i, lcl_r, lcl_l, lcl_u, lcl_n, lent_i, lent_r, lent_l, lent_u, lent_0, lent_s, Option.toList_some, Option.toList_none, List.cons_append, List.nil_append, Nat.reduceAdd, true_and, vin_0, vin_s, aE_0, aE_s, EK_r, EK_t, List.set_cons_zero, List.set_cons_succ, va_rf_s, va_rf_n, pC_1, pC_21, aC_1, aC_21, gC_self, gC_new, eI_, eLg_, eV_, eInc_, eN_, eS_, eJ_, eCl_, nI_add, nI_mul, nI_subI, nI_clampI, inb_t, nI_lt0, nI_0le, nI_m1, nI_m1', nI_ofNat, bI_01, b01_0, b01_1, bI_eq0, bI_eq1, bb_01, true_or, or_true, false_or, or_false, eq_self, Nat.reduceAdd, Nat.reduceMul, Nat.reduceSub, Nat.reduceLT, Nat.reduceLeDiff, Nat.reduceEqDiff, ↓reduceIte, and_true, true_and, and_self, Nat.add_zero, Nat.zero_add, not_false_eq_true, not_true_eq_false, faV_n, faV_s, m1_lt0, m1_0le, m1_eq0, m1_le, le_m1, m1_lt, lt_m1, nI_100k, nI_100, upd_e, upd_n, pC_pC, gC_ne', gC_old', nI_lt_t, nI_lt_f, nI_le_t, nI_le_f, nI_eq_t, nI_eq_f, nI_eq0_t, nI_eq0_f, nI_0lt_t, nI_0lt_f, nI_le0_t, nI_le0_f, nI_eq1_t, nI_eq1_f]
    exact hP _ Fs.rf hM
  · obtain ⟨F, hfc, hF⟩ := hF
    have hmin : ∀ x : Nat, x ≤ 7 → (if nI x < nI 6 then nI x else nI 6) = nI (min 6 x) := fun x hx => by
      by_cases h : x < 6
      · rw [if_pos (nI_lt h (by omega)), Nat.min_eq_right (by omega)]
      · rw [if_neg (nI_nlt (by omega) (by omega)), Nat.min_eq_left (by omega)]
    simp (disch := omega) only [ec_iload_n (i := 2) dX8_learns_0 rfl, ec_if_ne (t := 5) dX8_learns_1 rfl, ec_vret dX8_learns_4, ec_aload_n (i := 0) dX8_learns_5 rfl, ec_bipush (v := nI 6) dX8_learns_6 rfl, ec_aload_n (i := 0) dX8_learns_8 rfl, ec_get dX8_learns_9, gw_9_15_9, ec_iconst (v := nI 1) dX8_learns_12 rfl, ec_iadd dX8_learns_13, ec_j22 dX8_learns_14 iT_9_31, J_2, ec_put dX8_learns_17, pw_9_0_15_9, ec_iconst (v := nI 4) dX8_learns_20 rfl, ec_aload_n (i := 0) dX8_learns_21 rfl, ec_get dX8_learns_22, ec_imul dX8_learns_25, ec_iconst (v := nI 1) dX8_learns_26 rfl, ec_isub dX8_learns_27, ec_istore_n (i := 3) dX8_learns_28 rfl, ec_iconst (v := nI 4) dX8_learns_30 rfl, ec_icmp_lt (t := 54) dX8_learns_31 rfl, ec_aload_n (i := 0) dX8_learns_34 rfl, ec_get dX8_learns_35, gw_9_9_9, ec_iload_n (i := 3) dX8_learns_38 rfl, ec_aload_n (i := 0) dX8_learns_39 rfl, ec_get dX8_learns_40, ec_iload_n (i := 3) dX8_learns_43 rfl, ec_iconst (v := nI 4) dX8_learns_44 rfl, ec_isub dX8_learns_45, ec_iald dX8_learns_46, iaE_i, ec_iast dX8_learns_47, isE_0, ec_iinc (v := (-1)) dX8_learns_48 rfl, ec_goto (t := 29) dX8_learns_51 rfl, ec_aload_n (i := 1) dX8_learns_54 rfl, ec_iconst (v := nI 0) dX8_learns_55 rfl, ec_aload_n (i := 0) dX8_learns_56 rfl, ec_get dX8_learns_57, ec_iconst (v := nI 0) dX8_learns_60 rfl, ec_iconst (v := nI 4) dX8_learns_61 rfl, ec_j25 dX8_learns_62 iT_9_19, J_6, JcpE_0, JcpE_4, ec_vret dX8_learns_65, cat1_i, cat1_r, cat1_u, catB_n, catB_i, catB_r, catB_l, catB_u, lg_0, lg_s, ldEI_i, ldEL_l, ldEA_r, ldEA_n, lin_0, lin_s, ls1_0, ls1_1, ls1_s, ls2_0, ls2_1, ls2_s, lcl_i, lcl_r, lcl_l, lcl_u, lcl_n, lent_i, lent_r, lent_l, lent_u, lent_0, lent_s, Option.toList_some, Option.toList_none, List.cons_append, List.nil_append, Nat.reduceAdd, true_and, vin_0, vin_s, aE_0, aE_s, EK_r, EK_t, List.set_cons_zero, List.set_cons_succ, va_rf_s, va_rf_n, pC_1, pC_21, aC_1, aC_21, gC_self, gC_new, eI_, eLg_, eV_, eInc_, eN_, eS_, eJ_, eCl_, nI_add, nI_mul, nI_subI, nI_clampI, inb_t, nI_lt0, nI_0le, nI_m1, nI_m1', nI_ofNat, bI_01, b01_0, b01_1, bI_eq0, bI_eq1, bb_01, true_or, or_true, false_or, or_false, eq_self, Nat.reduceAdd, Nat.reduceMul, Nat.reduceSub, Nat.reduceLT, Nat.reduceLeDiff, Nat.reduceEqDiff, ↓reduceIte, and_true, true_and, and_self, Nat.add_zero, Nat.zero_add, not_false_eq_true, not_true_eq_false, faV_n, faV_s, m1_lt0, m1_0le, m1_eq0, m1_le, le_m1, m1_lt, lt_m1, nI_100k, nI_100, upd_e, upd_n, pC_pC, gC_ne', gC_old', nI_lt_t, nI_lt_f, nI_le_t, nI_le_f, nI_eq_t, nI_eq_f, nI_eq0_t, nI_eq0_f, nI_0lt_t, nI_0lt_f, nI_le0_t, nI_le0_f, nI_eq1_t, nI_eq1_f, hmc, hmin]
    have hn4 : 4 ≤ 4 * min 6 (r 11 + 1) ∧ 4 * min 6 (r 11 + 1) ≤ 24 := by omega
    generalize hn : 4 * min 6 (r 11 + 1) = n at *
    refine c_learns_sh (G := G) (n := n) (by omega) (fun σ' hS c0 c1 => ?_) (n - 1) (by omega) (by omega) _ (Fs.rf.p hmc (Or.inl rfl)) gC_self ?_
    · have hfs : gC σ' fa = some (.inr (0, 4, .inl F)) := by
        by_cases hfa' : fa = a
        · rw [hfa'] at hfc; rw [hmc] at hfc; cases hfc
        · exact hS.g (fun z => by unfold MS at z; omega) hfc
      simp (disch := omega) only [ec_iload_n (i := 2) dX8_learns_0 rfl, ec_if_ne (t := 5) dX8_learns_1 rfl, ec_vret dX8_learns_4, ec_aload_n (i := 0) dX8_learns_5 rfl, ec_bipush (v := nI 6) dX8_learns_6 rfl, ec_aload_n (i := 0) dX8_learns_8 rfl, ec_get dX8_learns_9, gw_9_15_9, ec_iconst (v := nI 1) dX8_learns_12 rfl, ec_iadd dX8_learns_13, ec_j22 dX8_learns_14 iT_9_31, J_2, ec_put dX8_learns_17, pw_9_0_15_9, ec_iconst (v := nI 4) dX8_learns_20 rfl, ec_aload_n (i := 0) dX8_learns_21 rfl, ec_get dX8_learns_22, ec_imul dX8_learns_25, ec_iconst (v := nI 1) dX8_learns_26 rfl, ec_isub dX8_learns_27, ec_istore_n (i := 3) dX8_learns_28 rfl, ec_iload_n (i := 3) dX8_learns_29 rfl, ec_iconst (v := nI 4) dX8_learns_30 rfl, ec_icmp_lt (t := 54) dX8_learns_31 rfl, ec_aload_n (i := 0) dX8_learns_34 rfl, ec_get dX8_learns_35, gw_9_9_9, ec_iload_n (i := 3) dX8_learns_38 rfl, ec_aload_n (i := 0) dX8_learns_39 rfl, ec_get dX8_learns_40, ec_iload_n (i := 3) dX8_learns_43 rfl, ec_iconst (v := nI 4) dX8_learns_44 rfl, ec_isub dX8_learns_45, ec_iald dX8_learns_46, iaE_i, ec_iast dX8_learns_47, isE_0, ec_iinc (v := (-1)) dX8_learns_48 rfl, ec_goto (t := 29) dX8_learns_51 rfl, ec_aload_n (i := 1) dX8_learns_54 rfl, ec_iconst (v := nI 0) dX8_learns_55 rfl, ec_aload_n (i := 0) dX8_learns_56 rfl, ec_get dX8_learns_57, ec_iconst (v := nI 0) dX8_learns_60 rfl, ec_iconst (v := nI 4) dX8_learns_61 rfl, ec_j25 dX8_learns_62 iT_9_19, J_6, JcpE_0, JcpE_4, ec_vret dX8_learns_65, cat1_i, cat1_r, cat1_u, catB_n, catB_i, catB_r, catB_l, catB_u, lg_0, lg_s, ldEI_i, ldEL_l, ldEA_r, ldEA_n, lin_0, lin_s, ls1_0, ls1_1, ls1_s, ls2_0, ls2_1, ls2_s, lcl_i, lcl_r, lcl_l, lcl_u, lcl_n, lent_i, lent_r, lent_l, lent_u, lent_0, lent_s, Option.toList_some, Option.toList_none, List.cons_append, List.nil_append, Nat.reduceAdd, true_and, vin_0, vin_s, aE_0, aE_s, EK_r, EK_t, List.set_cons_zero, List.set_cons_succ, va_rf_s, va_rf_n, pC_1, pC_21, aC_1, aC_21, gC_self, gC_new, eI_, eLg_, eV_, eInc_, eN_, eS_, eJ_, eCl_, nI_add, nI_mul, nI_subI, nI_clampI, inb_t, nI_lt0, nI_0le, nI_m1, nI_m1', nI_ofNat, bI_01, b01_0, b01_1, bI_eq0, bI_eq1, bb_01, true_or, or_true, false_or, or_false, eq_self, Nat.reduceAdd, Nat.reduceMul, Nat.reduceSub, Nat.reduceLT, Nat.reduceLeDiff, Nat.reduceEqDiff, ↓reduceIte, and_true, true_and, and_self, Nat.add_zero, Nat.zero_add, not_false_eq_true, not_true_eq_false, faV_n, faV_s, m1_lt0, m1_0le, m1_eq0, m1_le, le_m1, m1_lt, lt_m1, nI_100k, nI_100, upd_e, upd_n, pC_pC, gC_ne', gC_old', nI_lt_t, nI_lt_f, nI_le_t, nI_le_f, nI_eq_t, nI_eq_f, nI_eq0_t, nI_eq0_f, nI_0lt_t, nI_0lt_f, nI_le0_t, nI_le0_f, nI_eq1_t, nI_eq1_f, c0, c1, hfs, cpyB, decide_true, Bool.and_self]
      refine hP _ (hS.p c1 (Or.inr rfl)) ⟨?_, _, gC_self, ?_⟩
      · rw [gC_ne (by omega), c0]
        simp only [lrS, h0, ↓reduceIte, Nat.reduceEqDiff, upN_s]
      · intro i hi
        have e11 : lrS 1 r f m 11 = min 6 (r 11 + 1) := by simp only [lrS, h0, ↓reduceIte, Nat.reduceEqDiff, upN_s]
        rw [e11] at hi
        unfold cpF
        by_cases h4 : i < 4
        · rw [if_pos (by omega)]
          have : i = 0 ∨ i = 1 ∨ i = 2 ∨ i = 3 := by omega
          rcases this with rfl | rfl | rfl | rfl <;> simp (disch := omega) only [lrS, h0, ↓reduceIte, Nat.reduceEqDiff, upN_s, upN_n, Nat.reduceAdd, hF 0, hF 1, hF 2, hF 3, Nat.sub_zero, Nat.zero_add]
        · rw [if_neg (by omega)]
          unfold shA
          rw [if_pos (by omega), hG (i - 4) (by omega)]
          simp (disch := omega) only [lrS, h0, ↓reduceIte, Nat.reduceEqDiff, upN_n]
          unfold shS
          rw [if_pos (by omega)]
          congr 2
          omega
    · rw [gC_ne (by omega), hg]
      congr 5
      funext i
      unfold shA
      rw [if_neg (by omega)]
end
