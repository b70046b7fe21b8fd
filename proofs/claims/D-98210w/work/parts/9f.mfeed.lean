set_option maxRecDepth 100000
/-! THE MODEL: feed -/
/-- the j-th sign of a long -/
def byS (w : Int64) (j : Nat) : Int32 := ((w.toUInt64 >>> ((nI (56 - 8 * j)).toInt64.toUInt64 &&& Int64.toUInt64 63)).toInt64 &&& 255).toInt32
def okCh (b : Int32) : Bool := decide (b = nI 10 ∨ (nI 32 ≤ b ∧ b ≤ nI 126))
abbrev TP : Type := Nat × (Nat → Nat)
def fdS (T : TP) (b : Int32) : TP := if T.1 < 1000 ∧ okCh b = true then (T.1 + 1, upN T.2 T.1 (ix b)) else T
def fdW (w : Int64) (T : TP) : Nat → TP
  | 0 => T
  | k + 1 => fdS (fdW w T k) (byS w k)
def spFeed (a b c : Int64) (T : TP) : TP := fdW c (fdW b (fdW a T 8) 8) 8
def TOK (T : TP) : Prop := T.1 ≤ 1000 ∧ ∀ j, j < T.1 → T.2 j = 10 ∨ (32 ≤ T.2 j ∧ T.2 j ≤ 126)
theorem okCh_t {b : Int32} (h : okCh b = true) : ∃ k, b = nI k ∧ ix b = k ∧ (k = 10 ∨ (32 ≤ k ∧ k ≤ 126)) := by
  rcases of_decide_eq_true h with h | ⟨h1, h2⟩
  · exact ⟨10, h, by rw [h]; rfl, Or.inl rfl⟩
  · have h0 : nI 0 ≤ b := Int32.le_trans (by decide) h1
    obtain ⟨k, hk, rfl⟩ := nI_of (x := b) (fun z => Int32.not_le.mpr z h0)
    exact ⟨k, rfl, nI_clamp hk, Or.inr ⟨(nI_leI (by omega) hk).mp h1, (nI_leI hk (by omega)).mp h2⟩⟩
theorem TOK.s {T : TP} (h : TOK T) {b : Int32} : TOK (fdS T b) := by
  unfold fdS
  split
  · rename_i hc
    obtain ⟨k, -, hk, hr⟩ := okCh_t hc.2
    refine ⟨hc.1, fun j hj => ?_⟩
    have hj : j < T.1 + 1 := hj
    show upN T.2 T.1 (ix b) j = 10 ∨ (32 ≤ upN T.2 T.1 (ix b) j ∧ upN T.2 T.1 (ix b) j ≤ 126)
    by_cases he : j = T.1
    · rw [he, upN_s, hk]; exact hr
    · rw [upN_n he]; exact h.2 j (by omega)
  · exact h
theorem TOK.w {T : TP} (h : TOK T) {w : Int64} : ∀ k, TOK (fdW w T k)
  | 0 => h
  | k + 1 => (TOK.w h k).s
section
variable {mb e : Nat} {M : MM} {P : MR → Prop} {q : QT} {s : Nat → Nat} {B : Nat}
def TM (M : MM) (T : TP) : Prop := rI M 0 1 = nI T.1 ∧ SM M 1 T.1 T.2
def fdA (a b c : Int64) (T : TP) (k : Nat) : TP := if k < 8 then fdW a T k else if k < 16 then fdW b (fdW a T 8) (k - 8) else fdW c (fdW b (fdW a T 8) 8) (k - 16)
def fdL (a b c : Int64) (k : Nat) : Int64 := if k < 8 then a else if k < 16 then b else c
theorem fdW_s {w : Int64} {T : TP} {k : Nat} : fdW w T (k + 1) = fdS (fdW w T k) (byS w k) := rfl
theorem fdW_0 {w : Int64} {T : TP} : fdW w T 0 = T := rfl
theorem fdA_s {a b c : Int64} {T : TP} {k : Nat} (hk : k < 24) : fdA a b c T (k + 1) = fdS (fdA a b c T k) (byS (fdL a b c k) (k % 8)) := by
  unfold fdA fdL
  by_cases h1 : k < 7
  · rw [if_pos (by omega), if_pos (by omega), if_pos (by omega), show k % 8 = k by omega, fdW_s]
  · by_cases h2 : k = 7
    · rw [if_neg (by omega), if_pos (by omega), if_pos (by omega), if_pos (by omega), show k + 1 - 8 = 0 by omega, fdW_0, show k % 8 = 7 by omega, h2, ← fdW_s]
    · by_cases h3 : k < 15
      · rw [if_neg (by omega), if_pos (by omega), if_neg (by omega), if_pos (by omega), if_neg (by omega), if_pos (by omega), show k + 1 - 8 = (k - 8) + 1 by omega, show k % 8 = k - 8 by omega, fdW_s]
      · by_cases h4 : k = 15
        · rw [if_neg (by omega), if_neg (by omega), if_neg (by omega), if_pos (by omega), if_neg (by omega), if_pos (by omega), show k + 1 - 16 = 0 by omega, fdW_0, show k % 8 = 7 by omega, show k - 8 = 7 by omega, ← fdW_s]
        · rw [if_neg (by omega), if_neg (by omega), if_neg (by omega), if_neg (by omega), if_neg (by omega), if_neg (by omega), show k + 1 - 16 = (k - 16) + 1 by omega, show k % 8 = k - 16 by omega, fdW_s]
theorem fdA_24 {a b c : Int64} {T : TP} : fdA a b c T 24 = spFeed a b c T := by
  unfold fdA spFeed
  rw [if_neg (by omega), if_neg (by omega), show 24 - 16 = 8 from rfl]
theorem fdA_0 {a b c : Int64} {T : TP} : fdA a b c T 0 = T := by
  unfold fdA
  rw [if_pos (by omega), fdW_0]
theorem and7 {k : Nat} (h : k < 24) : nI k &&& nI 7 = nI (k % 8) := by
  have : ∀ k : Fin 24, nI k.1 &&& nI 7 = nI (k.1 % 8) := by decide +kernel
  exact this ⟨k, h⟩
theorem m_fd_lo {a b c : Int64} {T : TP} (hT : TOK T) (hP : ∀ M', Kp [1] [1] M M' → TM M' (spFeed a b c T) → P (some (.int (nI (spFeed a b c T).1)), M')) : ∀ (n k : Nat), k + n = 24 → ∀ M1, Kp [1] [1] M M1 → TM M1 (fdA a b c T k) → ∀ x8 x9 x10, EM mb e cX19_feed (some .int) 8 [some (.ref mb), some (.long a), none, some (.long b), none, some (.long c), none, some (.int (nI k)), x8, x9, x10] [] M1 P
  | 0, k, hk, M1, K1, t1, x8, x9, x10 => by
    have hk' : k = 24 := by omega
    subst hk'
    have h1 := t1.1
    simp (disch := omega) only [em_iload dX19_feed_8, em_bipush (v := nI 24) dX19_feed_10 rfl, em_icmp_ge (t := 120) dX19_feed_12 rfl, em_aload_n (i := 0) dX19_feed_120 rfl, em_getI dX19_feed_121 fcp_160 (Or.inl rfl), em_iret dX19_feed_124, em_zret dX19_feed_124, cat1_i, cat1_r, catB_n, catB_i, catB_r, catB_l, lg_0, lg_s, ldEI_i, ldEL_l, ldEA_r, lin_0, lin_s, ls1_0, ls1_1, ls1_s, ls2_0, ls2_1, ls2_s, lcl_i, lcl_r, lcl_l, lcl_n, lent_i, lent_r, lent_l, lent_0, lent_s, Option.toList_some, Option.toList_none, List.cons_append, List.nil_append, Nat.reduceAdd, true_and, mI_, mLg_, mV_, mInc_, mK_, nI_add, nI_mul, nI_subI, nI_clampI, inb_t, nI_lt0, nI_0le, nI_m1, nI_m1', nI_ofNat, bI_01, b01_0, b01_1, bI_eq0, bI_eq1, bb_01, true_or, or_true, false_or, or_false, eq_self, al_1, al_2, al_3, al_4, al_5, al_6, al_7, al_8, al_9, al_10, al_11, al_12, al_13, al_14, al_15, al_16, al_17, al_18, al_19, al_20, al_21, al_22, al_23, al_24, al_25, al_26, al_27, al_28, al_29, al_30, al_31, al_32, al_33, al_34, al_35, al_36, al_37, al_38, al_39, al_40, al_41, al_42, al_43, al_44, al_45, al_46, Nat.reduceAdd, Nat.reduceMul, Nat.reduceSub, Nat.reduceLT, Nat.reduceLeDiff, Nat.reduceEqDiff, ↓reduceIte, and_true, true_and, and_self, Nat.add_zero, Nat.zero_add, not_false_eq_true, not_true_eq_false, rI_we, rI_wn, faV_n, faV_s, m1_lt0, m1_0le, m1_eq0, m1_le, le_m1, m1_lt, lt_m1, rI_wo', rL_wI, rI_wL, nI_lt_t, nI_lt_f, nI_le_t, nI_le_f, nI_eq_t, nI_eq_f, nI_eq0_t, nI_eq0_f, nI_0lt_t, nI_0lt_f, nI_le0_t, nI_le0_f, nI_eq1_t, nI_eq1_f, h1]
    rw [fdA_24] at t1 ⊢
    exact hP M1 K1 t1
  | n + 1, k, hk, M1, K1, t1, x8, x9, x10 => by
    have ho : TOK (fdA a b c T k) := by
      unfold fdA
      split
      · exact hT.w _
      · split
        · exact (hT.w _).w _
        · exact ((hT.w _).w _).w _
    have h1000 := ho.1
    have h1 := t1.1
    have ih := m_fd_lo hT hP n (k + 1) (by omega)
    have hs := fdA_s (a := a) (b := b) (c := c) (T := T) (show k < 24 by omega)
    have h7 := and7 (show k < 24 by omega)
    rw [em_iload dX19_feed_8]
    have go : ∀ w : Int64, fdL a b c k = w → EM mb e cX19_feed (some .int) 62 [some (.ref mb), some (.long a), none, some (.long b), none, some (.long c), none, some (.int (nI k)), some (.long w), none, some (.int (byS w (k % 8)))] [] M1 P := by
      intro w hw
      rw [hw] at hs
      by_cases hfull : (fdA a b c T k).1 < 1000
      · by_cases hok : okCh (byS w (k % 8)) = true
        · obtain ⟨ch, hb, hx, hr⟩ := okCh_t hok
          rw [fdS, if_pos ⟨hfull, hok⟩, hx] at hs
          have ih := ih (wI (wI M1 1 (fdA a b c T k).1 (nI ch)) 0 1 (nI ((fdA a b c T k).1 + 1))) ((K1.w rfl rfl).f rfl) (by
            rw [hs]
            refine ⟨rI_we, fun j hj => ?_⟩
            have hj : j < (fdA a b c T k).1 + 1 := hj
            show rI _ 1 j = nI (upN (fdA a b c T k).2 (fdA a b c T k).1 ch j)
            rw [rI_wo (by rfl), rI_ws]
            by_cases he : j = (fdA a b c T k).1
            · rw [if_pos he, he, upN_s]
            · rw [if_neg he, upN_n he]; exact t1.2 j (by omega))
          rw [hb]
          rcases hr with rfl | ⟨r1, r2⟩
          · simp (disch := omega) only [em_aload_n (i := 0) dX19_feed_62 rfl, em_getI dX19_feed_63 fcp_160 (Or.inl rfl), em_sipush (v := nI 1000) dX19_feed_66 rfl, em_icmp_ge (t := 114) dX19_feed_69 rfl, em_iload dX19_feed_72, em_bipush (v := nI 10) dX19_feed_74 rfl, em_icmp_eq (t := 93) dX19_feed_76 rfl, em_aload_n (i := 0) dX19_feed_93 rfl, em_getA (n := 1) dX19_feed_94 fcp_7 rfl rfl, em_aload_n (i := 0) dX19_feed_97 rfl, em_getI dX19_feed_98 fcp_160 (Or.inl rfl), em_iload dX19_feed_101, em_iast_ (n := 1) dX19_feed_103 rfl, em_aload_n (i := 0) dX19_feed_104 rfl, em_dup dX19_feed_105, em_getI dX19_feed_106 fcp_160 (Or.inl rfl), em_iconst (v := nI 1) dX19_feed_109 rfl, em_iadd dX19_feed_110, em_putI dX19_feed_111 fcp_160 rfl, em_iinc (v := nI 1) dX19_feed_114 rfl, em_goto (t := 8) dX19_feed_117 rfl, cat1_i, cat1_r, catB_n, catB_i, catB_r, catB_l, lg_0, lg_s, ldEI_i, ldEL_l, ldEA_r, lin_0, lin_s, ls1_0, ls1_1, ls1_s, ls2_0, ls2_1, ls2_s, lcl_i, lcl_r, lcl_l, lcl_n, lent_i, lent_r, lent_l, lent_0, lent_s, Option.toList_some, Option.toList_none, List.cons_append, List.nil_append, Nat.reduceAdd, true_and, mI_, mLg_, mV_, mInc_, mK_, nI_add, nI_mul, nI_subI, nI_clampI, inb_t, nI_lt0, nI_0le, nI_m1, nI_m1', nI_ofNat, bI_01, b01_0, b01_1, bI_eq0, bI_eq1, bb_01, true_or, or_true, false_or, or_false, eq_self, al_1, al_2, al_3, al_4, al_5, al_6, al_7, al_8, al_9, al_10, al_11, al_12, al_13, al_14, al_15, al_16, al_17, al_18, al_19, al_20, al_21, al_22, al_23, al_24, al_25, al_26, al_27, al_28, al_29, al_30, al_31, al_32, al_33, al_34, al_35, al_36, al_37, al_38, al_39, al_40, al_41, al_42, al_43, al_44, al_45, al_46, Nat.reduceAdd, Nat.reduceMul, Nat.reduceSub, Nat.reduceLT, Nat.reduceLeDiff, Nat.reduceEqDiff, ↓reduceIte, and_true, true_and, and_self, Nat.add_zero, Nat.zero_add, not_false_eq_true, not_true_eq_false, rI_we, rI_wn, faV_n, faV_s, m1_lt0, m1_0le, m1_eq0, m1_le, le_m1, m1_lt, lt_m1, rI_wo', rL_wI, rI_wL, nI_lt_t, nI_lt_f, nI_le_t, nI_le_f, nI_eq_t, nI_eq_f, nI_eq0_t, nI_eq0_f, nI_0lt_t, nI_0lt_f, nI_le0_t, nI_le0_f, nI_eq1_t, nI_eq1_f, h1]
            exact ih _ _ _
          · by_cases h10 : ch = 10
            · omega
            · simp (disch := omega) only [em_aload_n (i := 0) dX19_feed_62 rfl, em_getI dX19_feed_63 fcp_160 (Or.inl rfl), em_sipush (v := nI 1000) dX19_feed_66 rfl, em_icmp_ge (t := 114) dX19_feed_69 rfl, em_iload dX19_feed_72, em_bipush (v := nI 10) dX19_feed_74 rfl, em_icmp_eq (t := 93) dX19_feed_76 rfl, em_iload dX19_feed_79, em_bipush (v := nI 32) dX19_feed_81 rfl, em_icmp_lt (t := 114) dX19_feed_83 rfl, em_iload dX19_feed_86, em_bipush (v := nI 126) dX19_feed_88 rfl, em_icmp_gt (t := 114) dX19_feed_90 rfl, em_aload_n (i := 0) dX19_feed_93 rfl, em_getA (n := 1) dX19_feed_94 fcp_7 rfl rfl, em_aload_n (i := 0) dX19_feed_97 rfl, em_getI dX19_feed_98 fcp_160 (Or.inl rfl), em_iload dX19_feed_101, em_iast_ (n := 1) dX19_feed_103 rfl, em_aload_n (i := 0) dX19_feed_104 rfl, em_dup dX19_feed_105, em_getI dX19_feed_106 fcp_160 (Or.inl rfl), em_iconst (v := nI 1) dX19_feed_109 rfl, em_iadd dX19_feed_110, em_putI dX19_feed_111 fcp_160 rfl, em_iinc (v := nI 1) dX19_feed_114 rfl, em_goto (t := 8) dX19_feed_117 rfl, cat1_i, cat1_r, catB_n, catB_i, catB_r, catB_l, lg_0, lg_s, ldEI_i, ldEL_l, ldEA_r, lin_0, lin_s, ls1_0, ls1_1, ls1_s, ls2_0, ls2_1, ls2_s, lcl_i, lcl_r, lcl_l, lcl_n, lent_i, lent_r, lent_l, lent_0, lent_s, Option.toList_some, Option.toList_none, List.cons_append, List.nil_append, Nat.reduceAdd, true_and, mI_, mLg_, mV_, mInc_, mK_, nI_add, nI_mul, nI_subI, nI_clampI, inb_t, nI_lt0, nI_0le, nI_m1, nI_m1', nI_ofNat, bI_01, b01_0, b01_1, bI_eq0, bI_eq1, bb_01, true_or, or_true, false_or, or_false, eq_self, al_1, al_2, al_3, al_4, al_5, al_6, al_7, al_8, al_9, al_10, al_11, al_12, al_13, al_14, al_15, al_16, al_17, al_18, al_19, al_20, al_21, al_22, al_23, al_24, al_25, al_26, al_27, al_28, al_29, al_30, al_31, al_32, al_33, al_34, al_35, al_36, al_37, al_38, al_39, al_40, al_41, al_42, al_43, al_44, al_45, al_46, Nat.reduceAdd, Nat.reduceMul, Nat.reduceSub, Nat.reduceLT, Nat.reduceLeDiff, Nat.reduceEqDiff, ↓reduceIte, and_true, true_and, and_self, Nat.add_zero, Nat.zero_add, not_false_eq_true, not_true_eq_false, rI_we, rI_wn, faV_n, faV_s, m1_lt0, m1_0le, m1_eq0, m1_le, le_m1, m1_lt, lt_m1, rI_wo', rL_wI, rI_wL, nI_lt_t, nI_lt_f, nI_le_t, nI_le_f, nI_eq_t, nI_eq_f, nI_eq0_t, nI_eq0_f, nI_0lt_t, nI_0lt_f, nI_le0_t, nI_le0_f, nI_eq1_t, nI_eq1_f, h1]
              exact ih _ _ _
        · rw [fdS, if_neg (fun z => hok z.2)] at hs
          have ih := ih M1 K1 (by rw [hs]; exact t1)
          have hno := of_decide_eq_false (Bool.eq_false_iff.mpr hok)
          have n10 : ¬ byS w (k % 8) = nI 10 := fun z => hno (Or.inl z)
          by_cases h32 : byS w (k % 8) < nI 32
          · simp (disch := omega) only [em_aload_n (i := 0) dX19_feed_62 rfl, em_getI dX19_feed_63 fcp_160 (Or.inl rfl), em_sipush (v := nI 1000) dX19_feed_66 rfl, em_icmp_ge (t := 114) dX19_feed_69 rfl, em_iload dX19_feed_72, em_bipush (v := nI 10) dX19_feed_74 rfl, em_icmp_eq (t := 93) dX19_feed_76 rfl, em_iload dX19_feed_79, em_bipush (v := nI 32) dX19_feed_81 rfl, em_icmp_lt (t := 114) dX19_feed_83 rfl, em_iinc (v := nI 1) dX19_feed_114 rfl, em_goto (t := 8) dX19_feed_117 rfl, cat1_i, cat1_r, catB_n, catB_i, catB_r, catB_l, lg_0, lg_s, ldEI_i, ldEL_l, ldEA_r, lin_0, lin_s, ls1_0, ls1_1, ls1_s, ls2_0, ls2_1, ls2_s, lcl_i, lcl_r, lcl_l, lcl_n, lent_i, lent_r, lent_l, lent_0, lent_s, Option.toList_some, Option.toList_none, List.cons_append, List.nil_append, Nat.reduceAdd, true_and, mI_, mLg_, mV_, mInc_, mK_, nI_add, nI_mul, nI_subI, nI_clampI, inb_t, nI_lt0, nI_0le, nI_m1, nI_m1', nI_ofNat, bI_01, b01_0, b01_1, bI_eq0, bI_eq1, bb_01, true_or, or_true, false_or, or_false, eq_self, al_1, al_2, al_3, al_4, al_5, al_6, al_7, al_8, al_9, al_10, al_11, al_12, al_13, al_14, al_15, al_16, al_17, al_18, al_19, al_20, al_21, al_22, al_23, al_24, al_25, al_26, al_27, al_28, al_29, al_30, al_31, al_32, al_33, al_34, al_35, al_36, al_37, al_38, al_39, al_40, al_41, al_42, al_43, al_44, al_45, al_46, Nat.reduceAdd, Nat.reduceMul, Nat.reduceSub, Nat.reduceLT, Nat.reduceLeDiff, Nat.reduceEqDiff, ↓reduceIte, and_true, true_and, and_self, Nat.add_zero, Nat.zero_add, not_false_eq_true, not_true_eq_false, rI_we, rI_wn, faV_n, faV_s, m1_lt0, m1_0le, m1_eq0, m1_le, le_m1, m1_lt, lt_m1, rI_wo', rL_wI, rI_wL, nI_lt_t, nI_lt_f, nI_le_t, nI_le_f, nI_eq_t, nI_eq_f, nI_eq0_t, nI_eq0_f, nI_0lt_t, nI_0lt_f, nI_le0_t, nI_le0_f, nI_eq1_t, nI_eq1_f, h1, n10, h32]
            exact ih _ _ _
          · have h126 : nI 126 < byS w (k % 8) := Int32.not_le.mp (fun z => hno (Or.inr ⟨Int32.not_lt.mp h32, z⟩))
            simp (disch := omega) only [em_aload_n (i := 0) dX19_feed_62 rfl, em_getI dX19_feed_63 fcp_160 (Or.inl rfl), em_sipush (v := nI 1000) dX19_feed_66 rfl, em_icmp_ge (t := 114) dX19_feed_69 rfl, em_iload dX19_feed_72, em_bipush (v := nI 10) dX19_feed_74 rfl, em_icmp_eq (t := 93) dX19_feed_76 rfl, em_iload dX19_feed_79, em_bipush (v := nI 32) dX19_feed_81 rfl, em_icmp_lt (t := 114) dX19_feed_83 rfl, em_iload dX19_feed_86, em_bipush (v := nI 126) dX19_feed_88 rfl, em_icmp_gt (t := 114) dX19_feed_90 rfl, em_iinc (v := nI 1) dX19_feed_114 rfl, em_goto (t := 8) dX19_feed_117 rfl, cat1_i, cat1_r, catB_n, catB_i, catB_r, catB_l, lg_0, lg_s, ldEI_i, ldEL_l, ldEA_r, lin_0, lin_s, ls1_0, ls1_1, ls1_s, ls2_0, ls2_1, ls2_s, lcl_i, lcl_r, lcl_l, lcl_n, lent_i, lent_r, lent_l, lent_0, lent_s, Option.toList_some, Option.toList_none, List.cons_append, List.nil_append, Nat.reduceAdd, true_and, mI_, mLg_, mV_, mInc_, mK_, nI_add, nI_mul, nI_subI, nI_clampI, inb_t, nI_lt0, nI_0le, nI_m1, nI_m1', nI_ofNat, bI_01, b01_0, b01_1, bI_eq0, bI_eq1, bb_01, true_or, or_true, false_or, or_false, eq_self, al_1, al_2, al_3, al_4, al_5, al_6, al_7, al_8, al_9, al_10, al_11, al_12, al_13, al_14, al_15, al_16, al_17, al_18, al_19, al_20, al_21, al_22, al_23, al_24, al_25, al_26, al_27, al_28, al_29, al_30, al_31, al_32, al_33, al_34, al_35, al_36, al_37, al_38, al_39, al_40, al_41, al_42, al_43, al_44, al_45, al_46, Nat.reduceAdd, Nat.reduceMul, Nat.reduceSub, Nat.reduceLT, Nat.reduceLeDiff, Nat.reduceEqDiff, ↓reduceIte, and_true, true_and, and_self, Nat.add_zero, Nat.zero_add, not_false_eq_true, not_true_eq_false, rI_we, rI_wn, faV_n, faV_s, m1_lt0, m1_0le, m1_eq0, m1_le, le_m1, m1_lt, lt_m1, rI_wo', rL_wI, rI_wL, nI_lt_t, nI_lt_f, nI_le_t, nI_le_f, nI_eq_t, nI_eq_f, nI_eq0_t, nI_eq0_f, nI_0lt_t, nI_0lt_f, nI_le0_t, nI_le0_f, nI_eq1_t, nI_eq1_f, h1, n10, h32, h126]
            exact ih _ _ _
      · rw [fdS, if_neg (fun z => hfull z.1)] at hs
        have ih := ih M1 K1 (by rw [hs]; exact t1)
        simp (disch := omega) only [em_aload_n (i := 0) dX19_feed_62 rfl, em_getI dX19_feed_63 fcp_160 (Or.inl rfl), em_sipush (v := nI 1000) dX19_feed_66 rfl, em_icmp_ge (t := 114) dX19_feed_69 rfl, em_iinc (v := nI 1) dX19_feed_114 rfl, em_goto (t := 8) dX19_feed_117 rfl, cat1_i, cat1_r, catB_n, catB_i, catB_r, catB_l, lg_0, lg_s, ldEI_i, ldEL_l, ldEA_r, lin_0, lin_s, ls1_0, ls1_1, ls1_s, ls2_0, ls2_1, ls2_s, lcl_i, lcl_r, lcl_l, lcl_n, lent_i, lent_r, lent_l, lent_0, lent_s, Option.toList_some, Option.toList_none, List.cons_append, List.nil_append, Nat.reduceAdd, true_and, mI_, mLg_, mV_, mInc_, mK_, nI_add, nI_mul, nI_subI, nI_clampI, inb_t, nI_lt0, nI_0le, nI_m1, nI_m1', nI_ofNat, bI_01, b01_0, b01_1, bI_eq0, bI_eq1, bb_01, true_or, or_true, false_or, or_false, eq_self, al_1, al_2, al_3, al_4, al_5, al_6, al_7, al_8, al_9, al_10, al_11, al_12, al_13, al_14, al_15, al_16, al_17, al_18, al_19, al_20, al_21, al_22, al_23, al_24, al_25, al_26, al_27, al_28, al_29, al_30, al_31, al_32, al_33, al_34, al_35, al_36, al_37, al_38, al_39, al_40, al_41, al_42, al_43, al_44, al_45, al_46, Nat.reduceAdd, Nat.reduceMul, Nat.reduceSub, Nat.reduceLT, Nat.reduceLeDiff, Nat.reduceEqDiff, ↓reduceIte, and_true, true_and, and_self, Nat.add_zero, Nat.zero_add, not_false_eq_true, not_true_eq_false, rI_we, rI_wn, faV_n, faV_s, m1_lt0, m1_0le, m1_eq0, m1_le, le_m1, m1_lt, lt_m1, rI_wo', rL_wI, rI_wL, nI_lt_t, nI_lt_f, nI_le_t, nI_le_f, nI_eq_t, nI_eq_f, nI_eq0_t, nI_eq0_f, nI_0lt_t, nI_0lt_f, nI_le0_t, nI_le0_f, nI_eq1_t, nI_eq1_f, h1]
        exact ih _ _ _
    unfold fdL at go
    unfold byS at go
    by_cases k8 : k < 8
    · have go := go a (if_pos k8)
      clear ih hs
      simp (disch := omega) only [em_bipush (v := nI 24) dX19_feed_10 rfl, em_icmp_ge (t := 120) dX19_feed_12 rfl, em_iload dX19_feed_15, em_bipush (v := nI 8) dX19_feed_17 rfl, em_icmp_ge (t := 26) dX19_feed_19 rfl, em_lload_n (i := 1) dX19_feed_22 rfl, em_goto (t := 39) dX19_feed_23 rfl, em_lstore dX19_feed_39, em_lload dX19_feed_41, em_bipush (v := nI 56) dX19_feed_43 rfl, em_bipush (v := nI 8) dX19_feed_45 rfl, em_iload dX19_feed_47, em_bipush (v := nI 7) dX19_feed_49 rfl, em_iand dX19_feed_51, em_imul dX19_feed_52, em_isub dX19_feed_53, em_lushr dX19_feed_54, em_ldc2 dX19_feed_55 kcp_158, em_land dX19_feed_58, em_l2i dX19_feed_59, em_istore dX19_feed_60, cat1_i, cat1_r, catB_n, catB_i, catB_r, catB_l, lg_0, lg_s, ldEI_i, ldEL_l, ldEA_r, lin_0, lin_s, ls1_0, ls1_1, ls1_s, ls2_0, ls2_1, ls2_s, lcl_i, lcl_r, lcl_l, lcl_n, lent_i, lent_r, lent_l, lent_0, lent_s, Option.toList_some, Option.toList_none, List.cons_append, List.nil_append, Nat.reduceAdd, true_and, mI_, mLg_, mV_, mInc_, mK_, nI_add, nI_mul, nI_subI, nI_clampI, inb_t, nI_lt0, nI_0le, nI_m1, nI_m1', nI_ofNat, bI_01, b01_0, b01_1, bI_eq0, bI_eq1, bb_01, true_or, or_true, false_or, or_false, eq_self, al_1, al_2, al_3, al_4, al_5, al_6, al_7, al_8, al_9, al_10, al_11, al_12, al_13, al_14, al_15, al_16, al_17, al_18, al_19, al_20, al_21, al_22, al_23, al_24, al_25, al_26, al_27, al_28, al_29, al_30, al_31, al_32, al_33, al_34, al_35, al_36, al_37, al_38, al_39, al_40, al_41, al_42, al_43, al_44, al_45, al_46, Nat.reduceAdd, Nat.reduceMul, Nat.reduceSub, Nat.reduceLT, Nat.reduceLeDiff, Nat.reduceEqDiff, ↓reduceIte, and_true, true_and, and_self, Nat.add_zero, Nat.zero_add, not_false_eq_true, not_true_eq_false, rI_we, rI_wn, faV_n, faV_s, m1_lt0, m1_0le, m1_eq0, m1_le, le_m1, m1_lt, lt_m1, rI_wo', rL_wI, rI_wL, nI_lt_t, nI_lt_f, nI_le_t, nI_le_f, nI_eq_t, nI_eq_f, nI_eq0_t, nI_eq0_f, nI_0lt_t, nI_0lt_f, nI_le0_t, nI_le0_f, nI_eq1_t, nI_eq1_f, h7]
      exact go
    · by_cases k16 : k < 16
      · have go := go b (by rw [if_neg k8, if_pos k16])
        clear ih hs
        simp (disch := omega) only [em_bipush (v := nI 24) dX19_feed_10 rfl, em_icmp_ge (t := 120) dX19_feed_12 rfl, em_iload dX19_feed_15, em_bipush (v := nI 8) dX19_feed_17 rfl, em_icmp_ge (t := 26) dX19_feed_19 rfl, em_iload dX19_feed_26, em_bipush (v := nI 16) dX19_feed_28 rfl, em_icmp_ge (t := 37) dX19_feed_30 rfl, em_lload_n (i := 3) dX19_feed_33 rfl, em_goto (t := 39) dX19_feed_34 rfl, em_lstore dX19_feed_39, em_lload dX19_feed_41, em_bipush (v := nI 56) dX19_feed_43 rfl, em_bipush (v := nI 8) dX19_feed_45 rfl, em_iload dX19_feed_47, em_bipush (v := nI 7) dX19_feed_49 rfl, em_iand dX19_feed_51, em_imul dX19_feed_52, em_isub dX19_feed_53, em_lushr dX19_feed_54, em_ldc2 dX19_feed_55 kcp_158, em_land dX19_feed_58, em_l2i dX19_feed_59, em_istore dX19_feed_60, cat1_i, cat1_r, catB_n, catB_i, catB_r, catB_l, lg_0, lg_s, ldEI_i, ldEL_l, ldEA_r, lin_0, lin_s, ls1_0, ls1_1, ls1_s, ls2_0, ls2_1, ls2_s, lcl_i, lcl_r, lcl_l, lcl_n, lent_i, lent_r, lent_l, lent_0, lent_s, Option.toList_some, Option.toList_none, List.cons_append, List.nil_append, Nat.reduceAdd, true_and, mI_, mLg_, mV_, mInc_, mK_, nI_add, nI_mul, nI_subI, nI_clampI, inb_t, nI_lt0, nI_0le, nI_m1, nI_m1', nI_ofNat, bI_01, b01_0, b01_1, bI_eq0, bI_eq1, bb_01, true_or, or_true, false_or, or_false, eq_self, al_1, al_2, al_3, al_4, al_5, al_6, al_7, al_8, al_9, al_10, al_11, al_12, al_13, al_14, al_15, al_16, al_17, al_18, al_19, al_20, al_21, al_22, al_23, al_24, al_25, al_26, al_27, al_28, al_29, al_30, al_31, al_32, al_33, al_34, al_35, al_36, al_37, al_38, al_39, al_40, al_41, al_42, al_43, al_44, al_45, al_46, Nat.reduceAdd, Nat.reduceMul, Nat.reduceSub, Nat.reduceLT, Nat.reduceLeDiff, Nat.reduceEqDiff, ↓reduceIte, and_true, true_and, and_self, Nat.add_zero, Nat.zero_add, not_false_eq_true, not_true_eq_false, rI_we, rI_wn, faV_n, faV_s, m1_lt0, m1_0le, m1_eq0, m1_le, le_m1, m1_lt, lt_m1, rI_wo', rL_wI, rI_wL, nI_lt_t, nI_lt_f, nI_le_t, nI_le_f, nI_eq_t, nI_eq_f, nI_eq0_t, nI_eq0_f, nI_0lt_t, nI_0lt_f, nI_le0_t, nI_le0_f, nI_eq1_t, nI_eq1_f, h7]
        exact go
      · have go := go c (by rw [if_neg k8, if_neg k16])
        clear ih hs
        simp (disch := omega) only [em_bipush (v := nI 24) dX19_feed_10 rfl, em_icmp_ge (t := 120) dX19_feed_12 rfl, em_iload dX19_feed_15, em_bipush (v := nI 8) dX19_feed_17 rfl, em_icmp_ge (t := 26) dX19_feed_19 rfl, em_iload dX19_feed_26, em_bipush (v := nI 16) dX19_feed_28 rfl, em_icmp_ge (t := 37) dX19_feed_30 rfl, em_lload dX19_feed_37, em_lstore dX19_feed_39, em_lload dX19_feed_41, em_bipush (v := nI 56) dX19_feed_43 rfl, em_bipush (v := nI 8) dX19_feed_45 rfl, em_iload dX19_feed_47, em_bipush (v := nI 7) dX19_feed_49 rfl, em_iand dX19_feed_51, em_imul dX19_feed_52, em_isub dX19_feed_53, em_lushr dX19_feed_54, em_ldc2 dX19_feed_55 kcp_158, em_land dX19_feed_58, em_l2i dX19_feed_59, em_istore dX19_feed_60, cat1_i, cat1_r, catB_n, catB_i, catB_r, catB_l, lg_0, lg_s, ldEI_i, ldEL_l, ldEA_r, lin_0, lin_s, ls1_0, ls1_1, ls1_s, ls2_0, ls2_1, ls2_s, lcl_i, lcl_r, lcl_l, lcl_n, lent_i, lent_r, lent_l, lent_0, lent_s, Option.toList_some, Option.toList_none, List.cons_append, List.nil_append, Nat.reduceAdd, true_and, mI_, mLg_, mV_, mInc_, mK_, nI_add, nI_mul, nI_subI, nI_clampI, inb_t, nI_lt0, nI_0le, nI_m1, nI_m1', nI_ofNat, bI_01, b01_0, b01_1, bI_eq0, bI_eq1, bb_01, true_or, or_true, false_or, or_false, eq_self, al_1, al_2, al_3, al_4, al_5, al_6, al_7, al_8, al_9, al_10, al_11, al_12, al_13, al_14, al_15, al_16, al_17, al_18, al_19, al_20, al_21, al_22, al_23, al_24, al_25, al_26, al_27, al_28, al_29, al_30, al_31, al_32, al_33, al_34, al_35, al_36, al_37, al_38, al_39, al_40, al_41, al_42, al_43, al_44, al_45, al_46, Nat.reduceAdd, Nat.reduceMul, Nat.reduceSub, Nat.reduceLT, Nat.reduceLeDiff, Nat.reduceEqDiff, ↓reduceIte, and_true, true_and, and_self, Nat.add_zero, Nat.zero_add, not_false_eq_true, not_true_eq_false, rI_we, rI_wn, faV_n, faV_s, m1_lt0, m1_0le, m1_eq0, m1_le, le_m1, m1_lt, lt_m1, rI_wo', rL_wI, rI_wL, nI_lt_t, nI_lt_f, nI_le_t, nI_le_f, nI_eq_t, nI_eq_f, nI_eq0_t, nI_eq0_f, nI_0lt_t, nI_0lt_f, nI_le0_t, nI_le0_f, nI_eq1_t, nI_eq1_f, h7]
        exact go
theorem m_feed {a b c : Int64} {T : TP} (hT : TOK T) (t : TM M T) (hP : ∀ M', Kp [1] [0, 1] M M' → TM M' (spFeed a b c T) → P (some (.int (nI (spFeed a b c T).1)), M')) : EM mb e cX19_feed (some .int) 0 [some (.ref mb), some (.long a), none, some (.long b), none, some (.long c), none, none, none, none, none] [] M P := by
  simp (disch := omega) only [em_aload_n (i := 0) dX19_feed_0 rfl, em_iconst (v := nI 0) dX19_feed_1 rfl, em_putI dX19_feed_2 fcp_154 rfl, em_iconst (v := nI 0) dX19_feed_5 rfl, em_istore dX19_feed_6, cat1_i, cat1_r, catB_n, catB_i, catB_r, catB_l, lg_0, lg_s, ldEI_i, ldEL_l, ldEA_r, lin_0, lin_s, ls1_0, ls1_1, ls1_s, ls2_0, ls2_1, ls2_s, lcl_i, lcl_r, lcl_l, lcl_n, lent_i, lent_r, lent_l, lent_0, lent_s, Option.toList_some, Option.toList_none, List.cons_append, List.nil_append, Nat.reduceAdd, true_and, mI_, mLg_, mV_, mInc_, mK_, nI_add, nI_mul, nI_subI, nI_clampI, inb_t, nI_lt0, nI_0le, nI_m1, nI_m1', nI_ofNat, bI_01, b01_0, b01_1, bI_eq0, bI_eq1, bb_01, true_or, or_true, false_or, or_false, eq_self, al_1, al_2, al_3, al_4, al_5, al_6, al_7, al_8, al_9, al_10, al_11, al_12, al_13, al_14, al_15, al_16, al_17, al_18, al_19, al_20, al_21, al_22, al_23, al_24, al_25, al_26, al_27, al_28, al_29, al_30, al_31, al_32, al_33, al_34, al_35, al_36, al_37, al_38, al_39, al_40, al_41, al_42, al_43, al_44, al_45, al_46, Nat.reduceAdd, Nat.reduceMul, Nat.reduceSub, Nat.reduceLT, Nat.reduceLeDiff, Nat.reduceEqDiff, ↓reduceIte, and_true, true_and, and_self, Nat.add_zero, Nat.zero_add, not_false_eq_true, not_true_eq_false, rI_we, rI_wn, faV_n, faV_s, m1_lt0, m1_0le, m1_eq0, m1_le, le_m1, m1_lt, lt_m1, rI_wo', rL_wI, rI_wL, nI_lt_t, nI_lt_f, nI_le_t, nI_le_f, nI_eq_t, nI_eq_f, nI_eq0_t, nI_eq0_f, nI_0lt_t, nI_0lt_f, nI_le0_t, nI_le0_f, nI_eq1_t, nI_eq1_f]
  have K1 : Kp [1] [0, 1] M (wI M 0 0 (nI 0)) := Kp.rf.f rfl
  exact m_fd_lo hT (fun M2 K2 t2 => hP M2 (K1.tr (K2.sub rfl rfl)) t2) 24 0 (by omega) _ Kp.rf (by rw [fdA_0]; exact ⟨by rw [rI_wn (by omega)]; exact t.1, fun j hj => by rw [rI_wo (by rfl)]; exact t.2 j hj⟩) _ _ _
end
