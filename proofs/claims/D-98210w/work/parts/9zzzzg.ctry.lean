set_option maxRecDepth 100000
/-! THE COMPONENT's reader: tries, nights, whole histories -/
section
variable {zs : Nat → Nat} {e : Nat} {σ σ' : CM} {P : CR → Prop} {ra lo : Nat} {C : Nat → Nat} {all : List Tk} {dr : Value} {hg : Int32} {fa : Nat} {tp : Int32} {a dp qa : Nat} {q : QT} {L : List It} {da cap : Nat} {x : Nat → Nat}
/-- what a try leaves -/
def TrR (zs : Nat → Nat) (all : List Tk) (ra : Nat) (C : Nat → Nat) (dr : Value) (hg : Int32) (fa : Nat) (tp : Int32) (dp : Nat) (σ : CM) (a : Nat) (x : Except Nat (It × List Tk)) (r : CR) : Prop := match x with
  | .error k => ∃ a1, r = (.inr σ.1, wrS zs (rdP σ ra C dr hg fa tp a1 dp) k) ∧ a1 < all.length
  | .ok (it, t) => r = (.inl (some (.ref σ.1)), aC (rdP σ ra C dr hg fa tp (a + 3) dp) 3 (.inl (28, trF it))) ∧ t = all.drop (a + 3) ∧ a + 3 < all.length
theorem rdP_id (hE : RdE zs σ ra C all dr hg fa tp a dp) : rdP σ ra C dr hg fa tp a dp = σ := by
  unfold rdP
  obtain ⟨n, m, f⟩ := σ
  show (n, m, fun b => if b = ra then some _ else f b) = (n, m, f)
  have h1 : f ra = some (.inl (1, rdF C dr hg fa tp (nI a) (nI dp))) := hE.1
  congr 2
  funext b
  by_cases hb : b = ra
  · rw [if_pos hb, hb, h1]
  · rw [if_neg hb]
theorem c_rtried (hZ : ZS zs) (hw : HW σ) (hE : RdE zs σ ra C all dr hg fa tp a dp) (hQ : ∀ z, NmQ (rdP σ ra C dr hg fa tp z dp) qa q) (hP : ∀ r, TrR zs all ra C dr hg fa tp dp σ a (xTr q (all.drop a)) r → P r) : EC zs (Jc zs) (e + 5) cX2_tried (some (.object "KnowLocks$Tried")) 1 0 0 [some (.ref ra), some (.ref qa), none, none, none] [] σ P := by
  have hl := hE.le
  obtain ⟨⟨l0, -⟩, -⟩ := hE.x
  have h1 := hE.1
  have hQ0 : NmQ σ qa q := by have := hQ a; rw [rdP_id hE] at this; exact this
  have th := fun P => c_toldHand (e := e) (P := P) hZ hw hE hQ0
  unfold xTr at hP
  rw [tl_drop, tl_drop, tl_drop] at hP
  cases hx1 : pHd q (all.drop a) with
  | error k =>
    rw [hx1] at hP
    have fin := hP (.inr σ.1, wrS zs σ k) ⟨a, by rw [rdP_id hE], hE.2.2⟩
    simp (disch := omega) only [ec_aload_n (i := 0) dX2_tried_0 rfl, ec_aload_n (i := 1) dX2_tried_1 rfl, ec_cv1 dX2_tried_2 iN_1_248 cna_1_248, vcE_o ccp_1_248_1, ET_0 (thrP_c (o := 1) dX2_tried_2 rfl), cat1_i, cat1_r, cat1_u, catB_n, catB_i, catB_r, catB_l, catB_u, lg_0, lg_s, ldEI_i, ldEL_l, ldEA_r, ldEA_n, lin_0, lin_s, ls1_0, ls1_1, ls1_s, ls2_0, ls2_1, ls2_s, lcl_i, lcl_r, lcl_l, lcl_u, lcl_n, lent_i, lent_r, lent_l, lent_u, lent_0, lent_s, Option.toList_some, Option.toList_none, List.cons_append, List.nil_append, Nat.reduceAdd, true_and, vin_0, vin_s, aE_0, aE_s, EK_r, EK_t, List.set_cons_zero, List.set_cons_succ, va_rf_s, va_rf_n, pC_1, pC_21, aC_1, aC_21, gC_self, gC_new, eI_, eLg_, eV_, eInc_, eN_, eS_, eJ_, eCl_, nI_add, nI_mul, nI_subI, nI_clampI, inb_t, nI_lt0, nI_0le, nI_m1, nI_m1', nI_ofNat, bI_01, b01_0, b01_1, bI_eq0, bI_eq1, bb_01, true_or, or_true, false_or, or_false, eq_self, Nat.reduceAdd, Nat.reduceMul, Nat.reduceSub, Nat.reduceLT, Nat.reduceLeDiff, Nat.reduceEqDiff, ↓reduceIte, and_true, true_and, and_self, Nat.add_zero, Nat.zero_add, not_false_eq_true, not_true_eq_false, faV_n, faV_s, m1_lt0, m1_0le, m1_eq0, m1_le, le_m1, m1_lt, lt_m1, nI_100k, nI_100, upd_e, upd_n, pC_pC, gC_ne', gC_old', nI_lt_t, nI_lt_f, nI_le_t, nI_le_f, nI_eq_t, nI_eq_f, nI_eq0_t, nI_eq0_f, nI_0lt_t, nI_0lt_f, nI_le0_t, nI_le0_f, nI_eq1_t, nI_eq1_f, h1, th, hx1, exE_er]
    exact fin
  | ok h =>
    rw [hx1] at hP
    obtain ⟨hh, hn1⟩ := pHd_v hx1 hE
    have E1 : RdE zs (rdP σ ra C dr hg fa tp (a + 1) dp) ra C all dr hg fa tp (a + 1) dp := hE.rp hn1
    have w1 : ∀ z, HW (rdP σ ra C dr hg fa tp z dp) := fun z => hw.rdP hE
    have g1 := E1.1
    have td := fun P => c_toldDoor (e := e) (P := P) hZ (w1 (a + 1)) E1 (hQ (a + 1))
    have hP : ∀ r, TrR zs all ra C dr hg fa tp dp σ a (match pDr q (all.drop (a + 1)) with
      | .error k => .error k
      | .ok d => (match whW hwL (all.drop (a + 2)) with
        | none => .error (erT 1 (all.drop (a + 2)))
        | some w => .ok (some (h, d, decide (w = 1)), all.drop (a + 3)))) r → P r := hP
    cases hx2 : pDr q (all.drop (a + 1)) with
    | error k =>
      rw [hx2] at hP
      have fin := hP (.inr σ.1, wrS zs (rdP σ ra C dr hg fa tp (a + 1) dp) k) ⟨a + 1, rfl, hn1⟩
      simp (disch := omega) only [ec_aload_n (i := 0) dX2_tried_0 rfl, ec_aload_n (i := 1) dX2_tried_1 rfl, ec_cv1 dX2_tried_2 iN_1_248 cna_1_248, vcE_o ccp_1_248_1, ET_0 (thrP_c (o := 1) dX2_tried_2 rfl), ec_istore_n (i := 2) dX2_tried_5 rfl, ec_aload_n (i := 0) dX2_tried_6 rfl, ec_aload_n (i := 1) dX2_tried_7 rfl, ec_cv1 dX2_tried_8 iN_1_287 cna_1_287, vcE_o ccp_1_287_1, ET_0 (thrP_c (o := 1) dX2_tried_8 rfl), cat1_i, cat1_r, cat1_u, catB_n, catB_i, catB_r, catB_l, catB_u, lg_0, lg_s, ldEI_i, ldEL_l, ldEA_r, ldEA_n, lin_0, lin_s, ls1_0, ls1_1, ls1_s, ls2_0, ls2_1, ls2_s, lcl_i, lcl_r, lcl_l, lcl_u, lcl_n, lent_i, lent_r, lent_l, lent_u, lent_0, lent_s, Option.toList_some, Option.toList_none, List.cons_append, List.nil_append, Nat.reduceAdd, true_and, vin_0, vin_s, aE_0, aE_s, EK_r, EK_t, List.set_cons_zero, List.set_cons_succ, va_rf_s, va_rf_n, pC_1, pC_21, aC_1, aC_21, gC_self, gC_new, eI_, eLg_, eV_, eInc_, eN_, eS_, eJ_, eCl_, nI_add, nI_mul, nI_subI, nI_clampI, inb_t, nI_lt0, nI_0le, nI_m1, nI_m1', nI_ofNat, bI_01, b01_0, b01_1, bI_eq0, bI_eq1, bb_01, true_or, or_true, false_or, or_false, eq_self, Nat.reduceAdd, Nat.reduceMul, Nat.reduceSub, Nat.reduceLT, Nat.reduceLeDiff, Nat.reduceEqDiff, ↓reduceIte, and_true, true_and, and_self, Nat.add_zero, Nat.zero_add, not_false_eq_true, not_true_eq_false, faV_n, faV_s, m1_lt0, m1_0le, m1_eq0, m1_le, le_m1, m1_lt, lt_m1, nI_100k, nI_100, upd_e, upd_n, pC_pC, gC_ne', gC_old', nI_lt_t, nI_lt_f, nI_le_t, nI_le_f, nI_eq_t, nI_eq_f, nI_eq0_t, nI_eq0_f, nI_0lt_t, nI_0lt_f, nI_le0_t, nI_le0_f, nI_eq1_t, nI_eq1_f, h1, g1, th, td, hx1, hx2, exE_ok, exE_er]
      exact fin
    | ok d =>
      rw [hx2] at hP
      obtain ⟨hd, hn2⟩ := pDr_v hx2 E1
      have E2 : RdE zs (rdP σ ra C dr hg fa tp (a + 2) dp) ra C all dr hg fa tp (a + 2) dp := hE.rp hn2
      have g1' := g1
      unfold rdF at g1'
      have g2 := E2.1
      unfold rdF at g2
      have wh := fun P => c_wh_w (e := e + 2) (P := P) E2 hZ
      have wr := fun P => c_wrong (e := e + 3) (P := P) (k := 1) (by omega) (w1 (a + 2)) E2
      unfold rdP rdF at wh wr g1' g2 td th
      have hP : ∀ r, TrR zs all ra C dr hg fa tp dp σ a (match whW hwL (all.drop (a + 2)) with
        | none => .error (erT 1 (all.drop (a + 2)))
        | some w => .ok (some (h, d, decide (w = 1)), all.drop (a + 3))) r → P r := hP
      cases hx3 : whW hwL (all.drop (a + 2)) with
      | none =>
        rw [hx3] at hP
        have fin := hP (.inr σ.1, wrS zs (rdP σ ra C dr hg fa tp (a + 2) dp) (erT 1 (all.drop (a + 2)))) ⟨a + 2, rfl, hn2⟩
        simp (disch := omega) only [ec_aload_n (i := 0) dX2_tried_0 rfl, ec_aload_n (i := 1) dX2_tried_1 rfl, ec_cv1 dX2_tried_2 iN_1_248 cna_1_248, vcE_o ccp_1_248_1, ET_0 (thrP_c (o := 1) dX2_tried_2 rfl), ec_istore_n (i := 2) dX2_tried_5 rfl, ec_aload_n (i := 0) dX2_tried_6 rfl, ec_aload_n (i := 1) dX2_tried_7 rfl, ec_cv1 dX2_tried_8 iN_1_287 cna_1_287, vcE_o ccp_1_287_1, ET_0 (thrP_c (o := 1) dX2_tried_8 rfl), ec_istore_n (i := 3) dX2_tried_11 rfl, ec_aload_n (i := 0) dX2_tried_12 rfl, ec_dup dX2_tried_13, ec_get dX2_tried_14, gw_1_156_1, ec_iconst (v := nI 1) dX2_tried_17 rfl, ec_iadd dX2_tried_18, ec_put dX2_tried_19, pw_1_0_156_1, ec_aload_n (i := 0) dX2_tried_22 rfl, ec_aload_n (i := 0) dX2_tried_23 rfl, ec_get dX2_tried_24, gw_1_97_1, ec_cv1 dX2_tried_27 iN_1_182 cna_1_182, vcE_o ccp_1_182_1, ec_istore dX2_tried_30, ec_iload dX2_tried_32, ec_iconst (v := (-1)) dX2_tried_34 rfl, ec_icmp_ne (t := 44) dX2_tried_35 rfl, ec_aload_n (i := 0) dX2_tried_38 rfl, ec_iconst (v := nI 1) dX2_tried_39 rfl, ec_cv1 dX2_tried_40 iN_1_178 cna_1_178, vcE_o ccp_1_178_1, ec_athrow dX2_tried_43, ET_0 (thrP_a dX2_tried_43), cat1_i, cat1_r, cat1_u, catB_n, catB_i, catB_r, catB_l, catB_u, lg_0, lg_s, ldEI_i, ldEL_l, ldEA_r, ldEA_n, lin_0, lin_s, ls1_0, ls1_1, ls1_s, ls2_0, ls2_1, ls2_s, lcl_i, lcl_r, lcl_l, lcl_u, lcl_n, lent_i, lent_r, lent_l, lent_u, lent_0, lent_s, Option.toList_some, Option.toList_none, List.cons_append, List.nil_append, Nat.reduceAdd, true_and, vin_0, vin_s, aE_0, aE_s, EK_r, EK_t, List.set_cons_zero, List.set_cons_succ, va_rf_s, va_rf_n, pC_1, pC_21, aC_1, aC_21, gC_self, gC_new, eI_, eLg_, eV_, eInc_, eN_, eS_, eJ_, eCl_, nI_add, nI_mul, nI_subI, nI_clampI, inb_t, nI_lt0, nI_0le, nI_m1, nI_m1', nI_ofNat, bI_01, b01_0, b01_1, bI_eq0, bI_eq1, bb_01, true_or, or_true, false_or, or_false, eq_self, Nat.reduceAdd, Nat.reduceMul, Nat.reduceSub, Nat.reduceLT, Nat.reduceLeDiff, Nat.reduceEqDiff, ↓reduceIte, and_true, true_and, and_self, Nat.add_zero, Nat.zero_add, not_false_eq_true, not_true_eq_false, faV_n, faV_s, m1_lt0, m1_0le, m1_eq0, m1_le, le_m1, m1_lt, lt_m1, nI_100k, nI_100, upd_e, upd_n, pC_pC, gC_ne', gC_old', nI_lt_t, nI_lt_f, nI_le_t, nI_le_f, nI_eq_t, nI_eq_f, nI_eq0_t, nI_eq0_f, nI_0lt_t, nI_0lt_f, nI_le0_t, nI_le0_f, nI_eq1_t, nI_eq1_f, h1, g1', g2, th, td, hx1, hx2, hx3, wh, wr, exE_ok]
        exact fin
      | some w =>
        have hw2 : w < 2 := whW_lt hx3
        have hn3 := whW_nx E2 hx3
        rw [hx3] at hP
        have fin := hP (.inl (some (.ref σ.1)), aC (rdP σ ra C dr hg fa tp (a + 3) dp) 3 (.inl (28, trF (some (h, d, decide (w = 1)))))) ⟨rfl, rfl, hn3⟩
        have tn := fun P => c_trNew (zs := zs) (e := e + 3) (σ := rdP σ ra C dr hg fa tp (a + 3) dp) (P := P) (h := nI h) (d := nI d) (o := nI 0) (Or.inl rfl)
        have tn1 := fun P => c_trNew (zs := zs) (e := e + 3) (σ := rdP σ ra C dr hg fa tp (a + 3) dp) (P := P) (h := nI h) (d := nI d) (o := nI 1) (Or.inr rfl)
        have s3 : (rdP σ ra C dr hg fa tp (a + 3) dp).1 = σ.1 := rfl
        simp only [s3] at tn tn1
        unfold rdP rdF at tn tn1
        have hww : w = 0 ∨ w = 1 := by omega
        rcases hww with rfl | rfl
        · simp (disch := omega) only [ec_aload_n (i := 0) dX2_tried_0 rfl, ec_aload_n (i := 1) dX2_tried_1 rfl, ec_cv1 dX2_tried_2 iN_1_248 cna_1_248, vcE_o ccp_1_248_1, ET_0 (thrP_c (o := 1) dX2_tried_2 rfl), ec_istore_n (i := 2) dX2_tried_5 rfl, ec_aload_n (i := 0) dX2_tried_6 rfl, ec_aload_n (i := 1) dX2_tried_7 rfl, ec_cv1 dX2_tried_8 iN_1_287 cna_1_287, vcE_o ccp_1_287_1, ET_0 (thrP_c (o := 1) dX2_tried_8 rfl), ec_istore_n (i := 3) dX2_tried_11 rfl, ec_aload_n (i := 0) dX2_tried_12 rfl, ec_dup dX2_tried_13, ec_get dX2_tried_14, gw_1_156_1, ec_iconst (v := nI 1) dX2_tried_17 rfl, ec_iadd dX2_tried_18, ec_put dX2_tried_19, pw_1_0_156_1, ec_aload_n (i := 0) dX2_tried_22 rfl, ec_aload_n (i := 0) dX2_tried_23 rfl, ec_get dX2_tried_24, gw_1_97_1, ec_cv1 dX2_tried_27 iN_1_182 cna_1_182, vcE_o ccp_1_182_1, ec_istore dX2_tried_30, ec_iload dX2_tried_32, ec_iconst (v := (-1)) dX2_tried_34 rfl, ec_icmp_ne (t := 44) dX2_tried_35 rfl, ec_aload_n (i := 0) dX2_tried_44 rfl, ec_dup dX2_tried_45, ec_get dX2_tried_46, ec_iconst (v := nI 1) dX2_tried_49 rfl, ec_iadd dX2_tried_50, ec_put dX2_tried_51, ec_new dX2_tried_54 ncp_1_323 cSz_28 cDf_28, ec_dup dX2_tried_57, ec_iload_n (i := 2) dX2_tried_58 rfl, ec_iload_n (i := 3) dX2_tried_59 rfl, ec_iload dX2_tried_60, ec_iconst (v := nI 1) dX2_tried_62 rfl, ec_icmp_ne (t := 70) dX2_tried_63 rfl, ec_iconst (v := nI 1) dX2_tried_66 rfl, ec_goto (t := 71) dX2_tried_67 rfl, ec_iconst (v := nI 0) dX2_tried_70 rfl, ec_ci3 dX2_tried_71 iN_1_325 ccp_1_325_99, ec_aret dX2_tried_74, ec_aretN dX2_tried_74, ec_aretA dX2_tried_74, cat1_i, cat1_r, cat1_u, catB_n, catB_i, catB_r, catB_l, catB_u, lg_0, lg_s, ldEI_i, ldEL_l, ldEA_r, ldEA_n, lin_0, lin_s, ls1_0, ls1_1, ls1_s, ls2_0, ls2_1, ls2_s, lcl_i, lcl_r, lcl_l, lcl_u, lcl_n, lent_i, lent_r, lent_l, lent_u, lent_0, lent_s, Option.toList_some, Option.toList_none, List.cons_append, List.nil_append, Nat.reduceAdd, true_and, vin_0, vin_s, aE_0, aE_s, EK_r, EK_t, List.set_cons_zero, List.set_cons_succ, va_rf_s, va_rf_n, pC_1, pC_21, aC_1, aC_21, gC_self, gC_new, eI_, eLg_, eV_, eInc_, eN_, eS_, eJ_, eCl_, nI_add, nI_mul, nI_subI, nI_clampI, inb_t, nI_lt0, nI_0le, nI_m1, nI_m1', nI_ofNat, bI_01, b01_0, b01_1, bI_eq0, bI_eq1, bb_01, true_or, or_true, false_or, or_false, eq_self, Nat.reduceAdd, Nat.reduceMul, Nat.reduceSub, Nat.reduceLT, Nat.reduceLeDiff, Nat.reduceEqDiff, ↓reduceIte, and_true, true_and, and_self, Nat.add_zero, Nat.zero_add, not_false_eq_true, not_true_eq_false, faV_n, faV_s, m1_lt0, m1_0le, m1_eq0, m1_le, le_m1, m1_lt, lt_m1, nI_100k, nI_100, upd_e, upd_n, pC_pC, gC_ne', gC_old', nI_lt_t, nI_lt_f, nI_le_t, nI_le_f, nI_eq_t, nI_eq_f, nI_eq0_t, nI_eq0_f, nI_0lt_t, nI_0lt_f, nI_le0_t, nI_le0_f, nI_eq1_t, nI_eq1_f, h1, g1', g2, th, td, hx1, hx2, hx3, wh, exE_ok, tn, tn1]
          exact fin
        · simp (disch := omega) only [ec_aload_n (i := 0) dX2_tried_0 rfl, ec_aload_n (i := 1) dX2_tried_1 rfl, ec_cv1 dX2_tried_2 iN_1_248 cna_1_248, vcE_o ccp_1_248_1, ET_0 (thrP_c (o := 1) dX2_tried_2 rfl), ec_istore_n (i := 2) dX2_tried_5 rfl, ec_aload_n (i := 0) dX2_tried_6 rfl, ec_aload_n (i := 1) dX2_tried_7 rfl, ec_cv1 dX2_tried_8 iN_1_287 cna_1_287, vcE_o ccp_1_287_1, ET_0 (thrP_c (o := 1) dX2_tried_8 rfl), ec_istore_n (i := 3) dX2_tried_11 rfl, ec_aload_n (i := 0) dX2_tried_12 rfl, ec_dup dX2_tried_13, ec_get dX2_tried_14, gw_1_156_1, ec_iconst (v := nI 1) dX2_tried_17 rfl, ec_iadd dX2_tried_18, ec_put dX2_tried_19, pw_1_0_156_1, ec_aload_n (i := 0) dX2_tried_22 rfl, ec_aload_n (i := 0) dX2_tried_23 rfl, ec_get dX2_tried_24, gw_1_97_1, ec_cv1 dX2_tried_27 iN_1_182 cna_1_182, vcE_o ccp_1_182_1, ec_istore dX2_tried_30, ec_iload dX2_tried_32, ec_iconst (v := (-1)) dX2_tried_34 rfl, ec_icmp_ne (t := 44) dX2_tried_35 rfl, ec_aload_n (i := 0) dX2_tried_44 rfl, ec_dup dX2_tried_45, ec_get dX2_tried_46, ec_iconst (v := nI 1) dX2_tried_49 rfl, ec_iadd dX2_tried_50, ec_put dX2_tried_51, ec_new dX2_tried_54 ncp_1_323 cSz_28 cDf_28, ec_dup dX2_tried_57, ec_iload_n (i := 2) dX2_tried_58 rfl, ec_iload_n (i := 3) dX2_tried_59 rfl, ec_iload dX2_tried_60, ec_iconst (v := nI 1) dX2_tried_62 rfl, ec_icmp_ne (t := 70) dX2_tried_63 rfl, ec_iconst (v := nI 1) dX2_tried_66 rfl, ec_goto (t := 71) dX2_tried_67 rfl, ec_iconst (v := nI 0) dX2_tried_70 rfl, ec_ci3 dX2_tried_71 iN_1_325 ccp_1_325_99, ec_aret dX2_tried_74, ec_aretN dX2_tried_74, ec_aretA dX2_tried_74, cat1_i, cat1_r, cat1_u, catB_n, catB_i, catB_r, catB_l, catB_u, lg_0, lg_s, ldEI_i, ldEL_l, ldEA_r, ldEA_n, lin_0, lin_s, ls1_0, ls1_1, ls1_s, ls2_0, ls2_1, ls2_s, lcl_i, lcl_r, lcl_l, lcl_u, lcl_n, lent_i, lent_r, lent_l, lent_u, lent_0, lent_s, Option.toList_some, Option.toList_none, List.cons_append, List.nil_append, Nat.reduceAdd, true_and, vin_0, vin_s, aE_0, aE_s, EK_r, EK_t, List.set_cons_zero, List.set_cons_succ, va_rf_s, va_rf_n, pC_1, pC_21, aC_1, aC_21, gC_self, gC_new, eI_, eLg_, eV_, eInc_, eN_, eS_, eJ_, eCl_, nI_add, nI_mul, nI_subI, nI_clampI, inb_t, nI_lt0, nI_0le, nI_m1, nI_m1', nI_ofNat, bI_01, b01_0, b01_1, bI_eq0, bI_eq1, bb_01, true_or, or_true, false_or, or_false, eq_self, Nat.reduceAdd, Nat.reduceMul, Nat.reduceSub, Nat.reduceLT, Nat.reduceLeDiff, Nat.reduceEqDiff, ↓reduceIte, and_true, true_and, and_self, Nat.add_zero, Nat.zero_add, not_false_eq_true, not_true_eq_false, faV_n, faV_s, m1_lt0, m1_0le, m1_eq0, m1_le, le_m1, m1_lt, lt_m1, nI_100k, nI_100, upd_e, upd_n, pC_pC, gC_ne', gC_old', nI_lt_t, nI_lt_f, nI_le_t, nI_le_f, nI_eq_t, nI_eq_f, nI_eq0_t, nI_eq0_f, nI_0lt_t, nI_0lt_f, nI_le0_t, nI_le0_f, nI_eq1_t, nI_eq1_f, h1, g1', g2, th, td, hx1, hx2, hx3, wh, exE_ok, tn, tn1]
          exact fin
end
