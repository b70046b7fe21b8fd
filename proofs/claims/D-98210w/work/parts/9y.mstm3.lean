set_option maxRecDepth 100000
/-! THE MODEL reads statements: laws -/
section
variable {mb e : Nat} {M : MM} {P : MR → Prop} {q : QT} {T : Nat → Nat} {n : Nat} {ts : List Tk} {g : Bool} {c : Nat}
theorem LwM.keep {M' : MM} {ln m : Nat} {ix : Nat → Nat} {o : Option Law} (h : LwM M 1 ln m ix o) (hb : ∃ e, rI M 14 (2 * 1 + ln) = nI e ∧ e ≤ c) (hc : c ≤ 2001) (h13 : rI M' 13 (2 * 1 + ln) = rI M 13 (2 * 1 + ln)) (h14 : rI M' 14 (2 * 1 + ln) = rI M 14 (2 * 1 + ln)) (h15 : ∀ j, j < c → rI M' 15 j = rI M 15 j) : LwM M' 1 ln m ix o := by
  cases o with
  | none =>
    show rI M' 13 (2 * 1 + ln) = rI M' 14 (2 * 1 + ln)
    rw [h13, h14]
    exact h
  | some F =>
    obtain ⟨a, cs, g0, g1, g2, g3, g4, g5⟩ := h
    obtain ⟨e, he, hec⟩ := hb
    have hee : 1000 * 1 + (a + cs.length) = e := (nI_eq (by omega) (by omega)).mp (g3.symm.trans he)
    exact ⟨a, cs, g0, g1, h13.trans g2, h14.trans g3, fun i hi => (h15 _ (by omega)).trans (g4 i hi), g5⟩
theorem QR.lw {ln : Nat} (h : QR M 1 q) (hl : ln < 2) : LwM M 1 ln (nF (decide (ln = 1))) (fcC (decide (ln = 1))) (q.2.2.2 ln) := by
  obtain ⟨_, _, _, _, _, _, e1, e2⟩ := h
  have hc : ln = 0 ∨ ln = 1 := by omega
  rcases hc with rfl | rfl
  · exact e1
  · exact e2
theorem QR.law {M' : MM} {ln : Nat} {x : Ex} (hl : ln < 2) (h : QR M 1 q) (hb : LB M c) (hc : c ≤ 2001) (h1 : ∀ k, 2 ≤ k → k ≤ 12 → rI M' k = rI M k) (h2 : ∀ k, k ≠ 0 → rL M' k = rL M k) (h13 : ∀ j, j ≠ 2 * 1 + ln → rI M' 13 j = rI M 13 j) (h14 : ∀ j, j ≠ 2 * 1 + ln → rI M' 14 j = rI M 14 j) (h15 : ∀ j, j < c → rI M' 15 j = rI M 15 j) (hw : LwM M' 1 ln (nF (decide (ln = 1))) (fcC (decide (ln = 1))) (some x.1)) : QR M' 1 (qF q ln x.1) := by
  obtain ⟨o, s0, ⟨a1, a2, a3, a4⟩, ⟨b1, b2⟩, ⟨c1, c2⟩, ⟨d1, d2⟩, e1, e2⟩ := h
  have s : ∀ {k a m : Nat} {s : Nat → Nat}, SR M k a m s → 2 ≤ k → k ≤ 12 → SR M' k a m s := fun h x y j hj => by rw [h1 _ x y]; exact h j hj
  refine ⟨o, fun j hj => ?_, ⟨s a1 (by omega) (by omega), s a2 (by omega) (by omega), s a3 (by omega) (by omega), s a4 (by omega) (by omega)⟩, ⟨s b1 (by omega) (by omega), s b2 (by omega) (by omega)⟩, ⟨s c1 (by omega) (by omega), s c2 (by omega) (by omega)⟩, ⟨fun j hj => ?_, fun j hj => ?_⟩, ?_⟩
  · rw [h1 2 (by omega) (by omega)]; exact s0 j hj
  · rw [h2 3 (by omega)]; exact d1 j hj
  · rw [h2 4 (by omega)]; exact d2 j hj
  · have hcs : ln = 0 ∨ ln = 1 := by omega
    rcases hcs with rfl | rfl
    · exact ⟨hw, e2.keep (hb 1 (by omega)) hc (h13 _ (by omega)) (h14 _ (by omega)) h15⟩
    · exact ⟨e1.keep (hb 0 (by omega)) hc (h13 _ (by omega)) (h14 _ (by omega)) h15, hw⟩
theorem KQ.w13 {k i : Nat} {v : Int32} (hk : k = 13 ∨ k = 14) (h1 : 2 ≤ i) (h2 : i < 4) : KQ M (wI M k i v) := ⟨fun k a b _ _ => wI_off (by omega), fun j _ => by rw [wI_off (by omega)], fun r hr => PlS.w (by omega)⟩
theorem m_readsLaw {ln : Nat} (hln : ln < 2) (D : DS M T n q g ts c) (hO : TpO T n) (hB : TkB ts) (hne : (hdT ts).1 ≠ 0) (hk : ∀ q' t c' M', pLaw q ln ts = .ok (q', t) → KQ M M' → DS M' T n q' g t c' → t.length < ts.length → P (some (.int (nI 1)), M')) (he : ∀ k M', pLaw q ln ts = .error k → KQ M M' → rI M' 0 9 = nI k → P (some (.int (nI 0)), M')) : EM mb (e + 3) cX19_readsLaw (some .boolean) 0 [some (.ref mb), some (.int (nI ln))] [] M P := by
  have R := D.2.1
  have hl := R.len2 hne
  have hcc := D.2.2.2.2.1
  unfold pLaw at hk he
  have lw := D.1.lw hln
  cases ho : q.2.2.2 ln with
  | some F =>
    rw [ho] at lw he
    obtain ⟨a, cs, g0, g1, g2, g3, g4, g5⟩ := lw
    rw [show 2 * 1 + ln = 2 + ln by omega] at g2 g3
    simp (disch := omega) only [em_aload_n (i := 0) dX19_readsLaw_0 rfl, em_getA (n := 14) dX19_readsLaw_1 fcp_50 rfl rfl, em_iconst (v := nI 2) dX19_readsLaw_4 rfl, em_iload_n (i := 1) dX19_readsLaw_5 rfl, em_iadd dX19_readsLaw_6, em_iald_ (n := 14) dX19_readsLaw_7 rfl, em_aload_n (i := 0) dX19_readsLaw_8 rfl, em_getA (n := 13) dX19_readsLaw_9 fcp_47 rfl rfl, em_iconst (v := nI 2) dX19_readsLaw_12 rfl, em_iload_n (i := 1) dX19_readsLaw_13 rfl, em_iadd dX19_readsLaw_14, em_iald_ (n := 13) dX19_readsLaw_15 rfl, em_icmp_le (t := 25) dX19_readsLaw_16 rfl, em_aload_n (i := 0) dX19_readsLaw_19 rfl, em_iconst (v := nI 3) dX19_readsLaw_20 rfl, em_cv1 dX19_readsLaw_21 mcp_230, em_iret dX19_readsLaw_24, em_zret dX19_readsLaw_24, em_aload_n (i := 0) dX19_readsLaw_25 rfl, em_iload_n (i := 1) dX19_readsLaw_26 rfl, em_iconst (v := nI 1) dX19_readsLaw_27 rfl, em_icmp_ne (t := 35) dX19_readsLaw_28 rfl, em_iconst (v := nI 1) dX19_readsLaw_31 rfl, em_goto (t := 36) dX19_readsLaw_32 rfl, em_iconst (v := nI 0) dX19_readsLaw_35 rfl, em_putZ dX19_readsLaw_36 fcp_200 rfl, em_aload_n (i := 0) dX19_readsLaw_39 rfl, em_cv0 dX19_readsLaw_40 mcp_236, em_aload_n (i := 0) dX19_readsLaw_43 rfl, em_getA (n := 13) dX19_readsLaw_44 fcp_47 rfl rfl, em_iconst (v := nI 2) dX19_readsLaw_47 rfl, em_iload_n (i := 1) dX19_readsLaw_48 rfl, em_iadd dX19_readsLaw_49, em_aload_n (i := 0) dX19_readsLaw_50 rfl, em_getI dX19_readsLaw_51 fcp_193 (Or.inl rfl), em_iast_ (n := 13) dX19_readsLaw_54 rfl, em_aload_n (i := 0) dX19_readsLaw_55 rfl, em_cv0 dX19_readsLaw_56 mcp_347, em_if_ne (t := 64) dX19_readsLaw_59 rfl, em_iconst (v := nI 0) dX19_readsLaw_62 rfl, em_iret dX19_readsLaw_63, em_zret dX19_readsLaw_63, em_aload_n (i := 0) dX19_readsLaw_64 rfl, em_getA (n := 14) dX19_readsLaw_65 fcp_50 rfl rfl, em_iconst (v := nI 2) dX19_readsLaw_68 rfl, em_iload_n (i := 1) dX19_readsLaw_69 rfl, em_iadd dX19_readsLaw_70, em_aload_n (i := 0) dX19_readsLaw_71 rfl, em_getI dX19_readsLaw_72 fcp_193 (Or.inl rfl), em_iast_ (n := 14) dX19_readsLaw_75 rfl, em_iconst (v := nI 1) dX19_readsLaw_76 rfl, em_iret dX19_readsLaw_77, em_zret dX19_readsLaw_77, cat1_i, cat1_r, catB_n, catB_i, catB_r, catB_l, lg_0, lg_s, ldEI_i, ldEL_l, ldEA_r, lin_0, lin_s, ls1_0, ls1_1, ls1_s, ls2_0, ls2_1, ls2_s, lcl_i, lcl_r, lcl_l, lcl_n, lent_i, lent_r, lent_l, lent_0, lent_s, Option.toList_some, Option.toList_none, List.cons_append, List.nil_append, Nat.reduceAdd, true_and, mI_, mLg_, mV_, mInc_, mK_, nI_add, nI_mul, nI_subI, nI_clampI, inb_t, nI_lt0, nI_0le, nI_m1, nI_m1', nI_ofNat, bI_01, b01_0, b01_1, bI_eq0, bI_eq1, bb_01, true_or, or_true, false_or, or_false, eq_self, al_1, al_2, al_3, al_4, al_5, al_6, al_7, al_8, al_9, al_10, al_11, al_12, al_13, al_14, al_15, al_16, al_17, al_18, al_19, al_20, al_21, al_22, al_23, al_24, al_25, al_26, al_27, al_28, al_29, al_30, al_31, al_32, al_33, al_34, al_35, al_36, al_37, al_38, al_39, al_40, al_41, al_42, al_43, al_44, al_45, al_46, Nat.reduceAdd, Nat.reduceMul, Nat.reduceSub, Nat.reduceLT, Nat.reduceLeDiff, Nat.reduceEqDiff, ↓reduceIte, and_true, true_and, and_self, Nat.add_zero, Nat.zero_add, not_false_eq_true, not_true_eq_false, rI_we, rI_wn, faV_n, faV_s, m1_lt0, m1_0le, m1_eq0, m1_le, le_m1, m1_lt, lt_m1, rI_wo', rL_wI, rI_wL, nI_lt_t, nI_lt_f, nI_le_t, nI_le_f, nI_eq_t, nI_eq_f, nI_eq0_t, nI_eq0_f, nI_0lt_t, nI_0lt_f, nI_le0_t, nI_le0_f, nI_eq1_t, nI_eq1_f, g2, g3, m_fails R]
    exact he _ _ rfl (KL.D ((KL.rf).f rfl)) rI_we
  | none =>
    rw [ho] at lw he hk
    rw [if_neg (by decide)] at hk he
    obtain ⟨e14, h14, h14c⟩ := D.2.2.2.2.2 ln hln
    have h13 : rI M 13 (2 * 1 + ln) = nI e14 := (show rI M 13 (2 * 1 + ln) = rI M 14 (2 * 1 + ln) from lw).trans h14
    rw [show 2 * 1 + ln = 2 + ln by omega] at h13 h14
    have main : ∀ M1, KQ M M1 → DS M1 T n q g ts c → rI M1 0 30 = bI (decide (ln = 1)) → EM mb (e + 3) cX19_readsLaw (some .boolean) 39 [some (.ref mb), some (.int (nI ln))] [] M1 P := by
      intro M1 K1 D1 h30
      simp (disch := omega) only [em_aload_n (i := 0) dX19_readsLaw_39 rfl, em_cv0 dX19_readsLaw_40 mcp_236, cat1_i, cat1_r, catB_n, catB_i, catB_r, catB_l, lg_0, lg_s, ldEI_i, ldEL_l, ldEA_r, lin_0, lin_s, ls1_0, ls1_1, ls1_s, ls2_0, ls2_1, ls2_s, lcl_i, lcl_r, lcl_l, lcl_n, lent_i, lent_r, lent_l, lent_0, lent_s, Option.toList_some, Option.toList_none, List.cons_append, List.nil_append, Nat.reduceAdd, true_and, mI_, mLg_, mV_, mInc_, mK_, nI_add, nI_mul, nI_subI, nI_clampI, inb_t, nI_lt0, nI_0le, nI_m1, nI_m1', nI_ofNat, bI_01, b01_0, b01_1, bI_eq0, bI_eq1, bb_01, true_or, or_true, false_or, or_false, eq_self, al_1, al_2, al_3, al_4, al_5, al_6, al_7, al_8, al_9, al_10, al_11, al_12, al_13, al_14, al_15, al_16, al_17, al_18, al_19, al_20, al_21, al_22, al_23, al_24, al_25, al_26, al_27, al_28, al_29, al_30, al_31, al_32, al_33, al_34, al_35, al_36, al_37, al_38, al_39, al_40, al_41, al_42, al_43, al_44, al_45, al_46, Nat.reduceAdd, Nat.reduceMul, Nat.reduceSub, Nat.reduceLT, Nat.reduceLeDiff, Nat.reduceEqDiff, ↓reduceIte, and_true, true_and, and_self, Nat.add_zero, Nat.zero_add, not_false_eq_true, not_true_eq_false, rI_we, rI_wn, faV_n, faV_s, m1_lt0, m1_0le, m1_eq0, m1_le, le_m1, m1_lt, lt_m1, rI_wo', rL_wI, rI_wL, nI_lt_t, nI_lt_f, nI_le_t, nI_le_f, nI_eq_t, nI_eq_f, nI_eq0_t, nI_eq0_f, nI_0lt_t, nI_0lt_f, nI_le0_t, nI_le0_f, nI_eq1_t, nI_eq1_f]
      refine m_next D1.2.1 hO hne (fun M2 K2 R2 => ?_)
      have D2 := D1.k (K2.sub rfl rfl) R2 tl_le
      have K02 := K1.tr (KL.D (K2.sub rfl rfl))
      have h30' : rI M2 0 30 = bI (decide (ln = 1)) := (K2.2.1 30 rfl).trans h30
      have h28 := D2.2.2.1
      simp (disch := omega) only [em_aload_n (i := 0) dX19_readsLaw_43 rfl, em_getA (n := 13) dX19_readsLaw_44 fcp_47 rfl rfl, em_iconst (v := nI 2) dX19_readsLaw_47 rfl, em_iload_n (i := 1) dX19_readsLaw_48 rfl, em_iadd dX19_readsLaw_49, em_aload_n (i := 0) dX19_readsLaw_50 rfl, em_getI dX19_readsLaw_51 fcp_193 (Or.inl rfl), em_iast_ (n := 13) dX19_readsLaw_54 rfl, em_aload_n (i := 0) dX19_readsLaw_55 rfl, em_cv0 dX19_readsLaw_56 mcp_347, cat1_i, cat1_r, catB_n, catB_i, catB_r, catB_l, lg_0, lg_s, ldEI_i, ldEL_l, ldEA_r, lin_0, lin_s, ls1_0, ls1_1, ls1_s, ls2_0, ls2_1, ls2_s, lcl_i, lcl_r, lcl_l, lcl_n, lent_i, lent_r, lent_l, lent_0, lent_s, Option.toList_some, Option.toList_none, List.cons_append, List.nil_append, Nat.reduceAdd, true_and, mI_, mLg_, mV_, mInc_, mK_, nI_add, nI_mul, nI_subI, nI_clampI, inb_t, nI_lt0, nI_0le, nI_m1, nI_m1', nI_ofNat, bI_01, b01_0, b01_1, bI_eq0, bI_eq1, bb_01, true_or, or_true, false_or, or_false, eq_self, al_1, al_2, al_3, al_4, al_5, al_6, al_7, al_8, al_9, al_10, al_11, al_12, al_13, al_14, al_15, al_16, al_17, al_18, al_19, al_20, al_21, al_22, al_23, al_24, al_25, al_26, al_27, al_28, al_29, al_30, al_31, al_32, al_33, al_34, al_35, al_36, al_37, al_38, al_39, al_40, al_41, al_42, al_43, al_44, al_45, al_46, Nat.reduceAdd, Nat.reduceMul, Nat.reduceSub, Nat.reduceLT, Nat.reduceLeDiff, Nat.reduceEqDiff, ↓reduceIte, and_true, true_and, and_self, Nat.add_zero, Nat.zero_add, not_false_eq_true, not_true_eq_false, rI_we, rI_wn, faV_n, faV_s, m1_lt0, m1_0le, m1_eq0, m1_le, le_m1, m1_lt, lt_m1, rI_wo', rL_wI, rI_wL, nI_lt_t, nI_lt_f, nI_le_t, nI_le_f, nI_eq_t, nI_eq_f, nI_eq0_t, nI_eq0_f, nI_0lt_t, nI_0lt_f, nI_le0_t, nI_le0_f, nI_eq1_t, nI_eq1_f, h28]
      have E3 : ES (wI M2 13 (2 + ln) (nI c)) T n (decide (ln = 1)) ts.tail c := ⟨R2.o (by omega), by rw [wI_off (by decide)]; exact h28, by rw [wI_off (by decide)]; exact h30', D2.2.2.2.2.1.2⟩
      have K03 := K02.tr (KQ.w13 (M := M2) (k := 13) (i := 2 + ln) (v := nI c) (Or.inl rfl) (by omega) (by omega))
      have w13 : rI (wI M2 13 (2 + ln) (nI c)) 13 (2 + ln) = nI c := rI_we
      have o13 : ∀ j, j ≠ 2 + ln → rI (wI M2 13 (2 + ln) (nI c)) 13 j = rI M2 13 j := fun j h => rI_wn h
      have ok3 : ∀ k, k ≠ 13 → rI (wI M2 13 (2 + ln) (nI c)) k = rI M2 k := fun k h => wI_off h
      have ol3 : ∀ k, rL (wI M2 13 (2 + ln) (nI c)) k = rL M2 k := fun k => rLw
      generalize wI M2 13 (2 + ln) (nI c) = M3 at E3 K03 w13 o13 ok3 ol3 ⊢
      refine m_reads hO E3 (fun k M4 hr K4 h9 => ?_) (fun x t M4 hr K4 R4 c4 C4 l4 l4' => ?_)
      · simp (disch := omega) only [em_if_ne (t := 64) dX19_readsLaw_59 rfl, em_iconst (v := nI 0) dX19_readsLaw_62 rfl, em_iret dX19_readsLaw_63, em_zret dX19_readsLaw_63, cat1_i, cat1_r, catB_n, catB_i, catB_r, catB_l, lg_0, lg_s, ldEI_i, ldEL_l, ldEA_r, lin_0, lin_s, ls1_0, ls1_1, ls1_s, ls2_0, ls2_1, ls2_s, lcl_i, lcl_r, lcl_l, lcl_n, lent_i, lent_r, lent_l, lent_0, lent_s, Option.toList_some, Option.toList_none, List.cons_append, List.nil_append, Nat.reduceAdd, true_and, mI_, mLg_, mV_, mInc_, mK_, nI_add, nI_mul, nI_subI, nI_clampI, inb_t, nI_lt0, nI_0le, nI_m1, nI_m1', nI_ofNat, bI_01, b01_0, b01_1, bI_eq0, bI_eq1, bb_01, true_or, or_true, false_or, or_false, eq_self, al_1, al_2, al_3, al_4, al_5, al_6, al_7, al_8, al_9, al_10, al_11, al_12, al_13, al_14, al_15, al_16, al_17, al_18, al_19, al_20, al_21, al_22, al_23, al_24, al_25, al_26, al_27, al_28, al_29, al_30, al_31, al_32, al_33, al_34, al_35, al_36, al_37, al_38, al_39, al_40, al_41, al_42, al_43, al_44, al_45, al_46, Nat.reduceAdd, Nat.reduceMul, Nat.reduceSub, Nat.reduceLT, Nat.reduceLeDiff, Nat.reduceEqDiff, ↓reduceIte, and_true, true_and, and_self, Nat.add_zero, Nat.zero_add, not_false_eq_true, not_true_eq_false, rI_we, rI_wn, faV_n, faV_s, m1_lt0, m1_0le, m1_eq0, m1_le, le_m1, m1_lt, lt_m1, rI_wo', rL_wI, rI_wL, nI_lt_t, nI_lt_f, nI_le_t, nI_le_f, nI_eq_t, nI_eq_f, nI_eq0_t, nI_eq0_f, nI_0lt_t, nI_0lt_f, nI_le0_t, nI_le0_f, nI_eq1_t, nI_eq1_f]
        refine he k M4 ?_ (K03.tr (K4.D hcc.1)) h9
        unfold pExS at hr
        cases hx : pExp (decide (ln = 1)) ts.tail with
        | error k' => rw [hx] at hr; cases hr; rfl
        | ok y =>
          obtain ⟨y, t'⟩ := y
          rw [hx] at hr
          dsimp only at hr ⊢
          unfold pEnd
          cases hs : pSg 59 t' with
          | error k' => rw [hs] at hr; cases hr; rfl
          | ok t2 => rw [hs] at hr; cases hr
      · simp (disch := omega) only [em_if_ne (t := 64) dX19_readsLaw_59 rfl, em_aload_n (i := 0) dX19_readsLaw_64 rfl, em_getA (n := 14) dX19_readsLaw_65 fcp_50 rfl rfl, em_iconst (v := nI 2) dX19_readsLaw_68 rfl, em_iload_n (i := 1) dX19_readsLaw_69 rfl, em_iadd dX19_readsLaw_70, em_aload_n (i := 0) dX19_readsLaw_71 rfl, em_getI dX19_readsLaw_72 fcp_193 (Or.inl rfl), em_iast_ (n := 14) dX19_readsLaw_75 rfl, em_iconst (v := nI 1) dX19_readsLaw_76 rfl, em_iret dX19_readsLaw_77, em_zret dX19_readsLaw_77, cat1_i, cat1_r, catB_n, catB_i, catB_r, catB_l, lg_0, lg_s, ldEI_i, ldEL_l, ldEA_r, lin_0, lin_s, ls1_0, ls1_1, ls1_s, ls2_0, ls2_1, ls2_s, lcl_i, lcl_r, lcl_l, lcl_n, lent_i, lent_r, lent_l, lent_0, lent_s, Option.toList_some, Option.toList_none, List.cons_append, List.nil_append, Nat.reduceAdd, true_and, mI_, mLg_, mV_, mInc_, mK_, nI_add, nI_mul, nI_subI, nI_clampI, inb_t, nI_lt0, nI_0le, nI_m1, nI_m1', nI_ofNat, bI_01, b01_0, b01_1, bI_eq0, bI_eq1, bb_01, true_or, or_true, false_or, or_false, eq_self, al_1, al_2, al_3, al_4, al_5, al_6, al_7, al_8, al_9, al_10, al_11, al_12, al_13, al_14, al_15, al_16, al_17, al_18, al_19, al_20, al_21, al_22, al_23, al_24, al_25, al_26, al_27, al_28, al_29, al_30, al_31, al_32, al_33, al_34, al_35, al_36, al_37, al_38, al_39, al_40, al_41, al_42, al_43, al_44, al_45, al_46, Nat.reduceAdd, Nat.reduceMul, Nat.reduceSub, Nat.reduceLT, Nat.reduceLeDiff, Nat.reduceEqDiff, ↓reduceIte, and_true, true_and, and_self, Nat.add_zero, Nat.zero_add, not_false_eq_true, not_true_eq_false, rI_we, rI_wn, faV_n, faV_s, m1_lt0, m1_0le, m1_eq0, m1_le, le_m1, m1_lt, lt_m1, rI_wo', rL_wI, rI_wL, nI_lt_t, nI_lt_f, nI_le_t, nI_le_f, nI_eq_t, nI_eq_f, nI_eq0_t, nI_eq0_f, nI_0lt_t, nI_0lt_f, nI_le0_t, nI_le0_f, nI_eq1_t, nI_eq1_f, c4]
        unfold pExS at hr
        cases hx : pExp (decide (ln = 1)) ts.tail with
        | error k' => rw [hx] at hr; cases hr
        | ok y =>
          obtain ⟨y, t'⟩ := y
          rw [hx] at hr hk
          dsimp only at hr hk
          cases hs : pSg 59 t' with
          | error k' => rw [hs] at hr; cases hr
          | ok t2 =>
            rw [hs] at hr
            cases hr
            obtain ⟨sb, cl, cd⟩ := t_exp (hB.s Sub.rf.tl) hx
            have hfr : ∀ k, k ≠ 0 → k ≠ 13 → k ≠ 14 → k ≠ 15 → k ≠ 20 → k ≠ 21 → rI (wI M4 14 (2 + ln) (nI (c + x.2.length))) k = rI M2 k := fun k z a b d f h => by
              rw [wI_off b, K4.1.1 k z (by simp only [List.contains_cons, List.contains_nil, Bool.or_false, Bool.or_eq_false_iff, beq_eq_false_iff_ne]; exact ⟨d, f, h⟩), ok3 k a]
            have e13 : ∀ j, rI (wI M4 14 (2 + ln) (nI (c + x.2.length))) 13 j = rI M3 13 j := fun j => by rw [wI_off (by decide), K4.1.1 13 (by decide) rfl]
            refine hk _ t (c + x.2.length) _ (by unfold pEnd; rw [hs]) ((K03.tr (K4.D hcc.1)).tr (KQ.w13 (Or.inr rfl) (by omega) (by omega))) ⟨?_, R4.o (by omega), ?_, ?_, ⟨by omega, by omega⟩, ?_⟩ (by omega)
            · refine D2.1.law hln D2.2.2.2.2.2 (by omega) (fun k a b => hfr k (by omega) (by omega) (by omega) (by omega) (by omega) (by omega)) (fun k hk0 => by rw [rLw, K4.1.2.2 k hk0, ol3]) (fun j hj => by rw [e13, o13 j (by omega)]) (fun j hj => by rw [rI_wn (by omega), K4.1.1 14 (by decide) rfl, ok3 14 (by decide)]) (fun j hj => by rw [wI_off (by decide), K4.2.1 j (Or.inl hj), ok3 15 (by decide)]) ?_
              refine ⟨c - 1000, x.2, cl, by omega, ?_, ?_, fun i hi => ?_, cd⟩
              · rw [e13, show 2 * 1 + ln = 2 + ln by omega, w13, show 1000 * 1 + (c - 1000) = c by omega]
              · rw [show 2 * 1 + ln = 2 + ln by omega, rI_we, show 1000 * 1 + (c - 1000 + x.2.length) = c + x.2.length by omega]
              · rw [wI_off (by decide), show 1000 * 1 + (c - 1000 + i) = c + i by omega]
                exact C4 i hi
            · rw [wI_off (by decide)]; exact c4
            · rw [wI_off (by decide), K4.1.2.1 29 rfl, ok3 0 (by decide)]; exact D2.2.2.2.1
            · intro ln' hl'
              by_cases hh : ln' = ln
              · subst hh
                exact ⟨c + x.2.length, by rw [show 2 * 1 + ln' = 2 + ln' by omega]; exact rI_we, Nat.le_refl _⟩
              · obtain ⟨e', g1, g2⟩ := D2.2.2.2.2.2 ln' hl'
                exact ⟨e', by rw [rI_wn (by omega), K4.1.1 14 (by decide) rfl, ok3 14 (by decide)]; exact g1, by omega⟩
    have hcs : ln = 0 ∨ ln = 1 := by omega
    have D1 : ∀ v : Int32, DS (wI M 0 30 v) T n q g ts c := by
      intro v
      obtain ⟨a, b, d, f, l, lb⟩ := D
      exact ⟨a.c (PlS.rf (fun k x y => wI_off (by omega)) (fun k _ => rLw)), b.f (by omega), by rw [rI_wn (by omega)]; exact d, by rw [rI_wn (by omega)]; exact f, l, lb.o (by decide)⟩
    rcases hcs with rfl | rfl
    · simp (disch := omega) only [em_aload_n (i := 0) dX19_readsLaw_0 rfl, em_getA (n := 14) dX19_readsLaw_1 fcp_50 rfl rfl, em_iconst (v := nI 2) dX19_readsLaw_4 rfl, em_iload_n (i := 1) dX19_readsLaw_5 rfl, em_iadd dX19_readsLaw_6, em_iald_ (n := 14) dX19_readsLaw_7 rfl, em_aload_n (i := 0) dX19_readsLaw_8 rfl, em_getA (n := 13) dX19_readsLaw_9 fcp_47 rfl rfl, em_iconst (v := nI 2) dX19_readsLaw_12 rfl, em_iload_n (i := 1) dX19_readsLaw_13 rfl, em_iadd dX19_readsLaw_14, em_iald_ (n := 13) dX19_readsLaw_15 rfl, em_icmp_le (t := 25) dX19_readsLaw_16 rfl, em_aload_n (i := 0) dX19_readsLaw_19 rfl, em_iconst (v := nI 3) dX19_readsLaw_20 rfl, em_cv1 dX19_readsLaw_21 mcp_230, em_iret dX19_readsLaw_24, em_zret dX19_readsLaw_24, em_aload_n (i := 0) dX19_readsLaw_25 rfl, em_iload_n (i := 1) dX19_readsLaw_26 rfl, em_iconst (v := nI 1) dX19_readsLaw_27 rfl, em_icmp_ne (t := 35) dX19_readsLaw_28 rfl, em_iconst (v := nI 1) dX19_readsLaw_31 rfl, em_goto (t := 36) dX19_readsLaw_32 rfl, em_iconst (v := nI 0) dX19_readsLaw_35 rfl, em_putZ dX19_readsLaw_36 fcp_200 rfl, em_cv0 dX19_readsLaw_40 mcp_236, em_aload_n (i := 0) dX19_readsLaw_43 rfl, em_getA (n := 13) dX19_readsLaw_44 fcp_47 rfl rfl, em_iconst (v := nI 2) dX19_readsLaw_47 rfl, em_iload_n (i := 1) dX19_readsLaw_48 rfl, em_iadd dX19_readsLaw_49, em_aload_n (i := 0) dX19_readsLaw_50 rfl, em_getI dX19_readsLaw_51 fcp_193 (Or.inl rfl), em_iast_ (n := 13) dX19_readsLaw_54 rfl, em_aload_n (i := 0) dX19_readsLaw_55 rfl, em_cv0 dX19_readsLaw_56 mcp_347, em_if_ne (t := 64) dX19_readsLaw_59 rfl, em_iconst (v := nI 0) dX19_readsLaw_62 rfl, em_iret dX19_readsLaw_63, em_zret dX19_readsLaw_63, em_aload_n (i := 0) dX19_readsLaw_64 rfl, em_getA (n := 14) dX19_readsLaw_65 fcp_50 rfl rfl, em_iconst (v := nI 2) dX19_readsLaw_68 rfl, em_iload_n (i := 1) dX19_readsLaw_69 rfl, em_iadd dX19_readsLaw_70, em_aload_n (i := 0) dX19_readsLaw_71 rfl, em_getI dX19_readsLaw_72 fcp_193 (Or.inl rfl), em_iast_ (n := 14) dX19_readsLaw_75 rfl, em_iconst (v := nI 1) dX19_readsLaw_76 rfl, em_iret dX19_readsLaw_77, em_zret dX19_readsLaw_77, cat1_i, cat1_r, catB_n, catB_i, catB_r, catB_l, lg_0, lg_s, ldEI_i, ldEL_l, ldEA_r, lin_0, lin_s, ls1_0, ls1_1, ls1_s, ls2_0, ls2_1, ls2_s, lcl_i, lcl_r, lcl_l, lcl_n, lent_i, lent_r, lent_l, lent_0, lent_s, Option.toList_some, Option.toList_none, List.cons_append, List.nil_append, Nat.reduceAdd, true_and, mI_, mLg_, mV_, mInc_, mK_, nI_add, nI_mul, nI_subI, nI_clampI, inb_t, nI_lt0, nI_0le, nI_m1, nI_m1', nI_ofNat, bI_01, b01_0, b01_1, bI_eq0, bI_eq1, bb_01, true_or, or_true, false_or, or_false, eq_self, al_1, al_2, al_3, al_4, al_5, al_6, al_7, al_8, al_9, al_10, al_11, al_12, al_13, al_14, al_15, al_16, al_17, al_18, al_19, al_20, al_21, al_22, al_23, al_24, al_25, al_26, al_27, al_28, al_29, al_30, al_31, al_32, al_33, al_34, al_35, al_36, al_37, al_38, al_39, al_40, al_41, al_42, al_43, al_44, al_45, al_46, Nat.reduceAdd, Nat.reduceMul, Nat.reduceSub, Nat.reduceLT, Nat.reduceLeDiff, Nat.reduceEqDiff, ↓reduceIte, and_true, true_and, and_self, Nat.add_zero, Nat.zero_add, not_false_eq_true, not_true_eq_false, rI_we, rI_wn, faV_n, faV_s, m1_lt0, m1_0le, m1_eq0, m1_le, le_m1, m1_lt, lt_m1, rI_wo', rL_wI, rI_wL, nI_lt_t, nI_lt_f, nI_le_t, nI_le_f, nI_eq_t, nI_eq_f, nI_eq0_t, nI_eq0_f, nI_0lt_t, nI_0lt_f, nI_le0_t, nI_le0_f, nI_eq1_t, nI_eq1_f, h13, h14]
      exact main _ (KL.D ((KL.rf).f rfl)) (D1 _) rI_we
    · simp (disch := omega) only [em_aload_n (i := 0) dX19_readsLaw_0 rfl, em_getA (n := 14) dX19_readsLaw_1 fcp_50 rfl rfl, em_iconst (v := nI 2) dX19_readsLaw_4 rfl, em_iload_n (i := 1) dX19_readsLaw_5 rfl, em_iadd dX19_readsLaw_6, em_iald_ (n := 14) dX19_readsLaw_7 rfl, em_aload_n (i := 0) dX19_readsLaw_8 rfl, em_getA (n := 13) dX19_readsLaw_9 fcp_47 rfl rfl, em_iconst (v := nI 2) dX19_readsLaw_12 rfl, em_iload_n (i := 1) dX19_readsLaw_13 rfl, em_iadd dX19_readsLaw_14, em_iald_ (n := 13) dX19_readsLaw_15 rfl, em_icmp_le (t := 25) dX19_readsLaw_16 rfl, em_aload_n (i := 0) dX19_readsLaw_19 rfl, em_iconst (v := nI 3) dX19_readsLaw_20 rfl, em_cv1 dX19_readsLaw_21 mcp_230, em_iret dX19_readsLaw_24, em_zret dX19_readsLaw_24, em_aload_n (i := 0) dX19_readsLaw_25 rfl, em_iload_n (i := 1) dX19_readsLaw_26 rfl, em_iconst (v := nI 1) dX19_readsLaw_27 rfl, em_icmp_ne (t := 35) dX19_readsLaw_28 rfl, em_iconst (v := nI 1) dX19_readsLaw_31 rfl, em_goto (t := 36) dX19_readsLaw_32 rfl, em_iconst (v := nI 0) dX19_readsLaw_35 rfl, em_putZ dX19_readsLaw_36 fcp_200 rfl, em_cv0 dX19_readsLaw_40 mcp_236, em_aload_n (i := 0) dX19_readsLaw_43 rfl, em_getA (n := 13) dX19_readsLaw_44 fcp_47 rfl rfl, em_iconst (v := nI 2) dX19_readsLaw_47 rfl, em_iload_n (i := 1) dX19_readsLaw_48 rfl, em_iadd dX19_readsLaw_49, em_aload_n (i := 0) dX19_readsLaw_50 rfl, em_getI dX19_readsLaw_51 fcp_193 (Or.inl rfl), em_iast_ (n := 13) dX19_readsLaw_54 rfl, em_aload_n (i := 0) dX19_readsLaw_55 rfl, em_cv0 dX19_readsLaw_56 mcp_347, em_if_ne (t := 64) dX19_readsLaw_59 rfl, em_iconst (v := nI 0) dX19_readsLaw_62 rfl, em_iret dX19_readsLaw_63, em_zret dX19_readsLaw_63, em_aload_n (i := 0) dX19_readsLaw_64 rfl, em_getA (n := 14) dX19_readsLaw_65 fcp_50 rfl rfl, em_iconst (v := nI 2) dX19_readsLaw_68 rfl, em_iload_n (i := 1) dX19_readsLaw_69 rfl, em_iadd dX19_readsLaw_70, em_aload_n (i := 0) dX19_readsLaw_71 rfl, em_getI dX19_readsLaw_72 fcp_193 (Or.inl rfl), em_iast_ (n := 14) dX19_readsLaw_75 rfl, em_iconst (v := nI 1) dX19_readsLaw_76 rfl, em_iret dX19_readsLaw_77, em_zret dX19_readsLaw_77, cat1_i, cat1_r, catB_n, catB_i, catB_r, catB_l, lg_0, lg_s, ldEI_i, ldEL_l, ldEA_r, lin_0, lin_s, ls1_0, ls1_1, ls1_s, ls2_0, ls2_1, ls2_s, lcl_i, lcl_r, lcl_l, lcl_n, lent_i, lent_r, lent_l, lent_0, lent_s, Option.toList_some, Option.toList_none, List.cons_append, List.nil_append, Nat.reduceAdd, true_and, mI_, mLg_, mV_, mInc_, mK_, nI_add, nI_mul, nI_subI, nI_clampI, inb_t, nI_lt0, nI_0le, nI_m1, nI_m1', nI_ofNat, bI_01, b01_0, b01_1, bI_eq0, bI_eq1, bb_01, true_or, or_true, false_or, or_false, eq_self, al_1, al_2, al_3, al_4, al_5, al_6, al_7, al_8, al_9, al_10, al_11, al_12, al_13, al_14, al_15, al_16, al_17, al_18, al_19, al_20, al_21, al_22, al_23, al_24, al_25, al_26, al_27, al_28, al_29, al_30, al_31, al_32, al_33, al_34, al_35, al_36, al_37, al_38, al_39, al_40, al_41, al_42, al_43, al_44, al_45, al_46, Nat.reduceAdd, Nat.reduceMul, Nat.reduceSub, Nat.reduceLT, Nat.reduceLeDiff, Nat.reduceEqDiff, ↓reduceIte, and_true, true_and, and_self, Nat.add_zero, Nat.zero_add, not_false_eq_true, not_true_eq_false, rI_we, rI_wn, faV_n, faV_s, m1_lt0, m1_0le, m1_eq0, m1_le, le_m1, m1_lt, lt_m1, rI_wo', rL_wI, rI_wL, nI_lt_t, nI_lt_f, nI_le_t, nI_le_f, nI_eq_t, nI_eq_f, nI_eq0_t, nI_eq0_f, nI_0lt_t, nI_0lt_f, nI_le0_t, nI_le0_f, nI_eq1_t, nI_eq1_f, h13, h14]
      exact main _ (KL.D ((KL.rf).f rfl)) (D1 _) rI_we
end
