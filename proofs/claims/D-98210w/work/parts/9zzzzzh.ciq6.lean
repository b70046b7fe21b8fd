set_option maxRecDepth 100000
/-! THE WHOLE COMPONENT: quarter, joined -/
section
variable {zs : Nat → Nat} {e : Nat} {σ : CM} {P : CR → Prop} {x0 B : Nat} {G : Gh} {a : Ab}
theorem ci_quarter (hZ : ZS zs) (hI : CI zs σ x0 G a) (hA : AOK B a) (hq : ∀ q', pQr (tls a.T.2 a.T.1 0) = .ok q' → QOK q' ∧ TQ q') (hk : ∀ q', pQr (tls a.T.2 a.T.1 0) = .ok q' → ∀ σ', CO zs x0 σ G a ((q', fhS q', []), (0, a.u), a.mk, (0, a.T.2)) σ' → P (.inl (some (.int (nI 0))), σ')) (he : ∀ k, pQr (tls a.T.2 a.T.1 0) = .error k → ∀ σ', CO zs x0 σ G a ((a.q, a.s, a.Li), (a.n, a.u), a.mk, (0, a.T.2)) σ' → P (.inl (some (.int (nI k))), σ')) : EC zs (Jc zs) (e + 42) cX1_quarter (some .int) 0 1 0 [some (.ref x0), none] [] σ P := by
  have hw := hI.hw
  have rt := hI.rt
  simp (disch := omega) only [ec_aload_n (i := 0) dX1_quarter_0 rfl, ec_new dX1_quarter_1 ncp_0_60 cSz_2 cDf_2, ec_dup dX1_quarter_4, ec_ci0 dX1_quarter_5 iN_0_62 ccp_0_62_99, cat1_i, cat1_r, cat1_u, catB_n, catB_i, catB_r, catB_l, catB_u, lg_0, lg_s, ldEI_i, ldEL_l, ldEA_r, ldEA_n, lin_0, lin_s, ls1_0, ls1_1, ls1_s, ls2_0, ls2_1, ls2_s, lcl_i, lcl_r, lcl_l, lcl_u, lcl_n, lent_i, lent_r, lent_l, lent_u, lent_0, lent_s, Option.toList_some, Option.toList_none, List.cons_append, List.nil_append, Nat.reduceAdd, true_and, vin_0, vin_s, aE_0, aE_s, EK_r, EK_t, List.set_cons_zero, List.set_cons_succ, va_rf_s, va_rf_n, pC_1, pC_21, aC_1, aC_21, gC_self, gC_new, eI_, eLg_, eV_, eInc_, eN_, eS_, eJ_, eCl_, nI_add, nI_mul, nI_subI, nI_clampI, inb_t, nI_lt0, nI_0le, nI_m1, nI_m1', nI_ofNat, bI_01, b01_0, b01_1, bI_eq0, bI_eq1, bb_01, true_or, or_true, false_or, or_false, eq_self, Nat.reduceAdd, Nat.reduceMul, Nat.reduceSub, Nat.reduceLT, Nat.reduceLeDiff, Nat.reduceEqDiff, ↓reduceIte, and_true, true_and, and_self, Nat.add_zero, Nat.zero_add, not_false_eq_true, not_true_eq_false, faV_n, faV_s, m1_lt0, m1_0le, m1_eq0, m1_le, le_m1, m1_lt, lt_m1, nI_100k, nI_100, upd_e, upd_n, pC_pC, gC_ne', gC_old', nI_lt_t, nI_lt_f, nI_le_t, nI_le_f, nI_eq_t, nI_eq_f, nI_eq0_t, nI_eq0_f, nI_0lt_t, nI_0lt_f, nI_le0_t, nI_le0_f, nI_eq1_t, nI_eq1_f]
  refine c_ninit (e := e + 41) hw (fun σ1 hN => ?_)
  have F1 := hN.1
  have rt1 : gC σ1 x0 = some (.inl (0, rtF G.n0 G.hl G.op G.al G.gg G.A)) := F1.g (hw _ _ rt) (fun z => z) rt
  unfold rtF at rt1
  obtain ⟨l1, l2, l3, l4, l5⟩ := hI.rq F1
  have h0 := l3.1
  simp (disch := omega) only [ec_ci0 dX1_quarter_5 iN_0_62 ccp_0_62_99, ec_aload_n (i := 0) dX1_quarter_8 rfl, ec_get dX1_quarter_9, gw_0_56_0, ec_cv0 dX1_quarter_12 iN_0_131 cna_0_131, vcE_o ccp_0_131_1, ET_0 (thrP_c (o := 0) dX1_quarter_12 rfl), cat1_i, cat1_r, cat1_u, catB_n, catB_i, catB_r, catB_l, catB_u, lg_0, lg_s, ldEI_i, ldEL_l, ldEA_r, ldEA_n, lin_0, lin_s, ls1_0, ls1_1, ls1_s, ls2_0, ls2_1, ls2_s, lcl_i, lcl_r, lcl_l, lcl_u, lcl_n, lent_i, lent_r, lent_l, lent_u, lent_0, lent_s, Option.toList_some, Option.toList_none, List.cons_append, List.nil_append, Nat.reduceAdd, true_and, vin_0, vin_s, aE_0, aE_s, EK_r, EK_t, List.set_cons_zero, List.set_cons_succ, va_rf_s, va_rf_n, pC_1, pC_21, aC_1, aC_21, gC_self, gC_new, eI_, eLg_, eV_, eInc_, eN_, eS_, eJ_, eCl_, nI_add, nI_mul, nI_subI, nI_clampI, inb_t, nI_lt0, nI_0le, nI_m1, nI_m1', nI_ofNat, bI_01, b01_0, b01_1, bI_eq0, bI_eq1, bb_01, true_or, or_true, false_or, or_false, eq_self, Nat.reduceAdd, Nat.reduceMul, Nat.reduceSub, Nat.reduceLT, Nat.reduceLeDiff, Nat.reduceEqDiff, ↓reduceIte, and_true, true_and, and_self, Nat.add_zero, Nat.zero_add, not_false_eq_true, not_true_eq_false, faV_n, faV_s, m1_lt0, m1_0le, m1_eq0, m1_le, le_m1, m1_lt, lt_m1, nI_100k, nI_100, upd_e, upd_n, pC_pC, gC_ne', gC_old', nI_lt_t, nI_lt_f, nI_le_t, nI_le_f, nI_eq_t, nI_eq_f, nI_eq0_t, nI_eq0_f, nI_0lt_t, nI_0lt_f, nI_le0_t, nI_le0_f, nI_eq1_t, nI_eq1_f, rt1, h0]
  refine c_rquarter (e := e) hZ F1.2.2.2 hA.2.2.2.1 l1 l2 l3 l4 l5 hI.2.2.2.2.1.2.2.2.1 (fun r hr => ?_)
  cases hx : pQr (tls a.T.2 a.T.1 0) with
  | error k =>
    rw [hx] at hr
    exact ci_quarterE (σ' := σ) hI hN hr (he k hx)
  | ok q' =>
    rw [hx] at hr
    obtain ⟨a', σ2, w, g, fa, dp, rfl, E2, F2, D2, -⟩ := hr
    exact ci_quarterO hI hA (hq q' hx) hN E2 F2 D2 (hk q' hx)
end
