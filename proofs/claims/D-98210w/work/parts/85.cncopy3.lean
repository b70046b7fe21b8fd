set_option maxRecDepth 100000
/-! A NIGHT IS COPIED -/
/-- where the copies of the locks stand -/
def LA (q : QT) (n : Nat) : Nat → Nat
  | 0 => n + 11
  | d + 1 => LA q n d + (if qDk q d = 5 then 2 else 3)
def lkI (q : QT) (n b : Nat) : Nat := if b < LA q n 1 then 0 else if b < LA q n 2 then 1 else if b < LA q n 3 then 2 else if b < LA q n 4 then 3 else 4
theorem LA_le (q : QT) (n : Nat) : ∀ d, n + 11 + 2 * d ≤ LA q n d ∧ LA q n d ≤ n + 11 + 3 * d
  | 0 => ⟨Nat.le_refl _, Nat.le_refl _⟩
  | d + 1 => by
    have := LA_le q n d
    unfold LA
    split <;> omega
theorem LA_T {q : QT} {n d b : Nat} (h : LkT (qDk q d) (LA q n d) b) : LA q n d ≤ b ∧ b < LA q n (d + 1) := by
  have e : LA q n (d + 1) = LA q n d + (if qDk q d = 5 then 2 else 3) := rfl
  unfold LkT at h
  rw [e]
  split <;> omega
theorem lkI_at {q : QT} {n d b : Nat} (hd : d < 5) (h : LkT (qDk q d) (LA q n d) b) : lkI q n b = d := by
  have hT := LA_T h
  have h0 : LA q n 1 = LA q n 0 + (if qDk q 0 = 5 then 2 else 3) := rfl
  have h1 : LA q n 2 = LA q n 1 + (if qDk q 1 = 5 then 2 else 3) := rfl
  have h2 : LA q n 3 = LA q n 2 + (if qDk q 2 = 5 then 2 else 3) := rfl
  have h3 : LA q n 4 = LA q n 3 + (if qDk q 3 = 5 then 2 else 3) := rfl
  have : d = 0 ∨ d = 1 ∨ d = 2 ∨ d = 3 ∨ d = 4 := by omega
  unfold lkI
  rcases this with rfl | rfl | rfl | rfl | rfl <;> simp only [Nat.reduceAdd, Nat.zero_add] at hT <;> repeat' split
  all_goals first | rfl | omega
section
variable {zs : Nat → Nat} {e : Nat} {σ : CM} {P : CR → Prop} {ow tl tl' : Nat → Nat} {t t' n0 qa fx B : Nat} {q : QT} {s L : Nat → Nat}
/-- who owns what is new -/
def owC (ow : Nat → Nat) (q : QT) (n t' : Nat) (tl' : Nat → Nat) : Nat → Nat := fun b => if b < n then ow b else if b < n + 11 then t' else tl' (lkI q n b)
theorem c_ncopied (hq : QOK q) (hN : NightAt ow t tl σ n0 qa fx q s L) (hO : SO B s) (hw : HW σ) (hT' : TV t' tl' (qD q)) (hP : ∀ σ', Fr (fun _ => False) 26 322 σ σ' → NightAt (owC ow q σ.1 t' tl') t' tl' σ' σ.1 qa fx q s (LA q σ.1) → P (.inl (some (.ref σ.1)), σ')) : EC zs (Jc zs) (e + 5) cX3_copied (some (.object "KnowLocks$Night")) 2 0 0 [some (.ref n0), none, none] [] σ P := by
  have hD := hq.1.2.1
  obtain ⟨⟨h0, lf, kf, hNB, hlf⟩, hQ, hL, hT, ht, hl⟩ := id hN
  have hlt := hNB.lt hw
  have h0' := h0
  unfold nFs at h0'
  simp (disch := omega) only [ec_new dX3_copied_0 ncp_2_12 cSz_2 cDf_2, ec_dup dX3_copied_3, ec_ci0 dX3_copied_4 iN_2_71 ccp_2_71_99, ec_aload_n (i := 1) dX3_copied_8 rfl, ec_aload_n (i := 0) dX3_copied_9 rfl, ec_get dX3_copied_10, gw_2_33_2, ec_put dX3_copied_13, pw_2_0_33_2, pn_2_0_33_2, ec_aload_n (i := 1) dX3_copied_16 rfl, ec_aload_n (i := 0) dX3_copied_17 rfl, ec_get dX3_copied_18, gw_2_37_2, ec_put dX3_copied_21, pw_2_0_37_2, ec_aload_n (i := 1) dX3_copied_24 rfl, ec_aload_n (i := 0) dX3_copied_25 rfl, ec_get dX3_copied_26, gw_2_41_2, ec_put dX3_copied_29, pw_2_0_41_2, ec_iconst (v := nI 0) dX3_copied_32 rfl, ec_istore_n (i := 2) dX3_copied_33 rfl, ec_iload_n (i := 2) dX3_copied_34 rfl, ec_aload_n (i := 0) dX3_copied_35 rfl, ec_get dX3_copied_36, ec_cv0 dX3_copied_39 iN_2_44 cna_2_44, vcE_o ccp_2_44_3, ec_icmp_ge (t := 66) dX3_copied_42 rfl, ec_aload_n (i := 1) dX3_copied_45 rfl, ec_get dX3_copied_46, gw_2_11_2, ec_iload_n (i := 2) dX3_copied_49 rfl, ec_aload_n (i := 0) dX3_copied_50 rfl, ec_get dX3_copied_51, ec_iload_n (i := 2) dX3_copied_54 rfl, ec_aald dX3_copied_55, raE_4, raE_5, raE_6, raE_7, raE_8, ec_cv0 dX3_copied_56 iN_2_72 cna_2_72, vcE_o ccp_2_72_5, ec_aast dX3_copied_59, ec_aastN dX3_copied_59, rsE_r, rok_4, rok_4a, rok_5, rok_6, nsE_4, nsE_5, nsE_6, nsE_7, ec_iinc (v := nI 1) dX3_copied_60 rfl, ec_goto (t := 34) dX3_copied_63 rfl, ec_aload_n (i := 1) dX3_copied_66 rfl, ec_aret dX3_copied_67, ec_aretN dX3_copied_67, ec_aretA dX3_copied_67, cat1_i, cat1_r, cat1_u, catB_n, catB_i, catB_r, catB_l, catB_u, lg_0, lg_s, ldEI_i, ldEL_l, ldEA_r, ldEA_n, lin_0, lin_s, ls1_0, ls1_1, ls1_s, ls2_0, ls2_1, ls2_s, lcl_i, lcl_r, lcl_l, lcl_u, lcl_n, lent_i, lent_r, lent_l, lent_u, lent_0, lent_s, Option.toList_some, Option.toList_none, List.cons_append, List.nil_append, Nat.reduceAdd, true_and, vin_0, vin_s, aE_0, aE_s, EK_r, EK_t, List.set_cons_zero, List.set_cons_succ, va_rf_s, va_rf_n, pC_1, pC_21, aC_1, aC_21, gC_self, gC_new, eI_, eLg_, eV_, eInc_, eN_, eS_, eJ_, eCl_, nI_add, nI_mul, nI_subI, nI_clampI, inb_t, nI_lt0, nI_0le, nI_m1, nI_m1', nI_ofNat, bI_01, b01_0, b01_1, bI_eq0, bI_eq1, bb_01, true_or, or_true, false_or, or_false, eq_self, Nat.reduceAdd, Nat.reduceMul, Nat.reduceSub, Nat.reduceLT, Nat.reduceLeDiff, Nat.reduceEqDiff, ↓reduceIte, and_true, true_and, and_self, Nat.add_zero, Nat.zero_add, not_false_eq_true, not_true_eq_false, faV_n, faV_s, m1_lt0, m1_0le, m1_eq0, m1_le, le_m1, m1_lt, lt_m1, nI_100k, nI_100, upd_e, upd_n, pC_pC, gC_ne', gC_old', nI_lt_t, nI_lt_f, nI_le_t, nI_le_f, nI_eq_t, nI_eq_f, nI_eq0_t, nI_eq0_f, nI_0lt_t, nI_0lt_f, nI_le0_t, nI_le0_f, nI_eq1_t, nI_eq1_f]
  refine c_ninit hw (fun σ1 N1 => ?_)
  obtain ⟨f1, z1, c1, nb1⟩ := N1
  have h01 : gC σ1 n0 = some (.inl (2, nFs n0 qa (s 400) (s 401))) := f1.g (by omega) (fun z => z) h0
  have h01' := h01
  unfold nFs at h01'
  simp (disch := omega) only [ec_new dX3_copied_0 ncp_2_12 cSz_2 cDf_2, ec_dup dX3_copied_3, ec_ci0 dX3_copied_4 iN_2_71 ccp_2_71_99, ec_astore_n (i := 1) dX3_copied_7 rfl, ec_astore_nN (i := 1) dX3_copied_7 rfl, ec_aload_n (i := 1) dX3_copied_8 rfl, ec_aload_n (i := 0) dX3_copied_9 rfl, ec_get dX3_copied_10, gw_2_33_2, ec_put dX3_copied_13, pw_2_0_33_2, pn_2_0_33_2, ec_aload_n (i := 1) dX3_copied_16 rfl, ec_aload_n (i := 0) dX3_copied_17 rfl, ec_get dX3_copied_18, gw_2_37_2, ec_put dX3_copied_21, pw_2_0_37_2, ec_aload_n (i := 1) dX3_copied_24 rfl, ec_aload_n (i := 0) dX3_copied_25 rfl, ec_get dX3_copied_26, gw_2_41_2, ec_put dX3_copied_29, pw_2_0_41_2, ec_iconst (v := nI 0) dX3_copied_32 rfl, ec_istore_n (i := 2) dX3_copied_33 rfl, ec_aload_n (i := 0) dX3_copied_35 rfl, ec_get dX3_copied_36, ec_cv0 dX3_copied_39 iN_2_44 cna_2_44, vcE_o ccp_2_44_3, ec_icmp_ge (t := 66) dX3_copied_42 rfl, ec_aload_n (i := 1) dX3_copied_45 rfl, ec_get dX3_copied_46, gw_2_11_2, ec_iload_n (i := 2) dX3_copied_49 rfl, ec_aload_n (i := 0) dX3_copied_50 rfl, ec_get dX3_copied_51, ec_iload_n (i := 2) dX3_copied_54 rfl, ec_aald dX3_copied_55, raE_4, raE_5, raE_6, raE_7, raE_8, ec_cv0 dX3_copied_56 iN_2_72 cna_2_72, vcE_o ccp_2_72_5, ec_aast dX3_copied_59, ec_aastN dX3_copied_59, rsE_r, rok_4, rok_4a, rok_5, rok_6, nsE_4, nsE_5, nsE_6, nsE_7, ec_iinc (v := nI 1) dX3_copied_60 rfl, ec_goto (t := 34) dX3_copied_63 rfl, ec_aload_n (i := 1) dX3_copied_66 rfl, ec_aret dX3_copied_67, ec_aretN dX3_copied_67, ec_aretA dX3_copied_67, cat1_i, cat1_r, cat1_u, catB_n, catB_i, catB_r, catB_l, catB_u, lg_0, lg_s, ldEI_i, ldEL_l, ldEA_r, ldEA_n, lin_0, lin_s, ls1_0, ls1_1, ls1_s, ls2_0, ls2_1, ls2_s, lcl_i, lcl_r, lcl_l, lcl_u, lcl_n, lent_i, lent_r, lent_l, lent_u, lent_0, lent_s, Option.toList_some, Option.toList_none, List.cons_append, List.nil_append, Nat.reduceAdd, true_and, vin_0, vin_s, aE_0, aE_s, EK_r, EK_t, List.set_cons_zero, List.set_cons_succ, va_rf_s, va_rf_n, pC_1, pC_21, aC_1, aC_21, gC_self, gC_new, eI_, eLg_, eV_, eInc_, eN_, eS_, eJ_, eCl_, nI_add, nI_mul, nI_subI, nI_clampI, inb_t, nI_lt0, nI_0le, nI_m1, nI_m1', nI_ofNat, bI_01, b01_0, b01_1, bI_eq0, bI_eq1, bb_01, true_or, or_true, false_or, or_false, eq_self, Nat.reduceAdd, Nat.reduceMul, Nat.reduceSub, Nat.reduceLT, Nat.reduceLeDiff, Nat.reduceEqDiff, ↓reduceIte, and_true, true_and, and_self, Nat.add_zero, Nat.zero_add, not_false_eq_true, not_true_eq_false, faV_n, faV_s, m1_lt0, m1_0le, m1_eq0, m1_le, le_m1, m1_lt, lt_m1, nI_100k, nI_100, upd_e, upd_n, pC_pC, gC_ne', gC_old', nI_lt_t, nI_lt_f, nI_le_t, nI_le_f, nI_eq_t, nI_eq_f, nI_eq0_t, nI_eq0_f, nI_0lt_t, nI_0lt_f, nI_le0_t, nI_le0_f, nI_eq1_t, nI_eq1_f, h01', c1]
  -- the loop
  have lo : ∀ (n j : Nat), j + n = qD q → ∀ (σ2 : CM) (g : Nat → Option Nat), Fr (fun _ => False) (11 + 3 * j) (77 + 49 * j) σ σ2 → σ2.1 = LA q σ.1 j → gC σ2 σ.1 = some (.inl (2, nFs σ.1 qa (s 400) (s 401))) → NightB σ2 σ.1 g (fun _ => none) → (∀ d, d < j → g d = some (LA q σ.1 d)) → (∀ d, d < j → LockAt σ2 (LA q σ.1 d) (qDk q d) (rowOf s d)) → EC zs (Jc zs) (e + 5) cX3_copied (some (.object "KnowLocks$Night")) 2 0 34 [some (.ref n0), some (.ref σ.1), some (.int (nI j))] [] σ2 P := by
    intro n
    induction n with
    | zero =>
      intro j hj σ2 g F2 z2 c2 nb2 hg hl2
      have : j = qD q := by omega
      subst this
      have N2 := hN.fr hw F2 (fun b _ z => z.elim)
      obtain ⟨hl', nl, ka, na, sl', fo, xl, xe, dx, sx, h1, h2, h3⟩ := N2.2.1.D
      have h02 := N2.1.1
      unfold nFs at h02
      obtain ⟨qfs, hqa⟩ := N2.2.1.ob
      simp (disch := omega) only [ec_new dX3_copied_0 ncp_2_12 cSz_2 cDf_2, ec_dup dX3_copied_3, ec_ci0 dX3_copied_4 iN_2_71 ccp_2_71_99, ec_astore_n (i := 1) dX3_copied_7 rfl, ec_astore_nN (i := 1) dX3_copied_7 rfl, ec_aload_n (i := 1) dX3_copied_8 rfl, ec_aload_n (i := 0) dX3_copied_9 rfl, ec_get dX3_copied_10, gw_2_33_2, ec_put dX3_copied_13, pw_2_0_33_2, pn_2_0_33_2, ec_aload_n (i := 1) dX3_copied_16 rfl, ec_aload_n (i := 0) dX3_copied_17 rfl, ec_get dX3_copied_18, gw_2_37_2, ec_put dX3_copied_21, pw_2_0_37_2, ec_aload_n (i := 1) dX3_copied_24 rfl, ec_aload_n (i := 0) dX3_copied_25 rfl, ec_get dX3_copied_26, gw_2_41_2, ec_put dX3_copied_29, pw_2_0_41_2, ec_iconst (v := nI 0) dX3_copied_32 rfl, ec_istore_n (i := 2) dX3_copied_33 rfl, ec_iload_n (i := 2) dX3_copied_34 rfl, ec_aload_n (i := 0) dX3_copied_35 rfl, ec_get dX3_copied_36, ec_cv0 dX3_copied_39 iN_2_44 cna_2_44, vcE_o ccp_2_44_3, ec_icmp_ge (t := 66) dX3_copied_42 rfl, ec_get dX3_copied_46, gw_2_11_2, ec_iload_n (i := 2) dX3_copied_49 rfl, ec_aload_n (i := 0) dX3_copied_50 rfl, ec_get dX3_copied_51, ec_iload_n (i := 2) dX3_copied_54 rfl, ec_aald dX3_copied_55, raE_4, raE_5, raE_6, raE_7, raE_8, ec_cv0 dX3_copied_56 iN_2_72 cna_2_72, vcE_o ccp_2_72_5, ec_aast dX3_copied_59, ec_aastN dX3_copied_59, rsE_r, rok_4, rok_4a, rok_5, rok_6, nsE_4, nsE_5, nsE_6, nsE_7, ec_iinc (v := nI 1) dX3_copied_60 rfl, ec_goto (t := 34) dX3_copied_63 rfl, ec_aload_n (i := 1) dX3_copied_66 rfl, ec_aret dX3_copied_67, ec_aretN dX3_copied_67, ec_aretA dX3_copied_67, cat1_i, cat1_r, cat1_u, catB_n, catB_i, catB_r, catB_l, catB_u, lg_0, lg_s, ldEI_i, ldEL_l, ldEA_r, ldEA_n, lin_0, lin_s, ls1_0, ls1_1, ls1_s, ls2_0, ls2_1, ls2_s, lcl_i, lcl_r, lcl_l, lcl_u, lcl_n, lent_i, lent_r, lent_l, lent_u, lent_0, lent_s, Option.toList_some, Option.toList_none, List.cons_append, List.nil_append, Nat.reduceAdd, true_and, vin_0, vin_s, aE_0, aE_s, EK_r, EK_t, List.set_cons_zero, List.set_cons_succ, va_rf_s, va_rf_n, pC_1, pC_21, aC_1, aC_21, gC_self, gC_new, eI_, eLg_, eV_, eInc_, eN_, eS_, eJ_, eCl_, nI_add, nI_mul, nI_subI, nI_clampI, inb_t, nI_lt0, nI_0le, nI_m1, nI_m1', nI_ofNat, bI_01, b01_0, b01_1, bI_eq0, bI_eq1, bb_01, true_or, or_true, false_or, or_false, eq_self, Nat.reduceAdd, Nat.reduceMul, Nat.reduceSub, Nat.reduceLT, Nat.reduceLeDiff, Nat.reduceEqDiff, ↓reduceIte, and_true, true_and, and_self, Nat.add_zero, Nat.zero_add, not_false_eq_true, not_true_eq_false, faV_n, faV_s, m1_lt0, m1_0le, m1_eq0, m1_le, le_m1, m1_lt, lt_m1, nI_100k, nI_100, upd_e, upd_n, pC_pC, gC_ne', gC_old', nI_lt_t, nI_lt_f, nI_le_t, nI_le_f, nI_eq_t, nI_eq_f, nI_eq0_t, nI_eq0_f, nI_0lt_t, nI_0lt_f, nI_le0_t, nI_le0_f, nI_eq1_t, nI_eq1_f, h02, hqa, c_doors (zs := zs) (e := e + 3) h1 h2.1]
      refine hP σ2 (F2.sub (fun b _ z => z) (by omega) (by omega)) ⟨⟨c2, g, _, nb2, hg⟩, ?_, fun d hd => ⟨hl2 d hd, (hL d hd).2⟩, hT', fun b h1 h2 => ?_, fun d hd b hb => ?_⟩
      · have := hQ.own (ow' := owC ow q σ.1 t' tl') hw (fun b hb => if_pos hb)
        exact this.fr hw F2 (fun b _ z => z.elim)
      · unfold owC
        rw [if_neg (by omega), if_pos (by omega)]
      · have := LA_T hb
        have := LA_le q σ.1 d
        unfold owC
        rw [if_neg (by omega), if_neg (by omega), lkI_at (by omega) hb]
    | succ n ih =>
      intro j hj σ2 g F2 z2 c2 nb2 hg hl2
      have hd : j < qD q := by omega
      have N2 := hN.fr hw F2 (fun b _ z => z.elim)
      have w2 : HW σ2 := F2.2.2.2
      obtain ⟨hl', nl, ka, na, sl', fo, xl, xe, dx, sx, h1, h2, h3⟩ := N2.2.1.D
      obtain ⟨⟨h02, lf2, kf2, nbo, hlf2⟩, -, hL2, -⟩ := id N2
      unfold nFs at h02
      obtain ⟨qfs, hqa⟩ := N2.2.1.ob
      have c2' := c2
      unfold nFs at c2'
      have b1 := nbo.1
      have lfj := hlf2 j hd
      obtain ⟨hk5, -⟩ := hq.2.2.2.1 j hd
      obtain ⟨L2, -⟩ := hL2 j hd
      obtain ⟨lfs, hlc⟩ : ∃ fs, gC σ2 (L j) = some (.inl (5, fs)) := ⟨_, L2.1⟩
      have hr := hO j (by omega)
      rw [ec_iload_n (i := 2) dX3_copied_34 rfl]
      simp (disch := omega) only [ec_new dX3_copied_0 ncp_2_12 cSz_2 cDf_2, ec_dup dX3_copied_3, ec_ci0 dX3_copied_4 iN_2_71 ccp_2_71_99, ec_astore_n (i := 1) dX3_copied_7 rfl, ec_astore_nN (i := 1) dX3_copied_7 rfl, ec_aload_n (i := 1) dX3_copied_8 rfl, ec_aload_n (i := 0) dX3_copied_9 rfl, ec_get dX3_copied_10, gw_2_33_2, ec_put dX3_copied_13, pw_2_0_33_2, pn_2_0_33_2, ec_aload_n (i := 1) dX3_copied_16 rfl, ec_aload_n (i := 0) dX3_copied_17 rfl, ec_get dX3_copied_18, gw_2_37_2, ec_put dX3_copied_21, pw_2_0_37_2, ec_aload_n (i := 1) dX3_copied_24 rfl, ec_aload_n (i := 0) dX3_copied_25 rfl, ec_get dX3_copied_26, gw_2_41_2, ec_put dX3_copied_29, pw_2_0_41_2, ec_iconst (v := nI 0) dX3_copied_32 rfl, ec_istore_n (i := 2) dX3_copied_33 rfl, ec_aload_n (i := 0) dX3_copied_35 rfl, ec_get dX3_copied_36, ec_cv0 dX3_copied_39 iN_2_44 cna_2_44, vcE_o ccp_2_44_3, ec_icmp_ge (t := 66) dX3_copied_42 rfl, ec_aload_n (i := 1) dX3_copied_45 rfl, ec_get dX3_copied_46, gw_2_11_2, ec_iload_n (i := 2) dX3_copied_49 rfl, ec_aload_n (i := 0) dX3_copied_50 rfl, ec_get dX3_copied_51, ec_iload_n (i := 2) dX3_copied_54 rfl, ec_aald dX3_copied_55, raE_4, raE_5, raE_6, raE_7, raE_8, ec_cv0 dX3_copied_56 iN_2_72 cna_2_72, vcE_o ccp_2_72_5, ec_aast dX3_copied_59, ec_aastN dX3_copied_59, rsE_r, rok_4, rok_4a, rok_5, rok_6, nsE_4, nsE_5, nsE_6, nsE_7, ec_iinc (v := nI 1) dX3_copied_60 rfl, ec_goto (t := 34) dX3_copied_63 rfl, ec_aload_n (i := 1) dX3_copied_66 rfl, ec_aret dX3_copied_67, ec_aretN dX3_copied_67, ec_aretA dX3_copied_67, cat1_i, cat1_r, cat1_u, catB_n, catB_i, catB_r, catB_l, catB_u, lg_0, lg_s, ldEI_i, ldEL_l, ldEA_r, ldEA_n, lin_0, lin_s, ls1_0, ls1_1, ls1_s, ls2_0, ls2_1, ls2_s, lcl_i, lcl_r, lcl_l, lcl_u, lcl_n, lent_i, lent_r, lent_l, lent_u, lent_0, lent_s, Option.toList_some, Option.toList_none, List.cons_append, List.nil_append, Nat.reduceAdd, true_and, vin_0, vin_s, aE_0, aE_s, EK_r, EK_t, List.set_cons_zero, List.set_cons_succ, va_rf_s, va_rf_n, pC_1, pC_21, aC_1, aC_21, gC_self, gC_new, eI_, eLg_, eV_, eInc_, eN_, eS_, eJ_, eCl_, nI_add, nI_mul, nI_subI, nI_clampI, inb_t, nI_lt0, nI_0le, nI_m1, nI_m1', nI_ofNat, bI_01, b01_0, b01_1, bI_eq0, bI_eq1, bb_01, true_or, or_true, false_or, or_false, eq_self, Nat.reduceAdd, Nat.reduceMul, Nat.reduceSub, Nat.reduceLT, Nat.reduceLeDiff, Nat.reduceEqDiff, ↓reduceIte, and_true, true_and, and_self, Nat.add_zero, Nat.zero_add, not_false_eq_true, not_true_eq_false, faV_n, faV_s, m1_lt0, m1_0le, m1_eq0, m1_le, le_m1, m1_lt, lt_m1, nI_100k, nI_100, upd_e, upd_n, pC_pC, gC_ne', gC_old', nI_lt_t, nI_lt_f, nI_le_t, nI_le_f, nI_eq_t, nI_eq_f, nI_eq0_t, nI_eq0_f, nI_0lt_t, nI_0lt_f, nI_le0_t, nI_le0_f, nI_eq1_t, nI_eq1_f, h02, hqa, c_doors (zs := zs) (e := e + 3) h1 h2.1, c2', b1, lfj, hlc]
      refine c_lcopied (e := e) L2 hk5 hr.2.2.2.1 hr.2.2.1 w2 (fun σ3 N3 => ?_)
      obtain ⟨f3, z3, l3⟩ := N3
      have lle := LA_le q σ.1 j
      have n1c : gC σ3 (σ.1 + 1) = some (.inr (5, 5, .inr (.inr (.inr (.inr g))))) := f3.g (by omega) (fun z => z) nb2.1
      obtain ⟨lfs3, hlc3⟩ : ∃ fs, gC σ3 σ2.1 = some (.inl (5, fs)) := ⟨_, l3.1⟩
      simp (disch := omega) only [ec_new dX3_copied_0 ncp_2_12 cSz_2 cDf_2, ec_dup dX3_copied_3, ec_ci0 dX3_copied_4 iN_2_71 ccp_2_71_99, ec_astore_n (i := 1) dX3_copied_7 rfl, ec_astore_nN (i := 1) dX3_copied_7 rfl, ec_aload_n (i := 1) dX3_copied_8 rfl, ec_aload_n (i := 0) dX3_copied_9 rfl, ec_get dX3_copied_10, gw_2_33_2, ec_put dX3_copied_13, pw_2_0_33_2, pn_2_0_33_2, ec_aload_n (i := 1) dX3_copied_16 rfl, ec_aload_n (i := 0) dX3_copied_17 rfl, ec_get dX3_copied_18, gw_2_37_2, ec_put dX3_copied_21, pw_2_0_37_2, ec_aload_n (i := 1) dX3_copied_24 rfl, ec_aload_n (i := 0) dX3_copied_25 rfl, ec_get dX3_copied_26, gw_2_41_2, ec_put dX3_copied_29, pw_2_0_41_2, ec_iconst (v := nI 0) dX3_copied_32 rfl, ec_istore_n (i := 2) dX3_copied_33 rfl, ec_aload_n (i := 0) dX3_copied_35 rfl, ec_get dX3_copied_36, ec_cv0 dX3_copied_39 iN_2_44 cna_2_44, vcE_o ccp_2_44_3, ec_icmp_ge (t := 66) dX3_copied_42 rfl, ec_aload_n (i := 1) dX3_copied_45 rfl, ec_get dX3_copied_46, gw_2_11_2, ec_iload_n (i := 2) dX3_copied_49 rfl, ec_aload_n (i := 0) dX3_copied_50 rfl, ec_get dX3_copied_51, ec_iload_n (i := 2) dX3_copied_54 rfl, ec_aald dX3_copied_55, raE_4, raE_5, raE_6, raE_7, raE_8, ec_cv0 dX3_copied_56 iN_2_72 cna_2_72, vcE_o ccp_2_72_5, ec_aast dX3_copied_59, ec_aastN dX3_copied_59, rsE_r, rok_4, rok_4a, rok_5, rok_6, nsE_4, nsE_5, nsE_6, nsE_7, ec_iinc (v := nI 1) dX3_copied_60 rfl, ec_goto (t := 34) dX3_copied_63 rfl, ec_aload_n (i := 1) dX3_copied_66 rfl, ec_aret dX3_copied_67, ec_aretN dX3_copied_67, ec_aretA dX3_copied_67, cat1_i, cat1_r, cat1_u, catB_n, catB_i, catB_r, catB_l, catB_u, lg_0, lg_s, ldEI_i, ldEL_l, ldEA_r, ldEA_n, lin_0, lin_s, ls1_0, ls1_1, ls1_s, ls2_0, ls2_1, ls2_s, lcl_i, lcl_r, lcl_l, lcl_u, lcl_n, lent_i, lent_r, lent_l, lent_u, lent_0, lent_s, Option.toList_some, Option.toList_none, List.cons_append, List.nil_append, Nat.reduceAdd, true_and, vin_0, vin_s, aE_0, aE_s, EK_r, EK_t, List.set_cons_zero, List.set_cons_succ, va_rf_s, va_rf_n, pC_1, pC_21, aC_1, aC_21, gC_self, gC_new, eI_, eLg_, eV_, eInc_, eN_, eS_, eJ_, eCl_, nI_add, nI_mul, nI_subI, nI_clampI, inb_t, nI_lt0, nI_0le, nI_m1, nI_m1', nI_ofNat, bI_01, b01_0, b01_1, bI_eq0, bI_eq1, bb_01, true_or, or_true, false_or, or_false, eq_self, Nat.reduceAdd, Nat.reduceMul, Nat.reduceSub, Nat.reduceLT, Nat.reduceLeDiff, Nat.reduceEqDiff, ↓reduceIte, and_true, true_and, and_self, Nat.add_zero, Nat.zero_add, not_false_eq_true, not_true_eq_false, faV_n, faV_s, m1_lt0, m1_0le, m1_eq0, m1_le, le_m1, m1_lt, lt_m1, nI_100k, nI_100, upd_e, upd_n, pC_pC, gC_ne', gC_old', nI_lt_t, nI_lt_f, nI_le_t, nI_le_f, nI_eq_t, nI_eq_f, nI_eq0_t, nI_eq0_f, nI_0lt_t, nI_0lt_f, nI_le0_t, nI_le0_f, nI_eq1_t, nI_eq1_f, n1c, hlc3]
      have S4 : Fs (fun b => b = σ.1 + 1) σ3 (pC σ3 (σ.1 + 1) (.inr (5, 5, .inr (.inr (.inr (.inr (va_up g j (some σ2.1)))))))) := Fs.rf.p n1c rfl
      have kt : ∀ b, b < σ2.1 → b ≠ σ.1 + 1 → gC (pC σ3 (σ.1 + 1) (.inr (5, 5, .inr (.inr (.inr (.inr (va_up g j (some σ2.1)))))))) b = gC σ2 b := fun b hb hne => (S4.2.2.1 b hne).trans (f3.2.2.1 b hb (fun z => z))
      obtain ⟨b1', b2', b3', b4', b5', b6'⟩ := nb2
      refine ih (j + 1) (by omega) _ (va_up g j (some σ2.1)) (((F2.tn f3 (fun b z => z.elim)).n S4 (fun b hb => Or.inl (by omega))).sub (fun b _ z => z) (by omega) (by omega)) ?_ ((kt _ (by omega) (by omega)).trans c2) ⟨gC_self, (kt _ (by omega) (by omega)).trans b2', ?_, (kt _ (by omega) (by omega)).trans b4', fun i hi => ?_, ?_⟩ (fun d hd' => ?_) (fun d hd' => ?_)
      · show σ3.1 = _
        rw [z3, z2]
        rfl
      · obtain ⟨F, hF⟩ := b3'; exact ⟨F, (kt _ (by omega) (by omega)).trans hF⟩
      · obtain ⟨F, hF⟩ := b5' i hi; exact ⟨F, (kt _ (by omega) (by omega)).trans hF⟩
      · obtain ⟨F, hF⟩ := b6'; exact ⟨F, (kt _ (by omega) (by omega)).trans hF⟩
      · unfold va_up
        by_cases hdj : d = j
        · rw [if_pos hdj, hdj, z2]
        · rw [if_neg hdj]; exact hg d (by omega)
      · by_cases hdj : d = j
        · subst hdj
          rw [← z2]
          exact l3.k (fun b hb => S4.2.2.1 b (fun z => by unfold LkS at hb; omega))
        · have l4 := (hl2 d (by omega)).kr w2 f3 (fun _ _ z => z)
          have lld := LA_le q σ.1 d
          exact l4.k (fun b hb => S4.2.2.1 b (fun z => by unfold LkS at hb; omega))
  obtain ⟨b1, b2, b3, b4, b5, b6⟩ := nb1
  have S2 : Fs (fun b => b = σ.1) σ1 (pC σ1 σ.1 (.inl (2, nFs σ.1 qa (s 400) (s 401)))) := Fs.rf.p c1 rfl
  have kt : ∀ b, b ≠ σ.1 → gC (pC σ1 σ.1 (.inl (2, nFs σ.1 qa (s 400) (s 401)))) b = gC σ1 b := fun b hb => S2.2.2.1 b hb
  refine lo (qD q) 0 (by omega) _ (fun _ => none) (f1.n S2 (fun b hb => Or.inl (by omega))) ?_ gC_self ⟨(kt _ (by omega)).trans b1, (kt _ (by omega)).trans b2, ?_, (kt _ (by omega)).trans b4, fun i hi => ?_, ?_⟩ (fun d hd => by omega) (fun d hd => by omega)
  · show σ1.1 = _
    rw [z1]
    rfl
  · obtain ⟨F, hF⟩ := b3; exact ⟨F, (kt _ (by omega)).trans hF⟩
  · obtain ⟨F, hF⟩ := b5 i hi; exact ⟨F, (kt _ (by omega)).trans hF⟩
  · obtain ⟨F, hF⟩ := b6; exact ⟨F, (kt _ (by omega)).trans hF⟩
end
