set_option maxRecDepth 100000
/-! THE COMPONENT: what is behind -/
theorem ALm.fr {S : Nat → Prop} {c m : Nat} {σ σ' : CM} {l d n cap : Nat} {x : Nat → Nat} (h : ALm σ l d n cap x) (hw : HW σ) (hF : Fr S c m σ σ') (hl : ¬ S l) (hd : ¬ S d) (hx : ∀ i, i < n → ¬ S (x i)) : ALm σ' l d n cap x := by
  obtain ⟨mc, f, h1, h2, h3, h4, h5⟩ := h
  exact ⟨mc, f, hF.g (hw _ _ h1) hl h1, hF.g (hw _ _ h2) hd h2, h3, fun i hi => ⟨(h4 i hi).1, (h4 i hi).2.fr hw hF (hx i hi)⟩, h5⟩
section
variable {zs : Nat → Nat} {e : Nat} {σ : CM} {P : CR → Prop} {ow tl : Nat → Nat} {t n0 qa fx : Nat} {q : QT} {s L : Nat → Nat} {x0 hl : Nat} {op al : Int32} {gg : Int64} {A : Nat → Nat} {B : Nat}
/-- what a kept lock leaves -/
def Kpd (σ σ' : CM) (bl d n cap : Nat) (x : Nat → Nat) (j kd : Nat) (r : Nat → Nat) : Prop := ∃ d' cap', Fr (fun b => b = bl ∨ (b = d ∧ 0 < cap)) 5 160 σ σ' ∧ ALm σ' bl d' (n + 1) cap' (fun i => if i = n then σ.1 else x i) ∧ 0 < cap' ∧ cap' ≤ 42 ∧ (d' = d ∧ 0 < cap ∨ σ.1 ≤ d' ∧ d' < σ'.1) ∧ d' ≠ σ.1 ∧ ¬ LkT kd (σ.1 + 1) d' ∧ gC σ' σ.1 = some (.inl (29, [.int (nI j), .ref (σ.1 + 1)])) ∧ LockAt σ' (σ.1 + 1) kd r
theorem c_keeps1 {j n cap d : Nat} {x : Nat → Nat} (hq : QOK q) (hO : SO B s) (hw : HW σ) (hR : gC σ x0 = some (.inl (0, rtF n0 hl op al gg A))) (hN : NightAt ow t tl σ n0 qa fx q s L) (hj : j < qD q) (hA : ALm σ (A 1) d n cap x) (hn : n ≤ 15) (hcap : cap ≤ 42) (hz : cap = 0 → d = zs 101) (hx : ∀ i, i < n → ∃ fs, gC σ (x i) = some (.inl (29, fs))) (hP : ∀ σ', Kpd σ σ' (A 1) d n cap x j (qDk q j) (rowOf s j) → P (.inl none, σ')) : EC zs (Jc zs) (e + 5) cX1_keeps none 0 0 21 [some (.ref x0), some (.int (nI j))] [] σ P := by
  have hD := hq.1.2.1
  have hk5 := (hq.2.2.2.1 j hj).1
  have r11 := (hO j (by omega)).2.2.2.1
  have r5 := (hO j (by omega)).2.2.1
  obtain ⟨lf, kf, b1, hlf, -, hL⟩ := hN.lk hj
  have hR' := hR
  unfold rtF at hR'
  have h0 := hN.1.1
  unfold nFs at h0
  have hRl := hw _ _ hR
  have h0l := hw _ _ h0
  have b1l := hw _ _ b1
  have hll := hL.lt hw
  have hlc := hL.1
  have hne := hA.ne
  obtain ⟨mc, f, a1, a2, a3, a4, a5⟩ := id hA
  have a1l := hw _ _ a1
  have a2l := hw _ _ a2
  simp (disch := first | omega | (simp only [aC_1, pC_1]; omega)) only [ec_aload_n (i := 0) dX1_keeps_0 rfl, ec_get dX1_keeps_1, gw_0_81_0, ec_cv0 dX1_keeps_4 iN_0_155 cna_0_155, vcE_o ccp_0_155_36, ec_bipush (v := nI 16) dX1_keeps_7 rfl, ec_icmp_ne (t := 21) dX1_keeps_9 rfl, ec_aload_n (i := 0) dX1_keeps_12 rfl, ec_get dX1_keeps_13, ec_iconst (v := nI 0) dX1_keeps_16 rfl, ec_cv1 dX1_keeps_17 iN_0_239 cna_0_239, vcE_o ccp_0_239_36, ec_pop dX1_keeps_20, ec_aload_n (i := 0) dX1_keeps_21 rfl, ec_get dX1_keeps_22, ec_new dX1_keeps_25 ncp_0_242 cSz_29 cDf_29, ec_dup dX1_keeps_28, ec_iload_n (i := 1) dX1_keeps_29 rfl, ec_aload_n (i := 0) dX1_keeps_30 rfl, ec_get dX1_keeps_31, gw_0_70_0, ec_get dX1_keeps_34, gw_0_189_2, ec_iload_n (i := 1) dX1_keeps_37 rfl, ec_aald dX1_keeps_38, raE_4, raE_5, raE_6, raE_7, raE_8, ec_cv0 dX1_keeps_39 iN_0_244 cna_0_244, vcE_o ccp_0_244_5, ec_ci2 dX1_keeps_42 iN_0_248 ccp_0_248_99, ec_cv1 dX1_keeps_45 iN_0_251 cna_0_251, vcE_o ccp_0_251_36, ec_pop dX1_keeps_48, ec_vret dX1_keeps_49, cat1_i, cat1_r, cat1_u, catB_n, catB_i, catB_r, catB_l, catB_u, lg_0, lg_s, ldEI_i, ldEL_l, ldEA_r, ldEA_n, lin_0, lin_s, ls1_0, ls1_1, ls1_s, ls2_0, ls2_1, ls2_s, lcl_i, lcl_r, lcl_l, lcl_u, lcl_n, lent_i, lent_r, lent_l, lent_u, lent_0, lent_s, Option.toList_some, Option.toList_none, List.cons_append, List.nil_append, Nat.reduceAdd, true_and, vin_0, vin_s, aE_0, aE_s, EK_r, EK_t, List.set_cons_zero, List.set_cons_succ, va_rf_s, va_rf_n, pC_1, pC_21, aC_1, aC_21, gC_self, gC_new, eI_, eLg_, eV_, eInc_, eN_, eS_, eJ_, eCl_, nI_add, nI_mul, nI_subI, nI_clampI, inb_t, nI_lt0, nI_0le, nI_m1, nI_m1', nI_ofNat, bI_01, b01_0, b01_1, bI_eq0, bI_eq1, bb_01, true_or, or_true, false_or, or_false, eq_self, Nat.reduceAdd, Nat.reduceMul, Nat.reduceSub, Nat.reduceLT, Nat.reduceLeDiff, Nat.reduceEqDiff, ↓reduceIte, and_true, true_and, and_self, Nat.add_zero, Nat.zero_add, not_false_eq_true, not_true_eq_false, faV_n, faV_s, m1_lt0, m1_0le, m1_eq0, m1_le, le_m1, m1_lt, lt_m1, nI_100k, nI_100, upd_e, upd_n, pC_pC, gC_ne', gC_old', nI_lt_t, nI_lt_f, nI_le_t, nI_le_f, nI_eq_t, nI_eq_f, nI_eq0_t, nI_eq0_f, nI_0lt_t, nI_0lt_f, nI_le0_t, nI_le0_f, nI_eq1_t, nI_eq1_f, gC_oldn, hR', h0, b1, hlf, hlc]
  have hL' : LockAt (aC σ 2 (.inl (29, [.int 0, .null]))) (L j) (qDk q j) (rowOf s j) := hL.kT (fun b hb => gC_old' (hL.ltT hw hb))
  refine c_lcopied (e := e) hL' hk5 r11 r5 hw.aC (fun σ1 N1 => ?_)
  obtain ⟨F1, e1, L1⟩ := N1
  rw [aC_1] at e1 L1
  have hw1 := F1.2.2.2
  have g1 : gC σ1 σ.1 = some (.inl (29, [.int 0, .null])) := F1.g (by rw [aC_1]; omega) (fun z => z) gC_new
  have o1 : ∀ b, b < σ.1 → gC σ1 b = gC σ b := fun b hb => (F1.2.2.1 b (by rw [aC_1]; omega) (fun z => z)).trans (gC_old' hb)
  have L1' : gC σ1 (σ.1 + 1) = some (.inl (5, lkF (σ.1 + 1) (rowOf s j))) := L1.1
  have a11 : gC σ1 (A 1) = some (.inl (36, [.int mc, .ref d, .int (nI n)])) := (o1 _ a1l).trans a1
  simp (disch := first | omega | (simp only [aC_1, pC_1]; omega)) only [ec_aload_n (i := 0) dX1_keeps_0 rfl, ec_get dX1_keeps_1, gw_0_81_0, ec_cv0 dX1_keeps_4 iN_0_155 cna_0_155, vcE_o ccp_0_155_36, ec_bipush (v := nI 16) dX1_keeps_7 rfl, ec_icmp_ne (t := 21) dX1_keeps_9 rfl, ec_aload_n (i := 0) dX1_keeps_12 rfl, ec_get dX1_keeps_13, ec_iconst (v := nI 0) dX1_keeps_16 rfl, ec_cv1 dX1_keeps_17 iN_0_239 cna_0_239, vcE_o ccp_0_239_36, ec_pop dX1_keeps_20, ec_aload_n (i := 0) dX1_keeps_21 rfl, ec_get dX1_keeps_22, ec_new dX1_keeps_25 ncp_0_242 cSz_29 cDf_29, ec_dup dX1_keeps_28, ec_iload_n (i := 1) dX1_keeps_29 rfl, ec_aload_n (i := 0) dX1_keeps_30 rfl, ec_get dX1_keeps_31, gw_0_70_0, ec_get dX1_keeps_34, gw_0_189_2, ec_iload_n (i := 1) dX1_keeps_37 rfl, ec_aald dX1_keeps_38, raE_4, raE_5, raE_6, raE_7, raE_8, ec_cv0 dX1_keeps_39 iN_0_244 cna_0_244, vcE_o ccp_0_244_5, ec_ci2 dX1_keeps_42 iN_0_248 ccp_0_248_99, ec_cv1 dX1_keeps_45 iN_0_251 cna_0_251, vcE_o ccp_0_251_36, ec_pop dX1_keeps_48, ec_vret dX1_keeps_49, ec_aload_n (i := 0) dX41_init_0 rfl, ec_j11 dX41_init_1 iT_29_1, J_1, ec_aload_n (i := 0) dX41_init_4 rfl, ec_iload_n (i := 1) dX41_init_5 rfl, ec_put dX41_init_6, pw_29_9_7_29, ec_aload_n (i := 0) dX41_init_9 rfl, ec_aload_n (i := 2) dX41_init_10 rfl, ec_put dX41_init_11, pw_29_9_13_29, pn_29_9_13_29, ec_vret dX41_init_14, cat1_i, cat1_r, cat1_u, catB_n, catB_i, catB_r, catB_l, catB_u, lg_0, lg_s, ldEI_i, ldEL_l, ldEA_r, ldEA_n, lin_0, lin_s, ls1_0, ls1_1, ls1_s, ls2_0, ls2_1, ls2_s, lcl_i, lcl_r, lcl_l, lcl_u, lcl_n, lent_i, lent_r, lent_l, lent_u, lent_0, lent_s, Option.toList_some, Option.toList_none, List.cons_append, List.nil_append, Nat.reduceAdd, true_and, vin_0, vin_s, aE_0, aE_s, EK_r, EK_t, List.set_cons_zero, List.set_cons_succ, va_rf_s, va_rf_n, pC_1, pC_21, aC_1, aC_21, gC_self, gC_new, eI_, eLg_, eV_, eInc_, eN_, eS_, eJ_, eCl_, nI_add, nI_mul, nI_subI, nI_clampI, inb_t, nI_lt0, nI_0le, nI_m1, nI_m1', nI_ofNat, bI_01, b01_0, b01_1, bI_eq0, bI_eq1, bb_01, true_or, or_true, false_or, or_false, eq_self, Nat.reduceAdd, Nat.reduceMul, Nat.reduceSub, Nat.reduceLT, Nat.reduceLeDiff, Nat.reduceEqDiff, ↓reduceIte, and_true, true_and, and_self, Nat.add_zero, Nat.zero_add, not_false_eq_true, not_true_eq_false, faV_n, faV_s, m1_lt0, m1_0le, m1_eq0, m1_le, le_m1, m1_lt, lt_m1, nI_100k, nI_100, upd_e, upd_n, pC_pC, gC_ne', gC_old', nI_lt_t, nI_lt_f, nI_le_t, nI_le_f, nI_eq_t, nI_eq_f, nI_eq0_t, nI_eq0_f, nI_0lt_t, nI_0lt_f, nI_le0_t, nI_le0_f, nI_eq1_t, nI_eq1_f, aC_1, g1, L1', a11]
  have hw2 : HW (pC σ1 σ.1 (.inl (29, [.int (nI j), .ref (σ.1 + 1)]))) := hw1.pC g1
  have o2 : ∀ b, b ≠ σ.1 → gC (pC σ1 σ.1 (.inl (29, [.int (nI j), .ref (σ.1 + 1)]))) b = gC σ1 b := fun b hb => gC_ne hb
  have g2 : gC (pC σ1 σ.1 (.inl (29, [.int (nI j), .ref (σ.1 + 1)]))) σ.1 = some (.inl (29, [.int (nI j), .ref (σ.1 + 1)])) := gC_self
  have n2 : (pC σ1 σ.1 (.inl (29, [.int (nI j), .ref (σ.1 + 1)]))).1 = σ1.1 := rfl
  have s2 : (pC σ1 σ.1 (.inl (29, [.int (nI j), .ref (σ.1 + 1)]))).2.1 = σ1.2.1 := rfl
  generalize pC σ1 σ.1 (.inl (29, [.int (nI j), .ref (σ.1 + 1)])) = σ2 at hw2 o2 g2 n2 s2 ⊢
  have k2 : ∀ b, b < σ.1 → gC σ2 b = gC σ b := fun b hb => (o2 b (by omega)).trans (o1 b hb)
  have lx : ∀ i, i < n → x i < σ.1 := fun i hi => by obtain ⟨fs, h⟩ := hx i hi; exact hw _ _ h
  have A2 : ALm σ2 (A 1) d n cap x := ⟨mc, f, (k2 _ a1l).trans a1, (k2 _ a2l).trans a2, a3, fun i hi => ⟨(a4 i hi).1, (a4 i hi).2.c (k2 _ (lx i hi))⟩, a5⟩
  have f1 : σ1.2.1 ≤ σ.2.1 + 2 + 49 := F1.2.1.2
  have f1' : σ.2.1 + 2 ≤ σ1.2.1 := F1.2.1.1
  have xe : ∀ i, i < n → x i ≠ A 1 ∧ x i ≠ d := fun i hi => by
    obtain ⟨fs, h⟩ := hx i hi
    refine ⟨fun z => ?_, fun z => ?_⟩
    · rw [z, a1] at h; cases h
    · rw [z, a2] at h; cases h
  have eL : σ1.1 = σ.1 + 3 ∨ σ1.1 = σ.1 + 4 := by
    rw [e1]
    split <;> omega
  refine c_add (e := e) A2 (by omega) (Or.inl ⟨_, g2⟩) hw2 hz ⟨by omega, by omega⟩ xe (fun σ3 AL3 => ?_)
  simp (disch := first | omega | (simp only [aC_1, pC_1]; omega)) only [ec_aload_n (i := 0) dX1_keeps_0 rfl, ec_get dX1_keeps_1, gw_0_81_0, ec_cv0 dX1_keeps_4 iN_0_155 cna_0_155, vcE_o ccp_0_155_36, ec_bipush (v := nI 16) dX1_keeps_7 rfl, ec_icmp_ne (t := 21) dX1_keeps_9 rfl, ec_aload_n (i := 0) dX1_keeps_12 rfl, ec_get dX1_keeps_13, ec_iconst (v := nI 0) dX1_keeps_16 rfl, ec_cv1 dX1_keeps_17 iN_0_239 cna_0_239, vcE_o ccp_0_239_36, ec_pop dX1_keeps_20, ec_aload_n (i := 0) dX1_keeps_21 rfl, ec_get dX1_keeps_22, ec_new dX1_keeps_25 ncp_0_242 cSz_29 cDf_29, ec_dup dX1_keeps_28, ec_iload_n (i := 1) dX1_keeps_29 rfl, ec_aload_n (i := 0) dX1_keeps_30 rfl, ec_get dX1_keeps_31, gw_0_70_0, ec_get dX1_keeps_34, gw_0_189_2, ec_iload_n (i := 1) dX1_keeps_37 rfl, ec_aald dX1_keeps_38, raE_4, raE_5, raE_6, raE_7, raE_8, ec_cv0 dX1_keeps_39 iN_0_244 cna_0_244, vcE_o ccp_0_244_5, ec_ci2 dX1_keeps_42 iN_0_248 ccp_0_248_99, ec_cv1 dX1_keeps_45 iN_0_251 cna_0_251, vcE_o ccp_0_251_36, ec_pop dX1_keeps_48, ec_vret dX1_keeps_49, cat1_i, cat1_r, cat1_u, catB_n, catB_i, catB_r, catB_l, catB_u, lg_0, lg_s, ldEI_i, ldEL_l, ldEA_r, ldEA_n, lin_0, lin_s, ls1_0, ls1_1, ls1_s, ls2_0, ls2_1, ls2_s, lcl_i, lcl_r, lcl_l, lcl_u, lcl_n, lent_i, lent_r, lent_l, lent_u, lent_0, lent_s, Option.toList_some, Option.toList_none, List.cons_append, List.nil_append, Nat.reduceAdd, true_and, vin_0, vin_s, aE_0, aE_s, EK_r, EK_t, List.set_cons_zero, List.set_cons_succ, va_rf_s, va_rf_n, pC_1, pC_21, aC_1, aC_21, gC_self, gC_new, eI_, eLg_, eV_, eInc_, eN_, eS_, eJ_, eCl_, nI_add, nI_mul, nI_subI, nI_clampI, inb_t, nI_lt0, nI_0le, nI_m1, nI_m1', nI_ofNat, bI_01, b01_0, b01_1, bI_eq0, bI_eq1, bb_01, true_or, or_true, false_or, or_false, eq_self, Nat.reduceAdd, Nat.reduceMul, Nat.reduceSub, Nat.reduceLT, Nat.reduceLeDiff, Nat.reduceEqDiff, ↓reduceIte, and_true, true_and, and_self, Nat.add_zero, Nat.zero_add, not_false_eq_true, not_true_eq_false, faV_n, faV_s, m1_lt0, m1_0le, m1_eq0, m1_le, le_m1, m1_lt, lt_m1, nI_100k, nI_100, upd_e, upd_n, pC_pC, gC_ne', gC_old', nI_lt_t, nI_lt_f, nI_le_t, nI_le_f, nI_eq_t, nI_eq_f, nI_eq0_t, nI_eq0_f, nI_0lt_t, nI_0lt_f, nI_le0_t, nI_le0_f, nI_eq1_t, nI_eq1_f]
  obtain ⟨d', cap', F3, A3, hd'⟩ := AL3
  have hlk : ∀ b, LkT (qDk q j) (σ.1 + 1) b → σ.1 < b ∧ b < σ1.1 := fun b hb => ⟨by unfold LkT at hb; omega, L1.ltT hw1 hb⟩
  refine hP σ3 ⟨d', cap', ⟨⟨?_, ?_⟩, ⟨?_, ?_⟩, fun b hb hs => ?_, F3.2.2.2⟩, A3, ?_, ?_, ?_, ?_, ?_, ?_, ?_⟩
  · have := F3.1.1; omega
  · have := F3.1.2; omega
  · have := F3.2.1.1; omega
  · have := F3.2.1.2; omega
  · refine (F3.2.2.1 b (by omega) (fun z => hs ?_)).trans (k2 b hb)
    rcases z with z | ⟨z, z2⟩
    · exact Or.inl z
    · exact Or.inr ⟨z, by omega⟩
  · omega
  · omega
  · rcases hd' with ⟨z1, z2, z3, z4⟩ | ⟨z1, z2, z3, z4, z5⟩
    · exact Or.inl ⟨z1, by omega⟩
    · exact Or.inr ⟨by omega, by omega⟩
  · omega
  · intro z
    have := hlk _ z
    omega
  · exact F3.g (by omega) (fun z => by omega) g2
  · refine (L1.kT (fun b hb => ?_))
    have := hlk b hb
    exact (F3.2.2.1 b (by omega) (fun z => by omega)).trans (o2 b (by omega))
/-- a lock kept: the list behind it -/
def KpB (σ σ' : CM) (bl d n cap : Nat) (x : Nat → Nat) (j kd : Nat) (r : Nat → Nat) : Prop := ∃ d' cap' x', Fr (fun b => b = bl ∨ (b = d ∧ 0 < cap)) 5 160 σ σ' ∧ ALm σ' bl d' (ksN n) cap' x' ∧ (∀ i, i + 1 < ksN n → x' i = if n = 16 then x (i + 1) else x i) ∧ x' (ksN n - 1) = σ.1 ∧ 0 < cap' ∧ cap' ≤ 42 ∧ (d' = d ∧ 0 < cap ∨ σ.1 ≤ d' ∧ d' < σ'.1) ∧ d' ≠ σ.1 ∧ ¬ LkT kd (σ.1 + 1) d' ∧ gC σ' σ.1 = some (.inl (29, [.int (nI j), .ref (σ.1 + 1)])) ∧ LockAt σ' (σ.1 + 1) kd r
theorem c_keeps {j n cap d : Nat} {x : Nat → Nat} (hq : QOK q) (hO : SO B s) (hw : HW σ) (hR : gC σ x0 = some (.inl (0, rtF n0 hl op al gg A))) (hN : NightAt ow t tl σ n0 qa fx q s L) (hj : j < qD q) (hA : ALm σ (A 1) d n cap x) (hn : n ≤ 16) (hcap : cap ≤ 42) (hz : cap = 0 → d = zs 101) (hx : ∀ i, i < n → ∃ fs, gC σ (x i) = some (.inl (29, fs))) (hT : ∀ b, b = A 1 ∨ b = d ∧ 0 < cap → ow b ≠ 0 ∧ ow b ≠ 1 ∧ ow b ≠ t ∧ ∀ d', d' < qD q → ow b ≠ tl d') (hP : ∀ σ', KpB σ σ' (A 1) d n cap x j (qDk q j) (rowOf s j) → P (.inl none, σ')) : EC zs (Jc zs) (e + 5) cX1_keeps none 0 0 0 [some (.ref x0), some (.int (nI j))] [] σ P := by
  have hR' := hR
  unfold rtF at hR'
  have hne := hA.ne
  have sz := fun P e => ALm.size (zs := zs) (e := e) (P := P) hA
  obtain ⟨mc, f, a1, a2, a3, a4, a5⟩ := id hA
  have xe : ∀ i, i < n → x i ≠ A 1 ∧ x i ≠ d := fun i hi => by
    obtain ⟨fs, h⟩ := hx i hi
    refine ⟨fun z => ?_, fun z => ?_⟩
    · rw [z, a1] at h; cases h
    · rw [z, a2] at h; cases h
  by_cases h16 : n = 16
  · simp (disch := first | omega | (simp only [aC_1, pC_1]; omega)) only [ec_aload_n (i := 0) dX1_keeps_0 rfl, ec_get dX1_keeps_1, gw_0_81_0, ec_cv0 dX1_keeps_4 iN_0_155 cna_0_155, vcE_o ccp_0_155_36, ec_bipush (v := nI 16) dX1_keeps_7 rfl, ec_icmp_ne (t := 21) dX1_keeps_9 rfl, ec_aload_n (i := 0) dX1_keeps_12 rfl, ec_get dX1_keeps_13, ec_iconst (v := nI 0) dX1_keeps_16 rfl, ec_cv1 dX1_keeps_17 iN_0_239 cna_0_239, vcE_o ccp_0_239_36, ec_pop dX1_keeps_20, ec_get dX1_keeps_22, ec_new dX1_keeps_25 ncp_0_242 cSz_29 cDf_29, ec_dup dX1_keeps_28, ec_iload_n (i := 1) dX1_keeps_29 rfl, ec_aload_n (i := 0) dX1_keeps_30 rfl, ec_get dX1_keeps_31, gw_0_70_0, ec_get dX1_keeps_34, gw_0_189_2, ec_iload_n (i := 1) dX1_keeps_37 rfl, ec_aald dX1_keeps_38, raE_4, raE_5, raE_6, raE_7, raE_8, ec_cv0 dX1_keeps_39 iN_0_244 cna_0_244, vcE_o ccp_0_244_5, ec_ci2 dX1_keeps_42 iN_0_248 ccp_0_248_99, ec_cv1 dX1_keeps_45 iN_0_251 cna_0_251, vcE_o ccp_0_251_36, ec_pop dX1_keeps_48, ec_vret dX1_keeps_49, cat1_i, cat1_r, cat1_u, catB_n, catB_i, catB_r, catB_l, catB_u, lg_0, lg_s, ldEI_i, ldEL_l, ldEA_r, ldEA_n, lin_0, lin_s, ls1_0, ls1_1, ls1_s, ls2_0, ls2_1, ls2_s, lcl_i, lcl_r, lcl_l, lcl_u, lcl_n, lent_i, lent_r, lent_l, lent_u, lent_0, lent_s, Option.toList_some, Option.toList_none, List.cons_append, List.nil_append, Nat.reduceAdd, true_and, vin_0, vin_s, aE_0, aE_s, EK_r, EK_t, List.set_cons_zero, List.set_cons_succ, va_rf_s, va_rf_n, pC_1, pC_21, aC_1, aC_21, gC_self, gC_new, eI_, eLg_, eV_, eInc_, eN_, eS_, eJ_, eCl_, nI_add, nI_mul, nI_subI, nI_clampI, inb_t, nI_lt0, nI_0le, nI_m1, nI_m1', nI_ofNat, bI_01, b01_0, b01_1, bI_eq0, bI_eq1, bb_01, true_or, or_true, false_or, or_false, eq_self, Nat.reduceAdd, Nat.reduceMul, Nat.reduceSub, Nat.reduceLT, Nat.reduceLeDiff, Nat.reduceEqDiff, ↓reduceIte, and_true, true_and, and_self, Nat.add_zero, Nat.zero_add, not_false_eq_true, not_true_eq_false, faV_n, faV_s, m1_lt0, m1_0le, m1_eq0, m1_le, le_m1, m1_lt, lt_m1, nI_100k, nI_100, upd_e, upd_n, pC_pC, gC_ne', gC_old', nI_lt_t, nI_lt_f, nI_le_t, nI_le_f, nI_eq_t, nI_eq_f, nI_eq0_t, nI_eq0_f, nI_0lt_t, nI_0lt_f, nI_le0_t, nI_le0_f, nI_eq1_t, nI_eq1_f, hR', a1, sz, h16]
    refine c_remove (i := 0) hA (by omega) (by omega) xe (fun σ1 S1 A1 => ?_)
    have S1' : Fs (fun b => b = A 1 ∨ b = d ∧ 0 < cap) σ σ1 := S1.sub (fun b hb => by
      rcases hb with z | z
      · exact Or.inl z
      · exact Or.inr ⟨z, by omega⟩)
    have R1 : gC σ1 x0 = some (.inl (0, rtF n0 hl op al gg A)) := S1.g (fun z => by
      rcases z with z | z
      · rw [z, a1] at hR; cases hR
      · rw [z, a2] at hR; cases hR) hR
    have N1 : NightAt ow t tl σ1 n0 qa fx q s L := hN.fr hw (S1'.fr hw) (fun b _ hb => hT b hb)
    simp (disch := first | omega | (simp only [aC_1, pC_1]; omega)) only [ec_aload_n (i := 0) dX1_keeps_0 rfl, ec_get dX1_keeps_1, gw_0_81_0, ec_cv0 dX1_keeps_4 iN_0_155 cna_0_155, vcE_o ccp_0_155_36, ec_bipush (v := nI 16) dX1_keeps_7 rfl, ec_icmp_ne (t := 21) dX1_keeps_9 rfl, ec_aload_n (i := 0) dX1_keeps_12 rfl, ec_get dX1_keeps_13, ec_iconst (v := nI 0) dX1_keeps_16 rfl, ec_cv1 dX1_keeps_17 iN_0_239 cna_0_239, vcE_o ccp_0_239_36, ec_pop dX1_keeps_20, ec_get dX1_keeps_22, ec_new dX1_keeps_25 ncp_0_242 cSz_29 cDf_29, ec_dup dX1_keeps_28, ec_iload_n (i := 1) dX1_keeps_29 rfl, ec_aload_n (i := 0) dX1_keeps_30 rfl, ec_get dX1_keeps_31, gw_0_70_0, ec_get dX1_keeps_34, gw_0_189_2, ec_iload_n (i := 1) dX1_keeps_37 rfl, ec_aald dX1_keeps_38, raE_4, raE_5, raE_6, raE_7, raE_8, ec_cv0 dX1_keeps_39 iN_0_244 cna_0_244, vcE_o ccp_0_244_5, ec_ci2 dX1_keeps_42 iN_0_248 ccp_0_248_99, ec_cv1 dX1_keeps_45 iN_0_251 cna_0_251, vcE_o ccp_0_251_36, ec_pop dX1_keeps_48, ec_vret dX1_keeps_49, cat1_i, cat1_r, cat1_u, catB_n, catB_i, catB_r, catB_l, catB_u, lg_0, lg_s, ldEI_i, ldEL_l, ldEA_r, ldEA_n, lin_0, lin_s, ls1_0, ls1_1, ls1_s, ls2_0, ls2_1, ls2_s, lcl_i, lcl_r, lcl_l, lcl_u, lcl_n, lent_i, lent_r, lent_l, lent_u, lent_0, lent_s, Option.toList_some, Option.toList_none, List.cons_append, List.nil_append, Nat.reduceAdd, true_and, vin_0, vin_s, aE_0, aE_s, EK_r, EK_t, List.set_cons_zero, List.set_cons_succ, va_rf_s, va_rf_n, pC_1, pC_21, aC_1, aC_21, gC_self, gC_new, eI_, eLg_, eV_, eInc_, eN_, eS_, eJ_, eCl_, nI_add, nI_mul, nI_subI, nI_clampI, inb_t, nI_lt0, nI_0le, nI_m1, nI_m1', nI_ofNat, bI_01, b01_0, b01_1, bI_eq0, bI_eq1, bb_01, true_or, or_true, false_or, or_false, eq_self, Nat.reduceAdd, Nat.reduceMul, Nat.reduceSub, Nat.reduceLT, Nat.reduceLeDiff, Nat.reduceEqDiff, ↓reduceIte, and_true, true_and, and_self, Nat.add_zero, Nat.zero_add, not_false_eq_true, not_true_eq_false, faV_n, faV_s, m1_lt0, m1_0le, m1_eq0, m1_le, le_m1, m1_lt, lt_m1, nI_100k, nI_100, upd_e, upd_n, pC_pC, gC_ne', gC_old', nI_lt_t, nI_lt_f, nI_le_t, nI_le_f, nI_eq_t, nI_eq_f, nI_eq0_t, nI_eq0_f, nI_0lt_t, nI_0lt_f, nI_le0_t, nI_le0_f, nI_eq1_t, nI_eq1_f]
    have hn1 : n - 1 = 15 := by omega
    rw [hn1] at A1
    refine c_keeps1 hq hO (S1.hw hw) R1 N1 hj A1 (by omega) hcap hz (fun i hi => ?_) (fun σ' K => hP σ' ?_)
    · obtain ⟨fs, h⟩ := hx (i + 1) (by omega)
      exact ⟨fs, by rw [if_neg (by omega)]; exact S1.g (fun z => by have := xe (i + 1) (by omega); omega) h⟩
    · obtain ⟨d', cap', F, AL', c1, c2, hd', hd2, hd3, g, LL⟩ := K
      have e1 := S1.1
      have e2 := S1.2.1
      refine ⟨d', cap', _, ⟨by have := F.1; omega, by have := F.2.1; omega, fun b hb hs => (F.2.2.1 b (by omega) hs).trans (S1'.2.2.1 b hs), F.2.2.2⟩, by rw [show ksN n = 15 + 1 by unfold ksN; rw [if_pos h16]]; exact AL', fun i hi => ?_, ?_, c1, c2, by rw [e1] at hd'; exact hd', by rw [e1] at hd2; exact hd2, by rw [e1] at hd3; exact hd3, by rw [e1] at g; exact g, by rw [e1] at LL; exact LL⟩
      · have : ksN n = 16 := by unfold ksN; rw [if_pos h16]
        show (if i = 15 then σ1.1 else if i < 0 then x i else x (i + 1)) = _
        rw [if_neg (by omega), if_neg (by omega), if_pos h16]
      · have : ksN n = 16 := by unfold ksN; rw [if_pos h16]
        rw [this, e1]
        rfl
  · have hk : ksN n = n + 1 := by unfold ksN; rw [if_neg h16]
    simp (disch := first | omega | (simp only [aC_1, pC_1]; omega)) only [ec_aload_n (i := 0) dX1_keeps_0 rfl, ec_get dX1_keeps_1, gw_0_81_0, ec_cv0 dX1_keeps_4 iN_0_155 cna_0_155, vcE_o ccp_0_155_36, ec_bipush (v := nI 16) dX1_keeps_7 rfl, ec_icmp_ne (t := 21) dX1_keeps_9 rfl, ec_aload_n (i := 0) dX1_keeps_12 rfl, ec_get dX1_keeps_13, ec_iconst (v := nI 0) dX1_keeps_16 rfl, ec_cv1 dX1_keeps_17 iN_0_239 cna_0_239, vcE_o ccp_0_239_36, ec_pop dX1_keeps_20, ec_get dX1_keeps_22, ec_new dX1_keeps_25 ncp_0_242 cSz_29 cDf_29, ec_dup dX1_keeps_28, ec_iload_n (i := 1) dX1_keeps_29 rfl, ec_aload_n (i := 0) dX1_keeps_30 rfl, ec_get dX1_keeps_31, gw_0_70_0, ec_get dX1_keeps_34, gw_0_189_2, ec_iload_n (i := 1) dX1_keeps_37 rfl, ec_aald dX1_keeps_38, raE_4, raE_5, raE_6, raE_7, raE_8, ec_cv0 dX1_keeps_39 iN_0_244 cna_0_244, vcE_o ccp_0_244_5, ec_ci2 dX1_keeps_42 iN_0_248 ccp_0_248_99, ec_cv1 dX1_keeps_45 iN_0_251 cna_0_251, vcE_o ccp_0_251_36, ec_pop dX1_keeps_48, ec_vret dX1_keeps_49, cat1_i, cat1_r, cat1_u, catB_n, catB_i, catB_r, catB_l, catB_u, lg_0, lg_s, ldEI_i, ldEL_l, ldEA_r, ldEA_n, lin_0, lin_s, ls1_0, ls1_1, ls1_s, ls2_0, ls2_1, ls2_s, lcl_i, lcl_r, lcl_l, lcl_u, lcl_n, lent_i, lent_r, lent_l, lent_u, lent_0, lent_s, Option.toList_some, Option.toList_none, List.cons_append, List.nil_append, Nat.reduceAdd, true_and, vin_0, vin_s, aE_0, aE_s, EK_r, EK_t, List.set_cons_zero, List.set_cons_succ, va_rf_s, va_rf_n, pC_1, pC_21, aC_1, aC_21, gC_self, gC_new, eI_, eLg_, eV_, eInc_, eN_, eS_, eJ_, eCl_, nI_add, nI_mul, nI_subI, nI_clampI, inb_t, nI_lt0, nI_0le, nI_m1, nI_m1', nI_ofNat, bI_01, b01_0, b01_1, bI_eq0, bI_eq1, bb_01, true_or, or_true, false_or, or_false, eq_self, Nat.reduceAdd, Nat.reduceMul, Nat.reduceSub, Nat.reduceLT, Nat.reduceLeDiff, Nat.reduceEqDiff, ↓reduceIte, and_true, true_and, and_self, Nat.add_zero, Nat.zero_add, not_false_eq_true, not_true_eq_false, faV_n, faV_s, m1_lt0, m1_0le, m1_eq0, m1_le, le_m1, m1_lt, lt_m1, nI_100k, nI_100, upd_e, upd_n, pC_pC, gC_ne', gC_old', nI_lt_t, nI_lt_f, nI_le_t, nI_le_f, nI_eq_t, nI_eq_f, nI_eq0_t, nI_eq0_f, nI_0lt_t, nI_0lt_f, nI_le0_t, nI_le0_f, nI_eq1_t, nI_eq1_f, hR', a1, sz]
    refine c_keeps1 hq hO hw hR hN hj hA (by omega) hcap hz hx (fun σ' K => hP σ' ?_)
    obtain ⟨d', cap', F, AL', c1, c2, hd', hd2, hd3, g, LL⟩ := K
    refine ⟨d', cap', _, F, by rw [hk]; exact AL', fun i hi => ?_, ?_, c1, c2, hd', hd2, hd3, g, LL⟩
    · show (if i = n then σ.1 else x i) = _
      rw [if_neg (by omega), if_neg h16]
    · rw [hk]
      exact if_pos (by omega)
theorem Fs.W {S : Nat → Prop} {σ σ' : CM} (h : Fs S σ σ') : σ'.1 = σ.1 ∧ σ'.2.1 = σ.2.1 := ⟨h.1, h.2.1⟩
end
