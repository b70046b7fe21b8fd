set_option maxRecDepth 100000
/-! THE COMPONENT: one lock that is gone on with -/
section
variable {zs : Nat → Nat} {e : Nat} {σ : CM} {P : CR → Prop} {ow tl : Nat → Nat} {t n0 qa fx : Nat} {q : QT} {s L : Nat → Nat} {x0 hl : Nat} {op al : Int32} {gg : Int64} {A : Nat → Nat} {B : Nat}
theorem NightAt.k2 {σ' : CM} {U : Nat → Prop} (hN : NightAt ow t tl σ n0 qa fx q s L) (hQ : QC ow σ' qa fx q) (hS : Fs (fun b => b = fx ∨ b = n0 + 3 ∨ U b) σ σ') (hU : Apt ow tl t q U) (hF : ∃ F, gC σ' (n0 + 3) = some (.inr (0, 4, .inl F))) : NightAt ow t tl σ' n0 qa fx q s L := by
  have hfx := hQ.ofx
  obtain ⟨⟨a1, lf, kf, ⟨b1, b2, b3, b4, b5, b6⟩, a3⟩, -, c1, hT, ht, hl⟩ := hN
  have h2 := hT.1
  have key : ∀ b, ow b = t → b ≠ n0 + 3 → gC σ' b = gC σ b := fun b hb hn => hS.2.2.1 b (fun z => by
    rcases z with z | z | z
    · rw [z] at hb; omega
    · exact hn z
    · exact (hU b z).2.2.1 hb)
  have tg := fun i (hi : i < 11) => ht (n0 + i) (by omega) (by omega)
  have kt : ∀ i, i < 11 → i ≠ 3 → gC σ' (n0 + i) = gC σ (n0 + i) := fun i hi h3 => key _ (tg i hi) (by omega)
  refine ⟨⟨(kt 0 (by omega) (by omega)).trans a1, lf, kf, ⟨(kt 1 (by omega) (by omega)).trans b1, (kt 2 (by omega) (by omega)).trans b2, hF, (kt 4 (by omega) (by omega)).trans b4, fun j hj => ?_, ?_⟩, a3⟩, hQ, fun d hd => ⟨?_, (c1 d hd).2⟩, hT, ht, hl⟩
  · obtain ⟨F, hF⟩ := b5 j hj
    exact ⟨F, by rw [Nat.add_assoc] at hF ⊢; exact (kt (5 + j) (by omega) (by omega)).trans hF⟩
  · obtain ⟨F, hF⟩ := b6
    exact ⟨F, (kt 10 (by omega) (by omega)).trans hF⟩
  · have hlt := hT.2.1 d hd
    refine (c1 d hd).1.kT (fun b hb => ?_)
    have hb' := hl d hd b hb
    refine hS.2.2.1 b (fun z => ?_)
    rcases z with z | z | z
    · rw [z] at hb'; omega
    · rw [z] at hb'
      have := tg 3 (by omega)
      omega
    · exact (hU b z).2.2.2 d hd hb'
theorem bel_bl {h : Nat} : bel4 (qK q h) (qTr q h) = blS q h := rfl
theorem fn_hd {s1 : Nat → Nat} {h : Nat} {g : Nat → Nat} (h4 : s1 400 = s 400) (h5 : s1 401 = s 401) : fnS q s1 h g = fun k => ftS q (s 400) (s 401) h k (g k) := by
  unfold fnS
  rw [h4, h5]
/-- a lock apart from the night -/
abbrev LkA (σ : CM) (ow tl : Nat → Nat) (t : Nat) (q : QT) (x0 l d : Nat) (s1 : Nat → Nat) : Prop := LockAt σ l (qDk q d) (rowOf s1 d) ∧ NV (qDk q d) (rowOf s1 d) ∧ Apt ow tl t q (LkT (qDk q d) l) ∧ ¬ LkT (qDk q d) l x0
theorem c_cTried {l d h sl : Nat} {g : Nat → Nat} {s1 : Nat → Nat} (hq : QOK q) (hR : gC σ x0 = some (.inl (0, rtF n0 hl op al gg A))) (hX : Apt ow tl t q (fun b => b = x0)) (hN : NightAt ow t tl σ n0 qa fx q s L) (hK : LkA σ ow tl t q x0 l d s1) (hd : d < qD q) (hh : h < qH q) (h4 : s1 400 = s 400) (h5 : s1 401 = s 401) (hO : SO B s1) (hB : B ≤ 5899000) (hsl : sl < 2401) (hg : ∀ k, k < 4 → sl / 7 ^ k % 7 = g k)
    (hP : ∀ σ', Fs (fun b => b = fx ∨ b = n0 + 3 ∨ LkT (qDk q d) l b) σ σ' → NightAt ow t tl σ' n0 qa fx q s L → LkA σ' ow tl t q x0 l d (tS q s1 d h g) → gC σ' x0 = some (.inl (0, rtF n0 hl op al gg A)) → P (.inl (some (.int (bI (oS q s1 d h g)))), σ')) : EC zs (Jc zs) (e + 127) cX1_isTried (some .boolean) 0 0 0 [some (.ref x0), some (.ref l), some (.int (nI h)), some (.int (nI sl))] [] σ P := by
  have hD := hq.1.2.1
  obtain ⟨hL, hV, hA, hx⟩ := hK
  have nw := fun P e => c_now (zs := zs) (e := e) (P := P) hR hN.1.1
  obtain ⟨⟨h0, lf, kf, hB1, hlf⟩, hQ, hLs, hT, ht, hlt⟩ := id hN
  obtain ⟨hl', nl, ka, na, sl', fo, xl, xe, hxx, mx, h1, h2⟩ := hQ.H
  obtain ⟨mc, dd, hl1⟩ := h2.1.ob
  have h1' := h1
  unfold qFs at h1'
  obtain ⟨ha, hk4, -⟩ := h2.h hq hh
  have gt := fun P e => c_get (zs := zs) (e := e) (P := P) h2.1 hh
  have cc := fun (K : Prop) => kH_0_27 (K := K) ha hk4
  have hR' := hR
  unfold rtF at hR'
  have h0' := h0
  unfold nFs at h0'
  simp (disch := omega) only [ec_aload_n (i := 1) dX1_isTried_0 rfl, ec_aload_n (i := 0) dX1_isTried_1 rfl, ec_cv0 dX1_isTried_2 iN_0_143 cna_0_143, vcE_o ccp_0_143_0, ec_aload_n (i := 0) dX1_isTried_5 rfl, ec_cv0 dX1_isTried_6 iN_0_143 cna_0_143, ec_get dX1_isTried_9, gw_0_152_3, ec_iload_n (i := 2) dX1_isTried_12 rfl, ec_cv1 dX1_isTried_13 iN_0_170 cna_0_170, vcE_o ccp_0_170_36, ec_cast dX1_isTried_16, ec_castN dX1_isTried_16, kE_o kcc_0_27_12, kE_o kcc_0_27_13, kE_o kcc_0_27_14, kE_o kcc_0_27_15, kE_o kcc_0_27_16, ec_aload_n (i := 0) dX1_isTried_19 rfl, ec_get dX1_isTried_20, gw_0_70_0, ec_iload_n (i := 2) dX1_isTried_23 rfl, ec_iload_n (i := 3) dX1_isTried_24 rfl, ec_cv2 dX1_isTried_25 iN_0_221 cna_0_221, vcE_o ccp_0_221_2, ec_aload_n (i := 0) dX1_isTried_28 rfl, ec_get dX1_isTried_29, ec_get dX1_isTried_32, gw_0_275_2, ec_aload_n (i := 0) dX1_isTried_35 rfl, ec_get dX1_isTried_36, ec_get dX1_isTried_39, gw_0_278_2, ec_cv5 dX1_isTried_42 iN_0_281 cna_0_281, vcE_o ccp_0_281_5, ec_iret dX1_isTried_45, ec_zret dX1_isTried_45, cat1_i, cat1_r, cat1_u, catB_n, catB_i, catB_r, catB_l, catB_u, lg_0, lg_s, ldEI_i, ldEL_l, ldEA_r, ldEA_n, lin_0, lin_s, ls1_0, ls1_1, ls1_s, ls2_0, ls2_1, ls2_s, lcl_i, lcl_r, lcl_l, lcl_u, lcl_n, lent_i, lent_r, lent_l, lent_u, lent_0, lent_s, Option.toList_some, Option.toList_none, List.cons_append, List.nil_append, Nat.reduceAdd, true_and, vin_0, vin_s, aE_0, aE_s, EK_r, EK_t, List.set_cons_zero, List.set_cons_succ, va_rf_s, va_rf_n, pC_1, pC_21, aC_1, aC_21, gC_self, gC_new, eI_, eLg_, eV_, eInc_, eN_, eS_, eJ_, eCl_, nI_add, nI_mul, nI_subI, nI_clampI, inb_t, nI_lt0, nI_0le, nI_m1, nI_m1', nI_ofNat, bI_01, b01_0, b01_1, bI_eq0, bI_eq1, bb_01, true_or, or_true, false_or, or_false, eq_self, Nat.reduceAdd, Nat.reduceMul, Nat.reduceSub, Nat.reduceLT, Nat.reduceLeDiff, Nat.reduceEqDiff, ↓reduceIte, and_true, true_and, and_self, Nat.add_zero, Nat.zero_add, not_false_eq_true, not_true_eq_false, faV_n, faV_s, m1_lt0, m1_0le, m1_eq0, m1_le, le_m1, m1_lt, lt_m1, nI_100k, nI_100, upd_e, upd_n, pC_pC, gC_ne', gC_old', nI_lt_t, nI_lt_f, nI_le_t, nI_le_f, nI_eq_t, nI_eq_f, nI_eq0_t, nI_eq0_f, nI_0lt_t, nI_0lt_f, nI_le0_t, nI_le0_f, nI_eq1_t, nI_eq1_f, hR', nw, h1', hl1, gt, cc, h0']
  refine c_feels (e := e) hq h0 hB1.2.2.1 hQ hh hN.felt.1 hsl hg hN.felt.2 (fun σ1 S1 Q1 F1 => ?_)
  have ofx := hQ.ofx
  have t2 := hT.1
  have t3 := ht (n0 + 3) (by omega) (by omega)
  have ox := hX x0 rfl
  have N1 := hN.k Q1 S1 (by obtain ⟨F, h, -⟩ := F1; exact ⟨F, h⟩)
  have R1 : gC σ1 x0 = some (.inl (0, rtF n0 hl op al gg A)) := S1.g (fun z => by
    rcases z with z | z
    · rw [z] at ox; omega
    · rw [z] at ox; omega) hR
  have R1' := R1
  unfold rtF at R1'
  have h0'' := N1.1.1
  unfold nFs at h0''
  have L1 : LockAt σ1 l (qDk q d) (rowOf s1 d) := hL.kT (fun b hb => S1.2.2.1 b (fun z => by
    have := hA b hb
    rcases z with z | z
    · rw [z] at this; omega
    · rw [z] at this; omega))
  have hk5 := (hq.2.2.2.1 d hd).1
  have x2 := (h2.2 h hh).2.1
  have x1' : HandAt σ1 (hxx h) (qK q h) (qN q h) (mx h) (qSl q h) (qTr q h) := S1.g (fun z => by
    rcases z with z | z
    · rw [z] at x2; omega
    · rw [z] at x2; omega) ha
  obtain ⟨lfs, hlc⟩ : ∃ fs, gC σ1 l = some (.inl (5, fs)) := ⟨_, L1.1⟩
  simp (disch := omega) only [ec_aload_n (i := 1) dX1_isTried_0 rfl, ec_aload_n (i := 0) dX1_isTried_1 rfl, ec_cv0 dX1_isTried_2 iN_0_143 cna_0_143, vcE_o ccp_0_143_0, ec_aload_n (i := 0) dX1_isTried_5 rfl, ec_cv0 dX1_isTried_6 iN_0_143 cna_0_143, ec_get dX1_isTried_9, gw_0_152_3, ec_iload_n (i := 2) dX1_isTried_12 rfl, ec_cv1 dX1_isTried_13 iN_0_170 cna_0_170, vcE_o ccp_0_170_36, ec_cast dX1_isTried_16, ec_castN dX1_isTried_16, kE_o kcc_0_27_12, kE_o kcc_0_27_13, kE_o kcc_0_27_14, kE_o kcc_0_27_15, kE_o kcc_0_27_16, ec_aload_n (i := 0) dX1_isTried_19 rfl, ec_get dX1_isTried_20, gw_0_70_0, ec_iload_n (i := 2) dX1_isTried_23 rfl, ec_iload_n (i := 3) dX1_isTried_24 rfl, ec_cv2 dX1_isTried_25 iN_0_221 cna_0_221, vcE_o ccp_0_221_2, ec_aload_n (i := 0) dX1_isTried_28 rfl, ec_get dX1_isTried_29, ec_get dX1_isTried_32, gw_0_275_2, ec_aload_n (i := 0) dX1_isTried_35 rfl, ec_get dX1_isTried_36, ec_get dX1_isTried_39, gw_0_278_2, ec_cv5 dX1_isTried_42 iN_0_281 cna_0_281, vcE_o ccp_0_281_5, ec_iret dX1_isTried_45, ec_zret dX1_isTried_45, cat1_i, cat1_r, cat1_u, catB_n, catB_i, catB_r, catB_l, catB_u, lg_0, lg_s, ldEI_i, ldEL_l, ldEA_r, ldEA_n, lin_0, lin_s, ls1_0, ls1_1, ls1_s, ls2_0, ls2_1, ls2_s, lcl_i, lcl_r, lcl_l, lcl_u, lcl_n, lent_i, lent_r, lent_l, lent_u, lent_0, lent_s, Option.toList_some, Option.toList_none, List.cons_append, List.nil_append, Nat.reduceAdd, true_and, vin_0, vin_s, aE_0, aE_s, EK_r, EK_t, List.set_cons_zero, List.set_cons_succ, va_rf_s, va_rf_n, pC_1, pC_21, aC_1, aC_21, gC_self, gC_new, eI_, eLg_, eV_, eInc_, eN_, eS_, eJ_, eCl_, nI_add, nI_mul, nI_subI, nI_clampI, inb_t, nI_lt0, nI_0le, nI_m1, nI_m1', nI_ofNat, bI_01, b01_0, b01_1, bI_eq0, bI_eq1, bb_01, true_or, or_true, false_or, or_false, eq_self, Nat.reduceAdd, Nat.reduceMul, Nat.reduceSub, Nat.reduceLT, Nat.reduceLeDiff, Nat.reduceEqDiff, ↓reduceIte, and_true, true_and, and_self, Nat.add_zero, Nat.zero_add, not_false_eq_true, not_true_eq_false, faV_n, faV_s, m1_lt0, m1_0le, m1_eq0, m1_le, le_m1, m1_lt, lt_m1, nI_100k, nI_100, upd_e, upd_n, pC_pC, gC_ne', gC_old', nI_lt_t, nI_lt_f, nI_le_t, nI_le_f, nI_eq_t, nI_eq_f, nI_eq0_t, nI_eq0_f, nI_0lt_t, nI_0lt_f, nI_le0_t, nI_le0_f, nI_eq1_t, nI_eq1_f, R1', h0'', hlc]
  refine c_tried (e := e + 1) L1 hk5 Q1 x1' hk4 F1 (fun k _ => ftS_le) (fun k5 z => ?_) (fun k5 z => ?_) (fun z => ?_) (hO d (by omega)) hB hV (fun b hb => ⟨(hA b hb).1, (hA b hb).2.1⟩) (fun σ2 S2 Q2 L2 => ?_)
  · have := hA (l + 2) (Or.inr (Or.inr ⟨k5, rfl⟩))
    rw [← z] at this
    omega
  · have := hA (l + 2) (Or.inr (Or.inr ⟨k5, rfl⟩))
    rw [← z] at this
    omega
  · rw [← z] at ofx
    omega
  · simp (disch := omega) only [ec_aload_n (i := 1) dX1_isTried_0 rfl, ec_aload_n (i := 0) dX1_isTried_1 rfl, ec_cv0 dX1_isTried_2 iN_0_143 cna_0_143, vcE_o ccp_0_143_0, ec_aload_n (i := 0) dX1_isTried_5 rfl, ec_cv0 dX1_isTried_6 iN_0_143 cna_0_143, ec_get dX1_isTried_9, gw_0_152_3, ec_iload_n (i := 2) dX1_isTried_12 rfl, ec_cv1 dX1_isTried_13 iN_0_170 cna_0_170, vcE_o ccp_0_170_36, ec_cast dX1_isTried_16, ec_castN dX1_isTried_16, kE_o kcc_0_27_12, kE_o kcc_0_27_13, kE_o kcc_0_27_14, kE_o kcc_0_27_15, kE_o kcc_0_27_16, ec_aload_n (i := 0) dX1_isTried_19 rfl, ec_get dX1_isTried_20, gw_0_70_0, ec_iload_n (i := 2) dX1_isTried_23 rfl, ec_iload_n (i := 3) dX1_isTried_24 rfl, ec_cv2 dX1_isTried_25 iN_0_221 cna_0_221, vcE_o ccp_0_221_2, ec_aload_n (i := 0) dX1_isTried_28 rfl, ec_get dX1_isTried_29, ec_get dX1_isTried_32, gw_0_275_2, ec_aload_n (i := 0) dX1_isTried_35 rfl, ec_get dX1_isTried_36, ec_get dX1_isTried_39, gw_0_278_2, ec_cv5 dX1_isTried_42 iN_0_281 cna_0_281, vcE_o ccp_0_281_5, ec_iret dX1_isTried_45, ec_zret dX1_isTried_45, cat1_i, cat1_r, cat1_u, catB_n, catB_i, catB_r, catB_l, catB_u, lg_0, lg_s, ldEI_i, ldEL_l, ldEA_r, ldEA_n, lin_0, lin_s, ls1_0, ls1_1, ls1_s, ls2_0, ls2_1, ls2_s, lcl_i, lcl_r, lcl_l, lcl_u, lcl_n, lent_i, lent_r, lent_l, lent_u, lent_0, lent_s, Option.toList_some, Option.toList_none, List.cons_append, List.nil_append, Nat.reduceAdd, true_and, vin_0, vin_s, aE_0, aE_s, EK_r, EK_t, List.set_cons_zero, List.set_cons_succ, va_rf_s, va_rf_n, pC_1, pC_21, aC_1, aC_21, gC_self, gC_new, eI_, eLg_, eV_, eInc_, eN_, eS_, eJ_, eCl_, nI_add, nI_mul, nI_subI, nI_clampI, inb_t, nI_lt0, nI_0le, nI_m1, nI_m1', nI_ofNat, bI_01, b01_0, b01_1, bI_eq0, bI_eq1, bb_01, true_or, or_true, false_or, or_false, eq_self, Nat.reduceAdd, Nat.reduceMul, Nat.reduceSub, Nat.reduceLT, Nat.reduceLeDiff, Nat.reduceEqDiff, ↓reduceIte, and_true, true_and, and_self, Nat.add_zero, Nat.zero_add, not_false_eq_true, not_true_eq_false, faV_n, faV_s, m1_lt0, m1_0le, m1_eq0, m1_le, le_m1, m1_lt, lt_m1, nI_100k, nI_100, upd_e, upd_n, pC_pC, gC_ne', gC_old', nI_lt_t, nI_lt_f, nI_le_t, nI_le_f, nI_eq_t, nI_eq_f, nI_eq0_t, nI_eq0_f, nI_0lt_t, nI_0lt_f, nI_le0_t, nI_le0_f, nI_eq1_t, nI_eq1_f]
    have e0 : rowOf (tS q s1 d h g) d = trS (qL q) (qDk q d) (qK q h) (bel4 (qK q h) (qTr q h)) (rowOf s1 d) (fun k => ftS q (s 400) (s 401) h k (g k)) (s 400) (s 401) := by
      unfold tS
      rw [fn_hd h4 h5, h4, h5, row_set (Cn.row.tr (fun k _ => ftS_le))]
      rfl
    have e1 : oS q s1 d h g = opS (qDk q d) (qK q h) (rowOf s1 d) (fun k => ftS q (s 400) (s 401) h k (g k)) := by
      unfold oS
      rw [fn_hd h4 h5]
    rw [← e1]
    refine hP σ2 ((S1.sub (fun b hb => ?_)).tr (S2.sub (fun b hb => ?_))) (N1.k2 (U := LkT (qDk q d) l) Q2 (S2.sub (fun b hb => ?_)) hA ?_) ⟨?_, ?_, hA, hx⟩ (S2.g (fun z => ?_) R1)
    · rcases hb with z | z
      · exact Or.inl z
      · exact Or.inr (Or.inl z)
    · rcases hb with z | z
      · exact Or.inr (Or.inr z)
      · exact Or.inl z
    · rcases hb with z | z
      · exact Or.inr (Or.inr z)
      · exact Or.inl z
    · obtain ⟨F, h, -⟩ := F1
      exact ⟨F, S2.g (fun z => by
        rcases z with z | z
        · have := hA _ z; omega
        · rw [z] at t3; omega) h⟩
    · rw [e0]; exact L2
    · rw [e0]; exact hV.tr (fun k _ => ftS_le)
    · rcases z with z | z
      · exact hx z
      · rw [z] at ox; omega
theorem c_opensTo {l d h : Nat} {s1 : Nat → Nat} (hq : QOK q) (hR : gC σ x0 = some (.inl (0, rtF n0 hl op al gg A))) (hX : Apt ow tl t q (fun b => b = x0)) (hN : NightAt ow t tl σ n0 qa fx q s L) (hK : LkA σ ow tl t q x0 l d s1) (hd : d < qD q) (hh : h < qH q) (h4 : s1 400 = s 400) (h5 : s1 401 = s 401) (hO : SO B s1) (hB : B ≤ 5899000)
    (hP : ∀ σ', Fs (fun b => b = fx ∨ b = n0 + 3) σ σ' → NightAt ow t tl σ' n0 qa fx q s L → LkA σ' ow tl t q x0 l d s1 → gC σ' x0 = some (.inl (0, rtF n0 hl op al gg A)) → P (.inl (some (.int (bI (oS q s1 d h noG)))), σ')) : EC zs (Jc zs) (e + 127) cX1_opensTo (some .boolean) 0 0 0 [some (.ref x0), some (.ref l), some (.int (nI h))] [] σ P := by
  have hD := hq.1.2.1
  obtain ⟨hL, hV, hA, hx⟩ := hK
  have nw := fun P e => c_now (zs := zs) (e := e) (P := P) hR hN.1.1
  obtain ⟨⟨h0, lf, kf, hB1, hlf⟩, hQ, hLs, hT, ht, hlt⟩ := id hN
  obtain ⟨hl', nl, ka, na, sl', fo, xl, xe, hxx, mx, h1, h2⟩ := hQ.H
  obtain ⟨mc, dd, hl1⟩ := h2.1.ob
  have h1' := h1
  unfold qFs at h1'
  obtain ⟨ha, hk4, -⟩ := h2.h hq hh
  have gt := fun P e => c_get (zs := zs) (e := e) (P := P) h2.1 hh
  have cc := fun (K : Prop) => kH_0_27 (K := K) ha hk4
  have hR' := hR
  unfold rtF at hR'
  have h0' := h0
  unfold nFs at h0'
  simp (disch := omega) only [ec_aload_n (i := 1) dX1_opensTo_0 rfl, ec_aload_n (i := 0) dX1_opensTo_1 rfl, ec_cv0 dX1_opensTo_2 iN_0_143 cna_0_143, vcE_o ccp_0_143_0, ec_get dX1_opensTo_5, gw_0_152_3, ec_iload_n (i := 2) dX1_opensTo_8 rfl, ec_cv1 dX1_opensTo_9 iN_0_170 cna_0_170, vcE_o ccp_0_170_36, ec_cast dX1_opensTo_12, ec_castN dX1_opensTo_12, kE_o kcc_0_27_12, kE_o kcc_0_27_13, kE_o kcc_0_27_14, kE_o kcc_0_27_15, kE_o kcc_0_27_16, ec_aload_n (i := 0) dX1_opensTo_15 rfl, ec_get dX1_opensTo_16, gw_0_70_0, ec_iload_n (i := 2) dX1_opensTo_19 rfl, ec_sipush (v := nI 1200) dX1_opensTo_20 rfl, ec_cv2 dX1_opensTo_23 iN_0_221 cna_0_221, vcE_o ccp_0_221_2, ec_cv2 dX1_opensTo_26 iN_0_285 cna_0_285, vcE_o ccp_0_285_5, ec_iret dX1_opensTo_29, ec_zret dX1_opensTo_29, cat1_i, cat1_r, cat1_u, catB_n, catB_i, catB_r, catB_l, catB_u, lg_0, lg_s, ldEI_i, ldEL_l, ldEA_r, ldEA_n, lin_0, lin_s, ls1_0, ls1_1, ls1_s, ls2_0, ls2_1, ls2_s, lcl_i, lcl_r, lcl_l, lcl_u, lcl_n, lent_i, lent_r, lent_l, lent_u, lent_0, lent_s, Option.toList_some, Option.toList_none, List.cons_append, List.nil_append, Nat.reduceAdd, true_and, vin_0, vin_s, aE_0, aE_s, EK_r, EK_t, List.set_cons_zero, List.set_cons_succ, va_rf_s, va_rf_n, pC_1, pC_21, aC_1, aC_21, gC_self, gC_new, eI_, eLg_, eV_, eInc_, eN_, eS_, eJ_, eCl_, nI_add, nI_mul, nI_subI, nI_clampI, inb_t, nI_lt0, nI_0le, nI_m1, nI_m1', nI_ofNat, bI_01, b01_0, b01_1, bI_eq0, bI_eq1, bb_01, true_or, or_true, false_or, or_false, eq_self, Nat.reduceAdd, Nat.reduceMul, Nat.reduceSub, Nat.reduceLT, Nat.reduceLeDiff, Nat.reduceEqDiff, ↓reduceIte, and_true, true_and, and_self, Nat.add_zero, Nat.zero_add, not_false_eq_true, not_true_eq_false, faV_n, faV_s, m1_lt0, m1_0le, m1_eq0, m1_le, le_m1, m1_lt, lt_m1, nI_100k, nI_100, upd_e, upd_n, pC_pC, gC_ne', gC_old', nI_lt_t, nI_lt_f, nI_le_t, nI_le_f, nI_eq_t, nI_eq_f, nI_eq0_t, nI_eq0_f, nI_0lt_t, nI_0lt_f, nI_le0_t, nI_le0_f, nI_eq1_t, nI_eq1_f, hR', nw, h1', hl1, gt, cc, h0']
  refine c_feels (e := e) hq h0 hB1.2.2.1 hQ hh hN.felt.1 (show 1200 < 2401 by omega) dig_PLAIN hN.felt.2 (fun σ1 S1 Q1 F1 => ?_)
  have ofx := hQ.ofx
  have t2 := hT.1
  have t3 := ht (n0 + 3) (by omega) (by omega)
  have ox := hX x0 rfl
  have N1 := hN.k Q1 S1 (by obtain ⟨F, h, -⟩ := F1; exact ⟨F, h⟩)
  have R1 : gC σ1 x0 = some (.inl (0, rtF n0 hl op al gg A)) := S1.g (fun z => by
    rcases z with z | z
    · rw [z] at ox; omega
    · rw [z] at ox; omega) hR
  have L1 : LockAt σ1 l (qDk q d) (rowOf s1 d) := hL.kT (fun b hb => S1.2.2.1 b (fun z => by
    have := hA b hb
    rcases z with z | z
    · rw [z] at this; omega
    · rw [z] at this; omega))
  have hk5 := (hq.2.2.2.1 d hd).1
  have x2 := (h2.2 h hh).2.1
  have x1' : HandAt σ1 (hxx h) (qK q h) (qN q h) (mx h) (qSl q h) (qTr q h) := S1.g (fun z => by
    rcases z with z | z
    · rw [z] at x2; omega
    · rw [z] at x2; omega) ha
  obtain ⟨lfs, hlc⟩ : ∃ fs, gC σ1 l = some (.inl (5, fs)) := ⟨_, L1.1⟩
  have e1 : oS q s1 d h noG = opS (qDk q d) (qK q h) (rowOf s1 d) (fun k => ftS q (s 400) (s 401) h k (noG k)) := by
    unfold oS
    rw [fn_hd h4 h5]
  simp (disch := omega) only [ec_aload_n (i := 1) dX1_opensTo_0 rfl, ec_aload_n (i := 0) dX1_opensTo_1 rfl, ec_cv0 dX1_opensTo_2 iN_0_143 cna_0_143, vcE_o ccp_0_143_0, ec_get dX1_opensTo_5, gw_0_152_3, ec_iload_n (i := 2) dX1_opensTo_8 rfl, ec_cv1 dX1_opensTo_9 iN_0_170 cna_0_170, vcE_o ccp_0_170_36, ec_cast dX1_opensTo_12, ec_castN dX1_opensTo_12, kE_o kcc_0_27_12, kE_o kcc_0_27_13, kE_o kcc_0_27_14, kE_o kcc_0_27_15, kE_o kcc_0_27_16, ec_aload_n (i := 0) dX1_opensTo_15 rfl, ec_get dX1_opensTo_16, gw_0_70_0, ec_iload_n (i := 2) dX1_opensTo_19 rfl, ec_sipush (v := nI 1200) dX1_opensTo_20 rfl, ec_cv2 dX1_opensTo_23 iN_0_221 cna_0_221, vcE_o ccp_0_221_2, ec_cv2 dX1_opensTo_26 iN_0_285 cna_0_285, vcE_o ccp_0_285_5, ec_iret dX1_opensTo_29, ec_zret dX1_opensTo_29, cat1_i, cat1_r, cat1_u, catB_n, catB_i, catB_r, catB_l, catB_u, lg_0, lg_s, ldEI_i, ldEL_l, ldEA_r, ldEA_n, lin_0, lin_s, ls1_0, ls1_1, ls1_s, ls2_0, ls2_1, ls2_s, lcl_i, lcl_r, lcl_l, lcl_u, lcl_n, lent_i, lent_r, lent_l, lent_u, lent_0, lent_s, Option.toList_some, Option.toList_none, List.cons_append, List.nil_append, Nat.reduceAdd, true_and, vin_0, vin_s, aE_0, aE_s, EK_r, EK_t, List.set_cons_zero, List.set_cons_succ, va_rf_s, va_rf_n, pC_1, pC_21, aC_1, aC_21, gC_self, gC_new, eI_, eLg_, eV_, eInc_, eN_, eS_, eJ_, eCl_, nI_add, nI_mul, nI_subI, nI_clampI, inb_t, nI_lt0, nI_0le, nI_m1, nI_m1', nI_ofNat, bI_01, b01_0, b01_1, bI_eq0, bI_eq1, bb_01, true_or, or_true, false_or, or_false, eq_self, Nat.reduceAdd, Nat.reduceMul, Nat.reduceSub, Nat.reduceLT, Nat.reduceLeDiff, Nat.reduceEqDiff, ↓reduceIte, and_true, true_and, and_self, Nat.add_zero, Nat.zero_add, not_false_eq_true, not_true_eq_false, faV_n, faV_s, m1_lt0, m1_0le, m1_eq0, m1_le, le_m1, m1_lt, lt_m1, nI_100k, nI_100, upd_e, upd_n, pC_pC, gC_ne', gC_old', nI_lt_t, nI_lt_f, nI_le_t, nI_le_f, nI_eq_t, nI_eq_f, nI_eq0_t, nI_eq0_f, nI_0lt_t, nI_0lt_f, nI_le0_t, nI_le0_f, nI_eq1_t, nI_eq1_f, hlc, c_lopens (zs := zs) (e := e + 125) L1 hk5 x1' hk4 F1 (fun k _ => ftS_le) (hO d (by omega)) (show B ≤ 5900000 by omega)]
  rw [← e1]
  exact hP σ1 S1 N1 ⟨L1, hV, hA, hx⟩ R1
/-- a number that is no tag of the night's -/
def frT (t : Nat) (tl : Nat → Nat) : Nat := 2 + t + tl 0 + tl 1 + tl 2 + tl 3 + tl 4
theorem frT_ok {t : Nat} {tl : Nat → Nat} {q : QT} (h5 : qD q ≤ 5) : frT t tl ≠ 0 ∧ frT t tl ≠ 1 ∧ frT t tl ≠ t ∧ ∀ d', d' < qD q → frT t tl ≠ tl d' := by
  unfold frT
  refine ⟨by omega, by omega, by omega, fun d hd => ?_⟩
  have hc : d = 0 ∨ d = 1 ∨ d = 2 ∨ d = 3 ∨ d = 4 := by omega
  rcases hc with rfl | rfl | rfl | rfl | rfl <;> omega
theorem c_pt_lo {d h l m : Nat} {v : Int32} (hq : QOK q) (hd : d < qD q) (hh : h < qH q) (hm : m ≤ 99) (hX : Apt ow tl t q (fun b => b = x0)) {V : Option Nat} (hP : ∀ σ', Fs (fun b => b = fx ∨ b = n0 + 3 ∨ LkT (qDk q d) l b) σ σ' → NightAt ow t tl σ' n0 qa fx q s L → P (.inl (some (.int (faV V))), σ')) : ∀ (i k : Nat), k + i = m + 1 → ∀ (s1 : Nat → Nat) (B : Nat), ptS q d h i k s1 = V → SO B s1 → B + 82 * i ≤ 5899000 → s1 400 = s 400 → s1 401 = s 401 → ∀ σ1, Fs (fun b => b = fx ∨ b = n0 + 3 ∨ LkT (qDk q d) l b) σ σ1 → NightAt ow t tl σ1 n0 qa fx q s L → LkA σ1 ow tl t q x0 l d s1 → gC σ1 x0 = some (.inl (0, rtF n0 hl op al gg A)) → EC zs (Jc zs) (e + 128) cX1_patienceOf (some .int) 0 0 23 [some (.ref x0), some (.int (nI d)), some (.int v), some (.int (nI h)), some (.int (nI m)), some (.ref l), some (.int (nI k))] [] σ1 P
  | 0, k, hk, s1, B, hV, hO, hB, h4, h5, σ1, S1, N1, K1, R1 => by
    subst hV
    simp (disch := omega) only [ec_aload_n (i := 0) dX1_patienceOf_0 rfl, ec_get dX1_patienceOf_1, gw_0_70_0, ec_get dX1_patienceOf_4, gw_0_189_2, ec_iload_n (i := 1) dX1_patienceOf_7 rfl, ec_aald dX1_patienceOf_8, raE_4, raE_5, raE_6, raE_7, raE_8, ec_cv0 dX1_patienceOf_9 iN_0_244 cna_0_244, vcE_o ccp_0_244_5, ec_astore dX1_patienceOf_12, ec_astoreN dX1_patienceOf_12, ec_aload dX1_patienceOf_14, ec_iload_n (i := 2) dX1_patienceOf_16 rfl, ec_put dX1_patienceOf_17, pw_0_0_202_5, ec_iconst (v := nI 1) dX1_patienceOf_20 rfl, ec_istore dX1_patienceOf_21, ec_iload dX1_patienceOf_23, ec_iload dX1_patienceOf_25, ec_icmp_gt (t := 52) dX1_patienceOf_27 rfl, ec_aload_n (i := 0) dX1_patienceOf_30 rfl, ec_aload dX1_patienceOf_31, ec_iload_n (i := 3) dX1_patienceOf_33 rfl, ec_sipush (v := nI 1200) dX1_patienceOf_34 rfl, ec_cv3 dX1_patienceOf_37 iN_0_288 cna_0_288, vcE_o ccp_0_288_0, ec_if_eq (t := 46) dX1_patienceOf_40 rfl, ec_iload dX1_patienceOf_43, ec_iret dX1_patienceOf_45, ec_zret dX1_patienceOf_45, ec_iinc (v := nI 1) dX1_patienceOf_46 rfl, ec_goto (t := 23) dX1_patienceOf_49 rfl, ec_iconst (v := (-1)) dX1_patienceOf_52 rfl, ec_iret dX1_patienceOf_53, ec_zret dX1_patienceOf_53, cat1_i, cat1_r, cat1_u, catB_n, catB_i, catB_r, catB_l, catB_u, lg_0, lg_s, ldEI_i, ldEL_l, ldEA_r, ldEA_n, lin_0, lin_s, ls1_0, ls1_1, ls1_s, ls2_0, ls2_1, ls2_s, lcl_i, lcl_r, lcl_l, lcl_u, lcl_n, lent_i, lent_r, lent_l, lent_u, lent_0, lent_s, Option.toList_some, Option.toList_none, List.cons_append, List.nil_append, Nat.reduceAdd, true_and, vin_0, vin_s, aE_0, aE_s, EK_r, EK_t, List.set_cons_zero, List.set_cons_succ, va_rf_s, va_rf_n, pC_1, pC_21, aC_1, aC_21, gC_self, gC_new, eI_, eLg_, eV_, eInc_, eN_, eS_, eJ_, eCl_, nI_add, nI_mul, nI_subI, nI_clampI, inb_t, nI_lt0, nI_0le, nI_m1, nI_m1', nI_ofNat, bI_01, b01_0, b01_1, bI_eq0, bI_eq1, bb_01, true_or, or_true, false_or, or_false, eq_self, Nat.reduceAdd, Nat.reduceMul, Nat.reduceSub, Nat.reduceLT, Nat.reduceLeDiff, Nat.reduceEqDiff, ↓reduceIte, and_true, true_and, and_self, Nat.add_zero, Nat.zero_add, not_false_eq_true, not_true_eq_false, faV_n, faV_s, m1_lt0, m1_0le, m1_eq0, m1_le, le_m1, m1_lt, lt_m1, nI_100k, nI_100, upd_e, upd_n, pC_pC, gC_ne', gC_old', nI_lt_t, nI_lt_f, nI_le_t, nI_le_f, nI_eq_t, nI_eq_f, nI_eq0_t, nI_eq0_f, nI_0lt_t, nI_0lt_f, nI_le0_t, nI_le0_f, nI_eq1_t, nI_eq1_f]
    exact hP σ1 S1 N1
  | i + 1, k, hk, s1, B, hV, hO, hB, h4, h5, σ1, S1, N1, K1, R1 => by
    have hD := hq.1.2.1
    have R1' := R1
    unfold rtF at R1'
    rw [ec_iload dX1_patienceOf_23]
    simp (disch := omega) only [ec_aload_n (i := 0) dX1_patienceOf_0 rfl, ec_get dX1_patienceOf_1, gw_0_70_0, ec_get dX1_patienceOf_4, gw_0_189_2, ec_iload_n (i := 1) dX1_patienceOf_7 rfl, ec_aald dX1_patienceOf_8, raE_4, raE_5, raE_6, raE_7, raE_8, ec_cv0 dX1_patienceOf_9 iN_0_244 cna_0_244, vcE_o ccp_0_244_5, ec_astore dX1_patienceOf_12, ec_astoreN dX1_patienceOf_12, ec_aload dX1_patienceOf_14, ec_iload_n (i := 2) dX1_patienceOf_16 rfl, ec_put dX1_patienceOf_17, pw_0_0_202_5, ec_iconst (v := nI 1) dX1_patienceOf_20 rfl, ec_istore dX1_patienceOf_21, ec_iload dX1_patienceOf_25, ec_icmp_gt (t := 52) dX1_patienceOf_27 rfl, ec_aload_n (i := 0) dX1_patienceOf_30 rfl, ec_aload dX1_patienceOf_31, ec_iload_n (i := 3) dX1_patienceOf_33 rfl, ec_sipush (v := nI 1200) dX1_patienceOf_34 rfl, ec_cv3 dX1_patienceOf_37 iN_0_288 cna_0_288, vcE_o ccp_0_288_0, ec_if_eq (t := 46) dX1_patienceOf_40 rfl, ec_iload dX1_patienceOf_43, ec_iret dX1_patienceOf_45, ec_zret dX1_patienceOf_45, ec_iinc (v := nI 1) dX1_patienceOf_46 rfl, ec_goto (t := 23) dX1_patienceOf_49 rfl, ec_iconst (v := (-1)) dX1_patienceOf_52 rfl, ec_iret dX1_patienceOf_53, ec_zret dX1_patienceOf_53, cat1_i, cat1_r, cat1_u, catB_n, catB_i, catB_r, catB_l, catB_u, lg_0, lg_s, ldEI_i, ldEL_l, ldEA_r, ldEA_n, lin_0, lin_s, ls1_0, ls1_1, ls1_s, ls2_0, ls2_1, ls2_s, lcl_i, lcl_r, lcl_l, lcl_u, lcl_n, lent_i, lent_r, lent_l, lent_u, lent_0, lent_s, Option.toList_some, Option.toList_none, List.cons_append, List.nil_append, Nat.reduceAdd, true_and, vin_0, vin_s, aE_0, aE_s, EK_r, EK_t, List.set_cons_zero, List.set_cons_succ, va_rf_s, va_rf_n, pC_1, pC_21, aC_1, aC_21, gC_self, gC_new, eI_, eLg_, eV_, eInc_, eN_, eS_, eJ_, eCl_, nI_add, nI_mul, nI_subI, nI_clampI, inb_t, nI_lt0, nI_0le, nI_m1, nI_m1', nI_ofNat, bI_01, b01_0, b01_1, bI_eq0, bI_eq1, bb_01, true_or, or_true, false_or, or_false, eq_self, Nat.reduceAdd, Nat.reduceMul, Nat.reduceSub, Nat.reduceLT, Nat.reduceLeDiff, Nat.reduceEqDiff, ↓reduceIte, and_true, true_and, and_self, Nat.add_zero, Nat.zero_add, not_false_eq_true, not_true_eq_false, faV_n, faV_s, m1_lt0, m1_0le, m1_eq0, m1_le, le_m1, m1_lt, lt_m1, nI_100k, nI_100, upd_e, upd_n, pC_pC, gC_ne', gC_old', nI_lt_t, nI_lt_f, nI_le_t, nI_le_f, nI_eq_t, nI_eq_f, nI_eq0_t, nI_eq0_f, nI_0lt_t, nI_0lt_f, nI_le0_t, nI_le0_f, nI_eq1_t, nI_eq1_f, R1']
    refine c_cTried (e := e) hq R1 hX N1 K1 hd hh h4 h5 hO (by omega) (show 1200 < 2401 by omega) dig_PLAIN (fun σ2 S2 N2 K2 R2 => ?_)
    unfold ptS at hV
    cases hb : oS q s1 d h noG with
    | true =>
      rw [hb, if_pos rfl] at hV
      subst hV
      simp (disch := omega) only [ec_aload_n (i := 0) dX1_patienceOf_0 rfl, ec_get dX1_patienceOf_1, gw_0_70_0, ec_get dX1_patienceOf_4, gw_0_189_2, ec_iload_n (i := 1) dX1_patienceOf_7 rfl, ec_aald dX1_patienceOf_8, raE_4, raE_5, raE_6, raE_7, raE_8, ec_cv0 dX1_patienceOf_9 iN_0_244 cna_0_244, vcE_o ccp_0_244_5, ec_astore dX1_patienceOf_12, ec_astoreN dX1_patienceOf_12, ec_aload dX1_patienceOf_14, ec_iload_n (i := 2) dX1_patienceOf_16 rfl, ec_put dX1_patienceOf_17, pw_0_0_202_5, ec_iconst (v := nI 1) dX1_patienceOf_20 rfl, ec_istore dX1_patienceOf_21, ec_iload dX1_patienceOf_25, ec_icmp_gt (t := 52) dX1_patienceOf_27 rfl, ec_aload_n (i := 0) dX1_patienceOf_30 rfl, ec_aload dX1_patienceOf_31, ec_iload_n (i := 3) dX1_patienceOf_33 rfl, ec_sipush (v := nI 1200) dX1_patienceOf_34 rfl, ec_cv3 dX1_patienceOf_37 iN_0_288 cna_0_288, vcE_o ccp_0_288_0, ec_if_eq (t := 46) dX1_patienceOf_40 rfl, ec_iload dX1_patienceOf_43, ec_iret dX1_patienceOf_45, ec_zret dX1_patienceOf_45, ec_iinc (v := nI 1) dX1_patienceOf_46 rfl, ec_goto (t := 23) dX1_patienceOf_49 rfl, ec_iconst (v := (-1)) dX1_patienceOf_52 rfl, ec_iret dX1_patienceOf_53, ec_zret dX1_patienceOf_53, cat1_i, cat1_r, cat1_u, catB_n, catB_i, catB_r, catB_l, catB_u, lg_0, lg_s, ldEI_i, ldEL_l, ldEA_r, ldEA_n, lin_0, lin_s, ls1_0, ls1_1, ls1_s, ls2_0, ls2_1, ls2_s, lcl_i, lcl_r, lcl_l, lcl_u, lcl_n, lent_i, lent_r, lent_l, lent_u, lent_0, lent_s, Option.toList_some, Option.toList_none, List.cons_append, List.nil_append, Nat.reduceAdd, true_and, vin_0, vin_s, aE_0, aE_s, EK_r, EK_t, List.set_cons_zero, List.set_cons_succ, va_rf_s, va_rf_n, pC_1, pC_21, aC_1, aC_21, gC_self, gC_new, eI_, eLg_, eV_, eInc_, eN_, eS_, eJ_, eCl_, nI_add, nI_mul, nI_subI, nI_clampI, inb_t, nI_lt0, nI_0le, nI_m1, nI_m1', nI_ofNat, bI_01, b01_0, b01_1, bI_eq0, bI_eq1, bb_01, true_or, or_true, false_or, or_false, eq_self, Nat.reduceAdd, Nat.reduceMul, Nat.reduceSub, Nat.reduceLT, Nat.reduceLeDiff, Nat.reduceEqDiff, ↓reduceIte, and_true, true_and, and_self, Nat.add_zero, Nat.zero_add, not_false_eq_true, not_true_eq_false, faV_n, faV_s, m1_lt0, m1_0le, m1_eq0, m1_le, le_m1, m1_lt, lt_m1, nI_100k, nI_100, upd_e, upd_n, pC_pC, gC_ne', gC_old', nI_lt_t, nI_lt_f, nI_le_t, nI_le_f, nI_eq_t, nI_eq_f, nI_eq0_t, nI_eq0_f, nI_0lt_t, nI_0lt_f, nI_le0_t, nI_le0_f, nI_eq1_t, nI_eq1_f]
      exact hP σ2 (S1.tr S2) N2
    | false =>
      rw [hb, if_neg (by decide)] at hV
      simp (disch := omega) only [ec_aload_n (i := 0) dX1_patienceOf_0 rfl, ec_get dX1_patienceOf_1, gw_0_70_0, ec_get dX1_patienceOf_4, gw_0_189_2, ec_iload_n (i := 1) dX1_patienceOf_7 rfl, ec_aald dX1_patienceOf_8, raE_4, raE_5, raE_6, raE_7, raE_8, ec_cv0 dX1_patienceOf_9 iN_0_244 cna_0_244, vcE_o ccp_0_244_5, ec_astore dX1_patienceOf_12, ec_astoreN dX1_patienceOf_12, ec_aload dX1_patienceOf_14, ec_iload_n (i := 2) dX1_patienceOf_16 rfl, ec_put dX1_patienceOf_17, pw_0_0_202_5, ec_iconst (v := nI 1) dX1_patienceOf_20 rfl, ec_istore dX1_patienceOf_21, ec_iload dX1_patienceOf_25, ec_icmp_gt (t := 52) dX1_patienceOf_27 rfl, ec_aload_n (i := 0) dX1_patienceOf_30 rfl, ec_aload dX1_patienceOf_31, ec_iload_n (i := 3) dX1_patienceOf_33 rfl, ec_sipush (v := nI 1200) dX1_patienceOf_34 rfl, ec_cv3 dX1_patienceOf_37 iN_0_288 cna_0_288, vcE_o ccp_0_288_0, ec_if_eq (t := 46) dX1_patienceOf_40 rfl, ec_iload dX1_patienceOf_43, ec_iret dX1_patienceOf_45, ec_zret dX1_patienceOf_45, ec_iinc (v := nI 1) dX1_patienceOf_46 rfl, ec_goto (t := 23) dX1_patienceOf_49 rfl, ec_iconst (v := (-1)) dX1_patienceOf_52 rfl, ec_iret dX1_patienceOf_53, ec_zret dX1_patienceOf_53, cat1_i, cat1_r, cat1_u, catB_n, catB_i, catB_r, catB_l, catB_u, lg_0, lg_s, ldEI_i, ldEL_l, ldEA_r, ldEA_n, lin_0, lin_s, ls1_0, ls1_1, ls1_s, ls2_0, ls2_1, ls2_s, lcl_i, lcl_r, lcl_l, lcl_u, lcl_n, lent_i, lent_r, lent_l, lent_u, lent_0, lent_s, Option.toList_some, Option.toList_none, List.cons_append, List.nil_append, Nat.reduceAdd, true_and, vin_0, vin_s, aE_0, aE_s, EK_r, EK_t, List.set_cons_zero, List.set_cons_succ, va_rf_s, va_rf_n, pC_1, pC_21, aC_1, aC_21, gC_self, gC_new, eI_, eLg_, eV_, eInc_, eN_, eS_, eJ_, eCl_, nI_add, nI_mul, nI_subI, nI_clampI, inb_t, nI_lt0, nI_0le, nI_m1, nI_m1', nI_ofNat, bI_01, b01_0, b01_1, bI_eq0, bI_eq1, bb_01, true_or, or_true, false_or, or_false, eq_self, Nat.reduceAdd, Nat.reduceMul, Nat.reduceSub, Nat.reduceLT, Nat.reduceLeDiff, Nat.reduceEqDiff, ↓reduceIte, and_true, true_and, and_self, Nat.add_zero, Nat.zero_add, not_false_eq_true, not_true_eq_false, faV_n, faV_s, m1_lt0, m1_0le, m1_eq0, m1_le, le_m1, m1_lt, lt_m1, nI_100k, nI_100, upd_e, upd_n, pC_pC, gC_ne', gC_old', nI_lt_t, nI_lt_f, nI_le_t, nI_le_f, nI_eq_t, nI_eq_f, nI_eq0_t, nI_eq0_f, nI_0lt_t, nI_0lt_f, nI_le0_t, nI_le0_f, nI_eq1_t, nI_eq1_f]
      exact c_pt_lo hq hd hh hm hX hP i (k + 1) (by omega) (tS q s1 d h noG) (B + 82) hV (tS_SO hO (by omega)) (by omega) (by rw [tS_hd (by omega) (by omega)]; exact h4) (by rw [tS_hd (by omega) (by omega)]; exact h5) σ2 (S1.tr S2) N2 K2 R2
theorem c_patienceOf {d h m v : Nat} (hq : QOK q) (hd : d < qD q) (hh : h < qH q) (hm : m ≤ 99) (hv : v ≤ 99) (hw : HW σ) (hO : SO B s) (hB1 : 99 ≤ B) (hB : B ≤ 5880000) (hR : gC σ x0 = some (.inl (0, rtF n0 hl op al gg A))) (hX : Apt ow tl t q (fun b => b = x0)) (hN : NightAt ow t tl σ n0 qa fx q s L)
    (hP : ∀ σ' ow', (∀ b, b < σ.1 → ow' b = ow b) → Fr (fun b => b = fx ∨ b = n0 + 3) 3 49 σ σ' → NightAt ow' t tl σ' n0 qa fx q s L → gC σ' x0 = some (.inl (0, rtF n0 hl op al gg A)) → P (.inl (some (.int (faV (ptS q d h m 1 (upN s (80 * d) v))))), σ')) : EC zs (Jc zs) (e + 128) cX1_patienceOf (some .int) 0 0 0 [some (.ref x0), some (.int (nI d)), some (.int (nI v)), some (.int (nI h)), some (.int (nI m)), none, none] [] σ P := by
  have hD := hq.1.2.1
  have hk5 := (hq.2.2.2.1 d hd).1
  have r11 := (hO d (by omega)).2.2.2.1
  have r5 := (hO d (by omega)).2.2.1
  obtain ⟨lf, kf, b1, hlf, -, hL⟩ := hN.lk hd
  have hR' := hR
  unfold rtF at hR'
  have h0 := hN.1.1
  unfold nFs at h0
  have hlc := hL.1
  simp (disch := omega) only [ec_aload_n (i := 0) dX1_patienceOf_0 rfl, ec_get dX1_patienceOf_1, gw_0_70_0, ec_get dX1_patienceOf_4, gw_0_189_2, ec_iload_n (i := 1) dX1_patienceOf_7 rfl, ec_aald dX1_patienceOf_8, raE_4, raE_5, raE_6, raE_7, raE_8, ec_cv0 dX1_patienceOf_9 iN_0_244 cna_0_244, vcE_o ccp_0_244_5, ec_astore dX1_patienceOf_12, ec_astoreN dX1_patienceOf_12, ec_aload dX1_patienceOf_14, ec_iload_n (i := 2) dX1_patienceOf_16 rfl, ec_put dX1_patienceOf_17, pw_0_0_202_5, ec_iconst (v := nI 1) dX1_patienceOf_20 rfl, ec_istore dX1_patienceOf_21, ec_iload dX1_patienceOf_25, ec_icmp_gt (t := 52) dX1_patienceOf_27 rfl, ec_aload_n (i := 0) dX1_patienceOf_30 rfl, ec_aload dX1_patienceOf_31, ec_iload_n (i := 3) dX1_patienceOf_33 rfl, ec_sipush (v := nI 1200) dX1_patienceOf_34 rfl, ec_cv3 dX1_patienceOf_37 iN_0_288 cna_0_288, vcE_o ccp_0_288_0, ec_if_eq (t := 46) dX1_patienceOf_40 rfl, ec_iload dX1_patienceOf_43, ec_iret dX1_patienceOf_45, ec_zret dX1_patienceOf_45, ec_iinc (v := nI 1) dX1_patienceOf_46 rfl, ec_goto (t := 23) dX1_patienceOf_49 rfl, ec_iconst (v := (-1)) dX1_patienceOf_52 rfl, ec_iret dX1_patienceOf_53, ec_zret dX1_patienceOf_53, cat1_i, cat1_r, cat1_u, catB_n, catB_i, catB_r, catB_l, catB_u, lg_0, lg_s, ldEI_i, ldEL_l, ldEA_r, ldEA_n, lin_0, lin_s, ls1_0, ls1_1, ls1_s, ls2_0, ls2_1, ls2_s, lcl_i, lcl_r, lcl_l, lcl_u, lcl_n, lent_i, lent_r, lent_l, lent_u, lent_0, lent_s, Option.toList_some, Option.toList_none, List.cons_append, List.nil_append, Nat.reduceAdd, true_and, vin_0, vin_s, aE_0, aE_s, EK_r, EK_t, List.set_cons_zero, List.set_cons_succ, va_rf_s, va_rf_n, pC_1, pC_21, aC_1, aC_21, gC_self, gC_new, eI_, eLg_, eV_, eInc_, eN_, eS_, eJ_, eCl_, nI_add, nI_mul, nI_subI, nI_clampI, inb_t, nI_lt0, nI_0le, nI_m1, nI_m1', nI_ofNat, bI_01, b01_0, b01_1, bI_eq0, bI_eq1, bb_01, true_or, or_true, false_or, or_false, eq_self, Nat.reduceAdd, Nat.reduceMul, Nat.reduceSub, Nat.reduceLT, Nat.reduceLeDiff, Nat.reduceEqDiff, ↓reduceIte, and_true, true_and, and_self, Nat.add_zero, Nat.zero_add, not_false_eq_true, not_true_eq_false, faV_n, faV_s, m1_lt0, m1_0le, m1_eq0, m1_le, le_m1, m1_lt, lt_m1, nI_100k, nI_100, upd_e, upd_n, pC_pC, gC_ne', gC_old', nI_lt_t, nI_lt_f, nI_le_t, nI_le_f, nI_eq_t, nI_eq_f, nI_eq0_t, nI_eq0_f, nI_0lt_t, nI_0lt_f, nI_le0_t, nI_le0_f, nI_eq1_t, nI_eq1_f, hR', h0, b1, hlf, hlc]
  refine c_lcopied (e := e + 123) hL hk5 r11 r5 hw (fun σ1 N1 => ?_)
  obtain ⟨F1, e1, L1⟩ := N1
  have hw1 := F1.2.2.2
  have l1c := L1.1
  unfold lkF at l1c
  simp (disch := omega) only [ec_aload_n (i := 0) dX1_patienceOf_0 rfl, ec_get dX1_patienceOf_1, gw_0_70_0, ec_get dX1_patienceOf_4, gw_0_189_2, ec_iload_n (i := 1) dX1_patienceOf_7 rfl, ec_aald dX1_patienceOf_8, raE_4, raE_5, raE_6, raE_7, raE_8, ec_cv0 dX1_patienceOf_9 iN_0_244 cna_0_244, vcE_o ccp_0_244_5, ec_astore dX1_patienceOf_12, ec_astoreN dX1_patienceOf_12, ec_aload dX1_patienceOf_14, ec_iload_n (i := 2) dX1_patienceOf_16 rfl, ec_put dX1_patienceOf_17, pw_0_0_202_5, ec_iconst (v := nI 1) dX1_patienceOf_20 rfl, ec_istore dX1_patienceOf_21, ec_iload dX1_patienceOf_25, ec_icmp_gt (t := 52) dX1_patienceOf_27 rfl, ec_aload_n (i := 0) dX1_patienceOf_30 rfl, ec_aload dX1_patienceOf_31, ec_iload_n (i := 3) dX1_patienceOf_33 rfl, ec_sipush (v := nI 1200) dX1_patienceOf_34 rfl, ec_cv3 dX1_patienceOf_37 iN_0_288 cna_0_288, vcE_o ccp_0_288_0, ec_if_eq (t := 46) dX1_patienceOf_40 rfl, ec_iload dX1_patienceOf_43, ec_iret dX1_patienceOf_45, ec_zret dX1_patienceOf_45, ec_iinc (v := nI 1) dX1_patienceOf_46 rfl, ec_goto (t := 23) dX1_patienceOf_49 rfl, ec_iconst (v := (-1)) dX1_patienceOf_52 rfl, ec_iret dX1_patienceOf_53, ec_zret dX1_patienceOf_53, cat1_i, cat1_r, cat1_u, catB_n, catB_i, catB_r, catB_l, catB_u, lg_0, lg_s, ldEI_i, ldEL_l, ldEA_r, ldEA_n, lin_0, lin_s, ls1_0, ls1_1, ls1_s, ls2_0, ls2_1, ls2_s, lcl_i, lcl_r, lcl_l, lcl_u, lcl_n, lent_i, lent_r, lent_l, lent_u, lent_0, lent_s, Option.toList_some, Option.toList_none, List.cons_append, List.nil_append, Nat.reduceAdd, true_and, vin_0, vin_s, aE_0, aE_s, EK_r, EK_t, List.set_cons_zero, List.set_cons_succ, va_rf_s, va_rf_n, pC_1, pC_21, aC_1, aC_21, gC_self, gC_new, eI_, eLg_, eV_, eInc_, eN_, eS_, eJ_, eCl_, nI_add, nI_mul, nI_subI, nI_clampI, inb_t, nI_lt0, nI_0le, nI_m1, nI_m1', nI_ofNat, bI_01, b01_0, b01_1, bI_eq0, bI_eq1, bb_01, true_or, or_true, false_or, or_false, eq_self, Nat.reduceAdd, Nat.reduceMul, Nat.reduceSub, Nat.reduceLT, Nat.reduceLeDiff, Nat.reduceEqDiff, ↓reduceIte, and_true, true_and, and_self, Nat.add_zero, Nat.zero_add, not_false_eq_true, not_true_eq_false, faV_n, faV_s, m1_lt0, m1_0le, m1_eq0, m1_le, le_m1, m1_lt, lt_m1, nI_100k, nI_100, upd_e, upd_n, pC_pC, gC_ne', gC_old', nI_lt_t, nI_lt_f, nI_le_t, nI_le_f, nI_eq_t, nI_eq_f, nI_eq0_t, nI_eq0_f, nI_0lt_t, nI_0lt_f, nI_le0_t, nI_le0_f, nI_eq1_t, nI_eq1_f, l1c]
  have hxl := hw _ _ hR
  have S2 : Fs (fun b => b = σ.1) σ1 (pC σ1 σ.1 (.inl (5, [.ref (σ.1 + 1), .int (nI v), .int (nI (rowOf s d 1)), .int (nI (rowOf s d 4)), .int (nI (rowOf s d 5)), .int (nI (rowOf s d 2)), .int (nI (rowOf s d 3))]))) := Fs.rf.p l1c rfl
  have F2 := F1.n S2 (fun b hb => Or.inl (by omega))
  have L2 : LockAt (pC σ1 σ.1 (.inl (5, [.ref (σ.1 + 1), .int (nI v), .int (nI (rowOf s d 1)), .int (nI (rowOf s d 4)), .int (nI (rowOf s d 5)), .int (nI (rowOf s d 2)), .int (nI (rowOf s d 3))]))) σ.1 (qDk q d) (upN (rowOf s d) 0 v) := ⟨gC_self, (L1.2.ext (fun i hi => upN_n (by omega))).k (gC_ne (by omega)) (gC_ne (by omega))⟩
  generalize pC σ1 σ.1 (.inl (5, [.ref (σ.1 + 1), .int (nI v), .int (nI (rowOf s d 1)), .int (nI (rowOf s d 4)), .int (nI (rowOf s d 5)), .int (nI (rowOf s d 2)), .int (nI (rowOf s d 3))])) = σ2 at F2 L2 ⊢
  clear S2
  have fo : ∀ b, b < σ.1 → owK ow σ.1 (frT t tl) b = ow b := fun b hb => if_pos hb
  have fn : ∀ b, σ.1 ≤ b → owK ow σ.1 (frT t tl) b = frT t tl := fun b hb => if_neg (by omega)
  have hf := frT_ok (t := t) (tl := tl) (q := q) hD
  have N2 : NightAt (owK ow σ.1 (frT t tl)) t tl σ2 n0 qa fx q s L := (hN.own hw fo).fr hw F2 (fun b _ z => z.elim)
  have R2 : gC σ2 x0 = some (.inl (0, rtF n0 hl op al gg A)) := F2.g hxl (fun z => z) hR
  have hr1 : rowOf (upN s (80 * d) v) d = upN (rowOf s d) 0 v := by
    rw [show 80 * d = 80 * d + 0 from rfl, up_row (by omega), row_set ((Cn.row).up (by omega))]
  have hO2 : SO B (upN s (80 * d) v) := fun d' hd' => by
    rw [show 80 * d = 80 * d + 0 from rfl, up_row (by omega)]
    by_cases hh : d' = d
    · rw [hh, row_set ((Cn.row).up (by omega))]
      obtain ⟨z1, z2, z3, z4, z5, z6⟩ := hO d (by omega)
      refine ⟨fun i hi => ?_, by rw [upN_s]; exact hv, by rw [upN_n (by omega)]; exact z3, by rw [upN_n (by omega)]; exact z4, fun i hi => by rw [upN_n (by omega)]; exact z5 i hi, fun k hk => ?_⟩
      · by_cases hi0 : i = 0
        · rw [hi0, upN_s]; omega
        · rw [upN_n hi0]; exact z1 i hi
      · have ea : ∀ a n, 0 < a → anS (upN (rowOf s d) 0 v) a n = anS (rowOf s d) a n := fun a n ha => by
          induction n with
          | zero => rfl
          | succ n ih => unfold anS; rw [ih, upN_n (by omega)]
        rw [ea _ _ (by omega), ea _ _ (by omega)]
        exact z6 k hk
    · rw [row_off hh]
      exact hO d' hd'
  have h5' : d < 5 := by omega
  refine c_pt_lo (ow := owK ow σ.1 (frT t tl)) (l := σ.1) (V := ptS q d h m 1 (upN s (80 * d) v)) hq hd hh hm (fun b hb => ?_) (fun σ3 S3 N3 => ?_) m 1 (by omega) (upN s (80 * d) v) B rfl hO2 (by omega) (upN_n (by omega)) (upN_n (by omega)) σ2 Fs.rf N2 ⟨by rw [hr1]; exact L2, ?_, fun b hb => ?_, fun z => ?_⟩ R2
  · rw [hb, fo _ hxl]
    exact hX x0 rfl
  · refine hP σ3 _ fo ((F2.sub (fun b _ z => z.elim) (Nat.le_refl _) (Nat.le_refl _)).n S3 (fun b hb => ?_)) N3 (S3.g (fun z => ?_) R2)
    · rcases hb with z | z | z
      · exact Or.inr (Or.inl z)
      · exact Or.inr (Or.inr z)
      · exact Or.inl (by unfold LkT at z; omega)
    · have ofx := hN.2.1.ofx
      have ox := hX x0 rfl
      have t3 := hN.2.2.2.2.1 (n0 + 3) (by omega) (by omega)
      rcases z with z | z | z
      · rw [z] at ox; omega
      · rw [z] at ox; omega
      · unfold LkT at z; omega
  · rw [hr1]
    intro k4 h3
    rw [upN_n (by omega)] at h3 ⊢
    exact (hN.2.2.1 d hd).2 k4 h3
  · rw [fn b (by unfold LkT at hb; omega)]
    exact hf
  · unfold LkT at z
    omega
end
