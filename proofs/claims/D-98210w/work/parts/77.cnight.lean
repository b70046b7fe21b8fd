set_option maxRecDepth 100000
/-! NIGHTS -/
def nFs (n0 qa hour day : Nat) : List Value := [.ref qa, .int (nI hour), .int (nI day), .ref (n0 + 1), .ref (n0 + 2), .ref (n0 + 3), .ref (n0 + 4), .ref (n0 + 10)]
/-- a night's arrays -/
def NightB (σ : CM) (n0 : Nat) (lf kf : Nat → Option Nat) : Prop := gC σ (n0 + 1) = some (.inr (5, 5, .inr (.inr (.inr (.inr lf))))) ∧ gC σ (n0 + 2) = some (.inr (5, 30, .inr (.inr (.inr (.inr kf))))) ∧ (∃ F, gC σ (n0 + 3) = some (.inr (0, 4, .inl F))) ∧
  gC σ (n0 + 4) = some (.inr (8, 5, .inr (.inr (.inr (.inr (fun j => if j < 5 then some (n0 + 4 + 1 + j) else none)))))) ∧ (∀ j, j < 5 → ∃ F, gC σ (n0 + 5 + j) = some (.inr (0, 4, .inl F))) ∧ ∃ F, gC σ (n0 + 10) = some (.inr (1, 5, .inl F))
/-- tags: the night's, its locks' -/
def TV (t : Nat) (tl : Nat → Nat) (n : Nat) : Prop := 2 ≤ t ∧ (∀ d, d < n → 2 ≤ tl d ∧ tl d ≠ t) ∧ ∀ d d', d < n → d' < n → d ≠ d' → tl d ≠ tl d'
def NightAt (ow : Nat → Nat) (t : Nat) (tl : Nat → Nat) (σ : CM) (n0 qa fx : Nat) (q : QT) (s L : Nat → Nat) : Prop :=
  (gC σ n0 = some (.inl (2, nFs n0 qa (s 400) (s 401))) ∧ ∃ lf kf, NightB σ n0 lf kf ∧ ∀ d, d < qD q → lf d = some (L d)) ∧ QC ow σ qa fx q ∧
  (∀ d, d < qD q → LockAt σ (L d) (qDk q d) (rowOf s d) ∧ NV (qDk q d) (rowOf s d)) ∧ TV t tl (qD q) ∧ (∀ b, n0 ≤ b → b < n0 + 11 → ow b = t) ∧ ∀ d, d < qD q → ∀ b, LkT (qDk q d) (L d) b → ow b = tl d
section
variable {zs : Nat → Nat} {e : Nat} {σ : CM} {P : CR → Prop} {ow tl : Nat → Nat} {t n0 qa fx : Nat} {q : QT} {s L : Nat → Nat}
theorem QC.H (hQ : QC ow σ qa fx q) : ∃ (hl nl ka na sl fo : Nat) (xl xe : Value) (hx mx : Nat → Nat), gC σ qa = some (.inl (3, qFs q hl nl ka na sl fo xl xe)) ∧ QH ow σ hl hx mx q := by
  obtain ⟨hl, nl, ka, na, sl, fo, xl, xe, hx, mx, dx, sx, ⟨a1, a2⟩, hh, r⟩ := hQ
  exact ⟨hl, nl, ka, na, sl, fo, xl, xe, hx, mx, a1, hh⟩
theorem c_nhand {h hl nl ka na sl fo : Nat} {xl xe : Value} {hx mx : Nat → Nat} {hour day : Nat} (hq : QOK q) (h0 : gC σ n0 = some (.inl (2, nFs n0 qa hour day))) (h1 : gC σ qa = some (.inl (3, qFs q hl nl ka na sl fo xl xe))) (h2 : QH ow σ hl hx mx q) (hh : h < qH q) : EC zs (Jc zs) (e + 3) cX3_hand (some (.object "KnowLocks$Hand")) 2 0 0 [some (.ref n0), some (.int (nI h))] [] σ P ↔ P (.inl (some (.ref (hx h))), σ) := by
  obtain ⟨k1, k2⟩ := h2
  obtain ⟨x1, -⟩ := k2 h hh
  obtain ⟨mc, dd, hl1⟩ := k1.ob
  unfold nFs at h0
  unfold qFs at h1
  simp (disch := omega) only [ec_aload_n (i := 0) dX3_hand_0 rfl, ec_get dX3_hand_1, gw_2_33_2, ec_get dX3_hand_4, gw_2_76_3, ec_iload_n (i := 1) dX3_hand_7 rfl, ec_cv1 dX3_hand_8 iN_2_80 cna_2_80, vcE_o ccp_2_80_36, ec_cast dX3_hand_11, ec_castN dX3_hand_11, kE_o kcc_2_86_12, kE_o kcc_2_86_13, kE_o kcc_2_86_14, kE_o kcc_2_86_15, kE_o kcc_2_86_16, ec_aret dX3_hand_14, ec_aretN dX3_hand_14, ec_aretA dX3_hand_14, cat1_i, cat1_r, cat1_u, catB_n, catB_i, catB_r, catB_l, catB_u, lg_0, lg_s, ldEI_i, ldEL_l, ldEA_r, ldEA_n, lin_0, lin_s, ls1_0, ls1_1, ls1_s, ls2_0, ls2_1, ls2_s, lcl_i, lcl_r, lcl_l, lcl_u, lcl_n, lent_i, lent_r, lent_l, lent_u, lent_0, lent_s, Option.toList_some, Option.toList_none, List.cons_append, List.nil_append, Nat.reduceAdd, true_and, vin_0, vin_s, aE_0, aE_s, EK_r, EK_t, List.set_cons_zero, List.set_cons_succ, va_rf_s, va_rf_n, pC_1, pC_21, aC_1, aC_21, gC_self, gC_new, eI_, eLg_, eV_, eInc_, eN_, eS_, eJ_, eCl_, nI_add, nI_mul, nI_subI, nI_clampI, inb_t, nI_lt0, nI_0le, nI_m1, nI_m1', nI_ofNat, bI_01, b01_0, b01_1, bI_eq0, bI_eq1, bb_01, true_or, or_true, false_or, or_false, eq_self, Nat.reduceAdd, Nat.reduceMul, Nat.reduceSub, Nat.reduceLT, Nat.reduceLeDiff, Nat.reduceEqDiff, ↓reduceIte, and_true, true_and, and_self, Nat.add_zero, Nat.zero_add, not_false_eq_true, not_true_eq_false, faV_n, faV_s, m1_lt0, m1_0le, m1_eq0, m1_le, le_m1, m1_lt, lt_m1, nI_100k, nI_100, upd_e, upd_n, pC_pC, gC_ne', gC_old', nI_lt_t, nI_lt_f, nI_le_t, nI_le_f, nI_eq_t, nI_eq_f, nI_eq0_t, nI_eq0_f, nI_0lt_t, nI_0lt_f, nI_le0_t, nI_le0_f, nI_eq1_t, nI_eq1_f, h0, h1, hl1, c_get (e := e) k1 hh, kH_2_86 x1 (hq.2.2.1 h hh).1]
theorem c_feels {h sl : Nat} {g : Nat → Nat} {hour day : Nat} (hq : QOK q) (h0 : gC σ n0 = some (.inl (2, nFs n0 qa hour day))) (h3 : ∃ F, gC σ (n0 + 3) = some (.inr (0, 4, .inl F))) (hQ : QC ow σ qa fx q) (hh : h < qH q) (hfx : fx ≠ n0 + 3) (hsl : sl < 2401) (hg : ∀ k, k < 4 → sl / 7 ^ k % 7 = g k) (ho : ow (n0 + 3) ≠ 0 ∧ ow (n0 + 3) ≠ 1)
    (hP : ∀ σ', Fs (fun b => b = fx ∨ b = n0 + 3) σ σ' → QC ow σ' qa fx q → IA σ' (n0 + 3) 4 (fun k => ftS q hour day h k (g k)) → P (.inl (some (.ref (n0 + 3))), σ')) : EC zs (Jc zs) (e + 126) cX3_feels (some (.array .int)) 2 0 0 [some (.ref n0), some (.int (nI h)), some (.int (nI sl)), none, none] [] σ P := by
  have g0 := hg 0 (by omega)
  have g1 := hg 1 (by omega)
  have g2 := hg 2 (by omega)
  have g3 := hg 3 (by omega)
  simp only [Nat.reducePow, Nat.div_one, Nat.pow_zero, Nat.pow_one] at g0 g1 g2 g3
  have one : ∀ (k left : Nat) (σ1 : CM) (F : Nat → Int32), k < 4 → left < 2401 → left % 7 = g k → Fs (fun b => b = fx ∨ b = n0 + 3) σ σ1 → QC ow σ1 qa fx q → gC σ1 (n0 + 3) = some (.inr (0, 4, .inl F)) → (∀ σ2 F2, Fs (fun b => b = fx ∨ b = n0 + 3) σ σ2 → QC ow σ2 qa fx q → gC σ2 (n0 + 3) = some (.inr (0, 4, .inl F2)) → F2 k = nI (ftS q hour day h k (g k)) → (∀ j, j ≠ k → F2 j = F j) → EC zs (Jc zs) (e + 126) cX3_feels (some (.array .int)) 2 0 5 [some (.ref n0), some (.int (nI h)), some (.int (nI sl)), some (.int (nI (left / 7))), some (.int (nI (k + 1)))] [] σ2 P) →
      EC zs (Jc zs) (e + 126) cX3_feels (some (.array .int)) 2 0 5 [some (.ref n0), some (.int (nI h)), some (.int (nI sl)), some (.int (nI left)), some (.int (nI k))] [] σ1 P := by
    intro k left σ1 F hk hlt hgk S1 Q1 hF hn
    obtain ⟨hl, nl, ka, na, sl', fo, xl, xe, hx, mx, h1, h2⟩ := Q1.H
    obtain ⟨x1, x2, ⟨G, x3, x4⟩, x5⟩ := h2.2 h hh
    obtain ⟨hk4, -, -, hmk⟩ := hq.2.2.1 h hh
    have hmk := hmk k hk
    have x4 := x4 k hk
    have hne : n0 ≠ fx := fun z => by obtain ⟨Φ, f4⟩ := hQ.fa; rw [← z, h0] at f4; cases f4
    have h0' : gC σ1 n0 = some (.inl (2, nFs n0 qa hour day)) := S1.g (by omega) h0
    have hnh := fun P => c_nhand (zs := zs) (e := e + 122) (P := P) hq h0' h1 h2 hh
    unfold nFs at h0'
    obtain ⟨qfs, hqa⟩ := Q1.ob
    have hgk6 : g k ≤ 6 := by omega
    have ec : clpN (nI (qM q (4 * h + k) + left % 7) - nI 3) 9 = min 9 (qM q (4 * h + k) + g k - 3) := by
      rw [← clp_slip (g := g k) hmk hgk6, hgk, ← nI_add, Int32.sub_eq_add_neg, Int32.sub_eq_add_neg, Int32.add_assoc]
    rw [ec_iload dX3_feels_5]
    simp (disch := omega) only [ec_iload_n (i := 2) dX3_feels_0 rfl, ec_istore_n (i := 3) dX3_feels_1 rfl, ec_iconst (v := nI 0) dX3_feels_2 rfl, ec_istore dX3_feels_3, ec_iconst (v := nI 4) dX3_feels_7 rfl, ec_icmp_ge (t := 70) dX3_feels_8 rfl, ec_aload_n (i := 0) dX3_feels_11 rfl, ec_get dX3_feels_12, gw_2_20_2, ec_iload dX3_feels_15, ec_aload_n (i := 0) dX3_feels_17 rfl, ec_get dX3_feels_18, gw_2_33_2, ec_aload_n (i := 0) dX3_feels_21 rfl, ec_iload_n (i := 1) dX3_feels_22 rfl, ec_cv1 dX3_feels_23 iN_2_88 cna_2_88, vcE_o ccp_2_88_2, ec_get dX3_feels_26, gw_2_92_12, gw_2_92_13, gw_2_92_14, gw_2_92_15, gw_2_92_16, ec_iload dX3_feels_29, ec_iald dX3_feels_31, iaE_i, ec_iload_n (i := 3) dX3_feels_32 rfl, ec_bipush (v := nI 7) dX3_feels_33 rfl, ec_irem dX3_feels_35, ec_iadd dX3_feels_36, ec_iconst (v := nI 3) dX3_feels_37 rfl, ec_isub dX3_feels_38, ec_iconst (v := nI 0) dX3_feels_39 rfl, ec_bipush (v := nI 9) dX3_feels_40 rfl, ec_cs3 dX3_feels_42 iN_2_95 ccp_2_95_99, ec_iload dX3_feels_45, ec_aload_n (i := 0) dX3_feels_47 rfl, ec_get dX3_feels_48, gw_2_37_2, ec_aload_n (i := 0) dX3_feels_51 rfl, ec_get dX3_feels_52, gw_2_41_2, ec_cv4 dX3_feels_55 iN_2_99 cna_2_99, vcE_o ccp_2_99_3, ec_iast dX3_feels_58, isE_0, ec_iload_n (i := 3) dX3_feels_59 rfl, ec_bipush (v := nI 7) dX3_feels_60 rfl, ec_idiv dX3_feels_62, ec_istore_n (i := 3) dX3_feels_63 rfl, ec_iinc (v := nI 1) dX3_feels_64 rfl, ec_goto (t := 5) dX3_feels_67 rfl, ec_aload_n (i := 0) dX3_feels_70 rfl, ec_get dX3_feels_71, ec_aret dX3_feels_74, ec_aretN dX3_feels_74, ec_aretA dX3_feels_74, cat1_i, cat1_r, cat1_u, catB_n, catB_i, catB_r, catB_l, catB_u, lg_0, lg_s, ldEI_i, ldEL_l, ldEA_r, ldEA_n, lin_0, lin_s, ls1_0, ls1_1, ls1_s, ls2_0, ls2_1, ls2_s, lcl_i, lcl_r, lcl_l, lcl_u, lcl_n, lent_i, lent_r, lent_l, lent_u, lent_0, lent_s, Option.toList_some, Option.toList_none, List.cons_append, List.nil_append, Nat.reduceAdd, true_and, vin_0, vin_s, aE_0, aE_s, EK_r, EK_t, List.set_cons_zero, List.set_cons_succ, va_rf_s, va_rf_n, pC_1, pC_21, aC_1, aC_21, gC_self, gC_new, eI_, eLg_, eV_, eInc_, eN_, eS_, eJ_, eCl_, nI_add, nI_mul, nI_clampI, inb_t, nI_le_f, nI_lt_f, ↓reduceIte, true_and, Nat.reduceEqDiff, nI_eq0_f, not_false_eq_true, nI_rem, h0', hnh, gH_2_92 x1 hk4, x3, x4, c_bound, ec, hqa]
    refine c_felt (e := e + 1) Q1 (by omega) (fun σ2 S2 Q2 => ?_)
    have hF2 : gC σ2 (n0 + 3) = some (.inr (0, 4, .inl F)) := S2.g (fun z => hfx z.symm) hF
    simp (disch := omega) only [ec_iload_n (i := 2) dX3_feels_0 rfl, ec_istore_n (i := 3) dX3_feels_1 rfl, ec_iconst (v := nI 0) dX3_feels_2 rfl, ec_istore dX3_feels_3, ec_iconst (v := nI 4) dX3_feels_7 rfl, ec_icmp_ge (t := 70) dX3_feels_8 rfl, ec_aload_n (i := 0) dX3_feels_11 rfl, ec_get dX3_feels_12, gw_2_20_2, ec_iload dX3_feels_15, ec_aload_n (i := 0) dX3_feels_17 rfl, ec_get dX3_feels_18, gw_2_33_2, ec_aload_n (i := 0) dX3_feels_21 rfl, ec_iload_n (i := 1) dX3_feels_22 rfl, ec_cv1 dX3_feels_23 iN_2_88 cna_2_88, vcE_o ccp_2_88_2, ec_get dX3_feels_26, gw_2_92_12, gw_2_92_13, gw_2_92_14, gw_2_92_15, gw_2_92_16, ec_iload dX3_feels_29, ec_iald dX3_feels_31, iaE_i, ec_iload_n (i := 3) dX3_feels_32 rfl, ec_bipush (v := nI 7) dX3_feels_33 rfl, ec_irem dX3_feels_35, ec_iadd dX3_feels_36, ec_iconst (v := nI 3) dX3_feels_37 rfl, ec_isub dX3_feels_38, ec_iconst (v := nI 0) dX3_feels_39 rfl, ec_bipush (v := nI 9) dX3_feels_40 rfl, ec_cs3 dX3_feels_42 iN_2_95 ccp_2_95_99, ec_iload dX3_feels_45, ec_aload_n (i := 0) dX3_feels_47 rfl, ec_get dX3_feels_48, gw_2_37_2, ec_aload_n (i := 0) dX3_feels_51 rfl, ec_get dX3_feels_52, gw_2_41_2, ec_cv4 dX3_feels_55 iN_2_99 cna_2_99, vcE_o ccp_2_99_3, ec_iast dX3_feels_58, isE_0, ec_iload_n (i := 3) dX3_feels_59 rfl, ec_bipush (v := nI 7) dX3_feels_60 rfl, ec_idiv dX3_feels_62, ec_istore_n (i := 3) dX3_feels_63 rfl, ec_iinc (v := nI 1) dX3_feels_64 rfl, ec_goto (t := 5) dX3_feels_67 rfl, ec_aload_n (i := 0) dX3_feels_70 rfl, ec_get dX3_feels_71, ec_aret dX3_feels_74, ec_aretN dX3_feels_74, ec_aretA dX3_feels_74, cat1_i, cat1_r, cat1_u, catB_n, catB_i, catB_r, catB_l, catB_u, lg_0, lg_s, ldEI_i, ldEL_l, ldEA_r, ldEA_n, lin_0, lin_s, ls1_0, ls1_1, ls1_s, ls2_0, ls2_1, ls2_s, lcl_i, lcl_r, lcl_l, lcl_u, lcl_n, lent_i, lent_r, lent_l, lent_u, lent_0, lent_s, Option.toList_some, Option.toList_none, List.cons_append, List.nil_append, Nat.reduceAdd, true_and, vin_0, vin_s, aE_0, aE_s, EK_r, EK_t, List.set_cons_zero, List.set_cons_succ, va_rf_s, va_rf_n, pC_1, pC_21, aC_1, aC_21, gC_self, gC_new, eI_, eLg_, eV_, eInc_, eN_, eS_, eJ_, eCl_, nI_add, nI_clampI, inb_t, true_and, hF2, nI_eq0_f, not_false_eq_true, nI_div]
    refine hn _ _ ((S1.tr (S2.sub (fun b hb => Or.inl hb))).p hF2 (Or.inr rfl)) (Q2.k' (Fs.rf.p (S := fun b => b = n0 + 3) hF2 rfl) (fun b hb => by subst hb; exact ho)) gC_self (by rw [upd_e]; rfl) (fun j hj => upd_n hj)
  obtain ⟨F0, hF0⟩ := h3
  simp (disch := omega) only [ec_iload_n (i := 2) dX3_feels_0 rfl, ec_istore_n (i := 3) dX3_feels_1 rfl, ec_iconst (v := nI 0) dX3_feels_2 rfl, ec_istore dX3_feels_3, ec_iconst (v := nI 4) dX3_feels_7 rfl, ec_icmp_ge (t := 70) dX3_feels_8 rfl, ec_aload_n (i := 0) dX3_feels_11 rfl, ec_get dX3_feels_12, gw_2_20_2, ec_iload dX3_feels_15, ec_aload_n (i := 0) dX3_feels_17 rfl, ec_get dX3_feels_18, gw_2_33_2, ec_aload_n (i := 0) dX3_feels_21 rfl, ec_iload_n (i := 1) dX3_feels_22 rfl, ec_cv1 dX3_feels_23 iN_2_88 cna_2_88, vcE_o ccp_2_88_2, ec_get dX3_feels_26, gw_2_92_12, gw_2_92_13, gw_2_92_14, gw_2_92_15, gw_2_92_16, ec_iload dX3_feels_29, ec_iald dX3_feels_31, iaE_i, ec_iload_n (i := 3) dX3_feels_32 rfl, ec_bipush (v := nI 7) dX3_feels_33 rfl, ec_irem dX3_feels_35, ec_iadd dX3_feels_36, ec_iconst (v := nI 3) dX3_feels_37 rfl, ec_isub dX3_feels_38, ec_iconst (v := nI 0) dX3_feels_39 rfl, ec_bipush (v := nI 9) dX3_feels_40 rfl, ec_cs3 dX3_feels_42 iN_2_95 ccp_2_95_99, ec_iload dX3_feels_45, ec_aload_n (i := 0) dX3_feels_47 rfl, ec_get dX3_feels_48, gw_2_37_2, ec_aload_n (i := 0) dX3_feels_51 rfl, ec_get dX3_feels_52, gw_2_41_2, ec_cv4 dX3_feels_55 iN_2_99 cna_2_99, vcE_o ccp_2_99_3, ec_iast dX3_feels_58, isE_0, ec_iload_n (i := 3) dX3_feels_59 rfl, ec_bipush (v := nI 7) dX3_feels_60 rfl, ec_idiv dX3_feels_62, ec_istore_n (i := 3) dX3_feels_63 rfl, ec_iinc (v := nI 1) dX3_feels_64 rfl, ec_goto (t := 5) dX3_feels_67 rfl, ec_aload_n (i := 0) dX3_feels_70 rfl, ec_get dX3_feels_71, ec_aret dX3_feels_74, ec_aretN dX3_feels_74, ec_aretA dX3_feels_74, cat1_i, cat1_r, cat1_u, catB_n, catB_i, catB_r, catB_l, catB_u, lg_0, lg_s, ldEI_i, ldEL_l, ldEA_r, ldEA_n, lin_0, lin_s, ls1_0, ls1_1, ls1_s, ls2_0, ls2_1, ls2_s, lcl_i, lcl_r, lcl_l, lcl_u, lcl_n, lent_i, lent_r, lent_l, lent_u, lent_0, lent_s, Option.toList_some, Option.toList_none, List.cons_append, List.nil_append, Nat.reduceAdd, true_and, vin_0, vin_s, aE_0, aE_s, EK_r, EK_t, List.set_cons_zero, List.set_cons_succ, va_rf_s, va_rf_n, pC_1, pC_21, aC_1, aC_21, gC_self, gC_new, eI_, eLg_, eV_, eInc_, eN_, eS_, eJ_, eCl_, nI_add, nI_mul, nI_subI, nI_clampI, inb_t, nI_lt0, nI_0le, nI_m1, nI_m1', nI_ofNat, bI_01, b01_0, b01_1, bI_eq0, bI_eq1, bb_01, true_or, or_true, false_or, or_false, eq_self, Nat.reduceAdd, Nat.reduceMul, Nat.reduceSub, Nat.reduceLT, Nat.reduceLeDiff, Nat.reduceEqDiff, ↓reduceIte, and_true, true_and, and_self, Nat.add_zero, Nat.zero_add, not_false_eq_true, not_true_eq_false, faV_n, faV_s, m1_lt0, m1_0le, m1_eq0, m1_le, le_m1, m1_lt, lt_m1, nI_100k, nI_100, upd_e, upd_n, pC_pC, gC_ne', gC_old', nI_lt_t, nI_lt_f, nI_le_t, nI_le_f, nI_eq_t, nI_eq_f, nI_eq0_t, nI_eq0_f, nI_0lt_t, nI_0lt_f, nI_le0_t, nI_le0_f, nI_eq1_t, nI_eq1_f]
  refine one 0 sl σ F0 (by omega) hsl g0 Fs.rf hQ hF0 (fun σ1 F1 S1 Q1 h1 a1 b1 => ?_)
  refine one 1 (sl / 7) σ1 F1 (by omega) (by omega) g1 S1 Q1 h1 (fun σ2 F2 S2 Q2 h2 a2 b2 => ?_)
  refine one 2 (sl / 7 / 7) σ2 F2 (by omega) (by omega) (by rw [Nat.div_div_eq_div_mul]; exact g2) S2 Q2 h2 (fun σ3 F3 S3 Q3 h3 a3 b3 => ?_)
  refine one 3 (sl / 7 / 7 / 7) σ3 F3 (by omega) (by omega) (by rw [Nat.div_div_eq_div_mul, Nat.div_div_eq_div_mul]; exact g3) S3 Q3 h3 (fun σ4 F4 S4 Q4 h4 a4 b4 => ?_)
  have hne : n0 ≠ fx := fun z => by obtain ⟨Φ, f4⟩ := hQ.fa; rw [← z, h0] at f4; cases f4
  have h0' : gC σ4 n0 = some (.inl (2, nFs n0 qa hour day)) := S4.g (by omega) h0
  unfold nFs at h0'
  simp (disch := omega) only [ec_iload_n (i := 2) dX3_feels_0 rfl, ec_istore_n (i := 3) dX3_feels_1 rfl, ec_iconst (v := nI 0) dX3_feels_2 rfl, ec_istore dX3_feels_3, ec_iload dX3_feels_5, ec_iconst (v := nI 4) dX3_feels_7 rfl, ec_icmp_ge (t := 70) dX3_feels_8 rfl, ec_aload_n (i := 0) dX3_feels_11 rfl, ec_get dX3_feels_12, gw_2_20_2, ec_iload dX3_feels_15, ec_aload_n (i := 0) dX3_feels_17 rfl, ec_get dX3_feels_18, gw_2_33_2, ec_aload_n (i := 0) dX3_feels_21 rfl, ec_iload_n (i := 1) dX3_feels_22 rfl, ec_cv1 dX3_feels_23 iN_2_88 cna_2_88, vcE_o ccp_2_88_2, ec_get dX3_feels_26, gw_2_92_12, gw_2_92_13, gw_2_92_14, gw_2_92_15, gw_2_92_16, ec_iload dX3_feels_29, ec_iald dX3_feels_31, iaE_i, ec_iload_n (i := 3) dX3_feels_32 rfl, ec_bipush (v := nI 7) dX3_feels_33 rfl, ec_irem dX3_feels_35, ec_iadd dX3_feels_36, ec_iconst (v := nI 3) dX3_feels_37 rfl, ec_isub dX3_feels_38, ec_iconst (v := nI 0) dX3_feels_39 rfl, ec_bipush (v := nI 9) dX3_feels_40 rfl, ec_cs3 dX3_feels_42 iN_2_95 ccp_2_95_99, ec_iload dX3_feels_45, ec_aload_n (i := 0) dX3_feels_47 rfl, ec_get dX3_feels_48, gw_2_37_2, ec_aload_n (i := 0) dX3_feels_51 rfl, ec_get dX3_feels_52, gw_2_41_2, ec_cv4 dX3_feels_55 iN_2_99 cna_2_99, vcE_o ccp_2_99_3, ec_iast dX3_feels_58, isE_0, ec_iload_n (i := 3) dX3_feels_59 rfl, ec_bipush (v := nI 7) dX3_feels_60 rfl, ec_idiv dX3_feels_62, ec_istore_n (i := 3) dX3_feels_63 rfl, ec_iinc (v := nI 1) dX3_feels_64 rfl, ec_goto (t := 5) dX3_feels_67 rfl, ec_aload_n (i := 0) dX3_feels_70 rfl, ec_get dX3_feels_71, ec_aret dX3_feels_74, ec_aretN dX3_feels_74, ec_aretA dX3_feels_74, cat1_i, cat1_r, cat1_u, catB_n, catB_i, catB_r, catB_l, catB_u, lg_0, lg_s, ldEI_i, ldEL_l, ldEA_r, ldEA_n, lin_0, lin_s, ls1_0, ls1_1, ls1_s, ls2_0, ls2_1, ls2_s, lcl_i, lcl_r, lcl_l, lcl_u, lcl_n, lent_i, lent_r, lent_l, lent_u, lent_0, lent_s, Option.toList_some, Option.toList_none, List.cons_append, List.nil_append, Nat.reduceAdd, true_and, vin_0, vin_s, aE_0, aE_s, EK_r, EK_t, List.set_cons_zero, List.set_cons_succ, va_rf_s, va_rf_n, pC_1, pC_21, aC_1, aC_21, gC_self, gC_new, eI_, eLg_, eV_, eInc_, eN_, eS_, eJ_, eCl_, nI_add, nI_mul, nI_subI, nI_clampI, inb_t, nI_lt0, nI_0le, nI_m1, nI_m1', nI_ofNat, bI_01, b01_0, b01_1, bI_eq0, bI_eq1, bb_01, true_or, or_true, false_or, or_false, eq_self, Nat.reduceAdd, Nat.reduceMul, Nat.reduceSub, Nat.reduceLT, Nat.reduceLeDiff, Nat.reduceEqDiff, ↓reduceIte, and_true, true_and, and_self, Nat.add_zero, Nat.zero_add, not_false_eq_true, not_true_eq_false, faV_n, faV_s, m1_lt0, m1_0le, m1_eq0, m1_le, le_m1, m1_lt, lt_m1, nI_100k, nI_100, upd_e, upd_n, pC_pC, gC_ne', gC_old', nI_lt_t, nI_lt_f, nI_le_t, nI_le_f, nI_eq_t, nI_eq_f, nI_eq0_t, nI_eq0_f, nI_0lt_t, nI_0lt_f, nI_le0_t, nI_le0_f, nI_eq1_t, nI_eq1_f, h0']
  refine hP σ4 S4 Q4 ⟨F4, h4, fun k hk => ?_⟩
  have : k = 0 ∨ k = 1 ∨ k = 2 ∨ k = 3 := by omega
  rcases this with rfl | rfl | rfl | rfl
  · rw [b4 _ (by omega), b3 _ (by omega), b2 _ (by omega)]; exact a1
  · rw [b4 _ (by omega), b3 _ (by omega)]; exact a2
  · rw [b4 _ (by omega)]; exact a3
  · exact a4
/-- what a night's try may change -/
def TS (ow : Nat → Nat) (n0 t u : Nat) : Nat → Prop := fun b => ow b = 1 ∨ (ow b = t ∧ b ≠ n0 + 1 ∧ b ≠ n0 + 2) ∨ ow b = u
theorem dig_PLAIN : ∀ k, k < 4 → 1200 / 7 ^ k % 7 = noG k := by decide
theorem NightAt.felt (hN : NightAt ow t tl σ n0 qa fx q s L) : fx ≠ n0 + 3 ∧ (ow (n0 + 3) ≠ 0 ∧ ow (n0 + 3) ≠ 1) := by
  obtain ⟨-, hQ, -, hT, ht, -⟩ := hN
  have := ht (n0 + 3) (by omega) (by omega)
  have h1 := hQ.ofx
  refine ⟨fun z => ?_, by have := hT.1; omega⟩
  rw [z] at h1
  have := hT.1
  omega
theorem NightAt.k {σ' : CM} (hN : NightAt ow t tl σ n0 qa fx q s L) (hQ : QC ow σ' qa fx q) (hS : Fs (fun b => b = fx ∨ b = n0 + 3) σ σ') (hF : ∃ F, gC σ' (n0 + 3) = some (.inr (0, 4, .inl F))) : NightAt ow t tl σ' n0 qa fx q s L := by
  have hfx := hQ.ofx
  obtain ⟨⟨a1, lf, kf, ⟨b1, b2, b3, b4, b5, b6⟩, a3⟩, -, c1, hT, ht, hl⟩ := hN
  have h2 := hT.1
  have key : ∀ b, ow b = t → b ≠ n0 + 3 → gC σ' b = gC σ b := fun b hb hn => hS.2.2.1 b (fun z => by rcases z with rfl | rfl <;> omega)
  have tg := fun i (hi : i < 11) => ht (n0 + i) (by omega) (by omega)
  refine ⟨⟨(key n0 (tg 0 (by omega)) (by omega)).trans a1, lf, kf, ⟨(key _ (tg 1 (by omega)) (by omega)).trans b1, (key _ (tg 2 (by omega)) (by omega)).trans b2, hF, (key _ (tg 4 (by omega)) (by omega)).trans b4, fun j hj => ?_, ?_⟩, a3⟩, hQ, fun d hd => ⟨?_, (c1 d hd).2⟩, hT, ht, hl⟩
  · obtain ⟨F, hF⟩ := b5 j hj
    exact ⟨F, (key _ (ht (n0 + 5 + j) (by omega) (by omega)) (by omega)).trans hF⟩
  · obtain ⟨F, hF⟩ := b6
    exact ⟨F, (key _ (tg 10 (by omega)) (by omega)).trans hF⟩
  · have hlt := (hT.2.1 d hd)
    have h3 := tg 3 (by omega)
    have e1 : ∀ b, LkT (qDk q d) (L d) b → gC σ' b = gC σ b := fun b hb => hS.2.2.1 b (fun z => by have := hl d hd b hb; rcases z with rfl | rfl <;> omega)
    obtain ⟨x1, x2⟩ := (c1 d hd).1
    refine ⟨(e1 _ (Or.inl rfl)).trans x1, ?_⟩
    by_cases k5 : qDk q d = 5
    · rw [k5] at x2 ⊢
      exact (e1 _ (Or.inr (Or.inl rfl))).trans x2
    · exact x2.k (e1 _ (Or.inr (Or.inl rfl))) (e1 _ (Or.inr (Or.inr ⟨k5, rfl⟩)))
theorem c_nopens {d h sl B : Nat} {g : Nat → Nat} (hq : QOK q) (hN : NightAt ow t tl σ n0 qa fx q s L) (hd : d < qD q) (hh : h < qH q) (hO : SO B s) (hB : B ≤ 5899000) (hsl : sl < 2401) (hg : ∀ k, k < 4 → sl / 7 ^ k % 7 = g k)
    (hP : ∀ σ', Fs (fun b => b = fx ∨ b = n0 + 3) σ σ' → NightAt ow t tl σ' n0 qa fx q s L → P (.inl (some (.int (bI (oS q s d h g)))), σ')) : EC zs (Jc zs) (e + 127) cX3_opens (some .boolean) 2 0 0 [some (.ref n0), some (.int (nI d)), some (.int (nI h)), some (.int (nI sl))] [] σ P := by
  have hD := hq.1.2.1
  obtain ⟨⟨h0, lf, kf, hB1, hlf⟩, hQ, hL, hT, ht, hl⟩ := id hN
  have hlf := hlf d hd
  have b1 := hB1.1
  have h0' := h0
  unfold nFs at h0'
  obtain ⟨hl', nl, ka, na, sl', fo, xl, xe, hx, mx, h1, h2⟩ := hQ.H
  have hnh := fun P => c_nhand (zs := zs) (e := e + 123) (P := P) hq h0 h1 h2 hh
  simp (disch := omega) only [ec_aload_n (i := 0) dX3_opens_0 rfl, ec_get dX3_opens_1, gw_2_11_2, ec_iload_n (i := 1) dX3_opens_4 rfl, ec_aald dX3_opens_5, raE_4, raE_5, raE_6, raE_7, raE_8, ec_aload_n (i := 0) dX3_opens_6 rfl, ec_iload_n (i := 2) dX3_opens_7 rfl, ec_cv1 dX3_opens_8 iN_2_88 cna_2_88, vcE_o ccp_2_88_2, ec_aload_n (i := 0) dX3_opens_11 rfl, ec_iload_n (i := 2) dX3_opens_12 rfl, ec_iload_n (i := 3) dX3_opens_13 rfl, ec_cv2 dX3_opens_14 iN_2_102 cna_2_102, vcE_o ccp_2_102_2, ec_cv2 dX3_opens_17 iN_2_106 cna_2_106, vcE_o ccp_2_106_5, ec_iret dX3_opens_20, ec_zret dX3_opens_20, cat1_i, cat1_r, cat1_u, catB_n, catB_i, catB_r, catB_l, catB_u, lg_0, lg_s, ldEI_i, ldEL_l, ldEA_r, ldEA_n, lin_0, lin_s, ls1_0, ls1_1, ls1_s, ls2_0, ls2_1, ls2_s, lcl_i, lcl_r, lcl_l, lcl_u, lcl_n, lent_i, lent_r, lent_l, lent_u, lent_0, lent_s, Option.toList_some, Option.toList_none, List.cons_append, List.nil_append, Nat.reduceAdd, true_and, vin_0, vin_s, aE_0, aE_s, EK_r, EK_t, List.set_cons_zero, List.set_cons_succ, va_rf_s, va_rf_n, pC_1, pC_21, aC_1, aC_21, gC_self, gC_new, eI_, eLg_, eV_, eInc_, eN_, eS_, eJ_, eCl_, nI_add, nI_mul, nI_subI, nI_clampI, inb_t, nI_lt0, nI_0le, nI_m1, nI_m1', nI_ofNat, bI_01, b01_0, b01_1, bI_eq0, bI_eq1, bb_01, true_or, or_true, false_or, or_false, eq_self, Nat.reduceAdd, Nat.reduceMul, Nat.reduceSub, Nat.reduceLT, Nat.reduceLeDiff, Nat.reduceEqDiff, ↓reduceIte, and_true, true_and, and_self, Nat.add_zero, Nat.zero_add, not_false_eq_true, not_true_eq_false, faV_n, faV_s, m1_lt0, m1_0le, m1_eq0, m1_le, le_m1, m1_lt, lt_m1, nI_100k, nI_100, upd_e, upd_n, pC_pC, gC_ne', gC_old', nI_lt_t, nI_lt_f, nI_le_t, nI_le_f, nI_eq_t, nI_eq_f, nI_eq0_t, nI_eq0_f, nI_0lt_t, nI_0lt_f, nI_le0_t, nI_le0_f, nI_eq1_t, nI_eq1_f, h0', b1, hlf, hnh]
  refine c_feels hq h0 hB1.2.2.1 hQ hh hN.felt.1 hsl hg hN.felt.2 (fun σ1 S1 Q1 F1 => ?_)
  have N1 := hN.k Q1 S1 (by obtain ⟨F, h, -⟩ := F1; exact ⟨F, h⟩)
  obtain ⟨x1, x2, x3, x4⟩ := h2.2 h hh
  obtain ⟨hk4, -⟩ := hq.2.2.1 h hh
  obtain ⟨hk5, -⟩ := hq.2.2.2.1 d hd
  obtain ⟨L1, V1⟩ := N1.2.2.1 d hd
  have x1' : HandAt σ1 (hx h) (qK q h) (qN q h) (mx h) (qSl q h) (qTr q h) := S1.g (fun z => by
    have := hQ.ofx
    have t2 := hT.1
    have t3 := ht (n0 + 3) (by omega) (by omega)
    rcases z with z | z
    · rw [z] at x2; omega
    · rw [z] at x2; omega) x1
  obtain ⟨lfs, hlc⟩ : ∃ fs, gC σ1 (L d) = some (.inl (5, fs)) := ⟨_, L1.1⟩
  simp (disch := omega) only [ec_aload_n (i := 0) dX3_opens_0 rfl, ec_get dX3_opens_1, gw_2_11_2, ec_iload_n (i := 1) dX3_opens_4 rfl, ec_aald dX3_opens_5, raE_4, raE_5, raE_6, raE_7, raE_8, ec_aload_n (i := 0) dX3_opens_6 rfl, ec_iload_n (i := 2) dX3_opens_7 rfl, ec_cv1 dX3_opens_8 iN_2_88 cna_2_88, vcE_o ccp_2_88_2, ec_aload_n (i := 0) dX3_opens_11 rfl, ec_iload_n (i := 2) dX3_opens_12 rfl, ec_iload_n (i := 3) dX3_opens_13 rfl, ec_cv2 dX3_opens_14 iN_2_102 cna_2_102, vcE_o ccp_2_102_2, ec_cv2 dX3_opens_17 iN_2_106 cna_2_106, vcE_o ccp_2_106_5, ec_iret dX3_opens_20, ec_zret dX3_opens_20, cat1_i, cat1_r, cat1_u, catB_n, catB_i, catB_r, catB_l, catB_u, lg_0, lg_s, ldEI_i, ldEL_l, ldEA_r, ldEA_n, lin_0, lin_s, ls1_0, ls1_1, ls1_s, ls2_0, ls2_1, ls2_s, lcl_i, lcl_r, lcl_l, lcl_u, lcl_n, lent_i, lent_r, lent_l, lent_u, lent_0, lent_s, Option.toList_some, Option.toList_none, List.cons_append, List.nil_append, Nat.reduceAdd, true_and, vin_0, vin_s, aE_0, aE_s, EK_r, EK_t, List.set_cons_zero, List.set_cons_succ, va_rf_s, va_rf_n, pC_1, pC_21, aC_1, aC_21, gC_self, gC_new, eI_, eLg_, eV_, eInc_, eN_, eS_, eJ_, eCl_, nI_add, nI_mul, nI_subI, nI_clampI, inb_t, nI_lt0, nI_0le, nI_m1, nI_m1', nI_ofNat, bI_01, b01_0, b01_1, bI_eq0, bI_eq1, bb_01, true_or, or_true, false_or, or_false, eq_self, Nat.reduceAdd, Nat.reduceMul, Nat.reduceSub, Nat.reduceLT, Nat.reduceLeDiff, Nat.reduceEqDiff, ↓reduceIte, and_true, true_and, and_self, Nat.add_zero, Nat.zero_add, not_false_eq_true, not_true_eq_false, faV_n, faV_s, m1_lt0, m1_0le, m1_eq0, m1_le, le_m1, m1_lt, lt_m1, nI_100k, nI_100, upd_e, upd_n, pC_pC, gC_ne', gC_old', nI_lt_t, nI_lt_f, nI_le_t, nI_le_f, nI_eq_t, nI_eq_f, nI_eq0_t, nI_eq0_f, nI_0lt_t, nI_0lt_f, nI_le0_t, nI_le0_f, nI_eq1_t, nI_eq1_f, hlc, c_lopens (zs := zs) (e := e + 125) L1 hk5 x1' hk4 F1 (fun k _ => ftS_le) (hO d (by omega)) (show B ≤ 5900000 by omega)]
  exact hP σ1 S1 N1
theorem NightAt.set {σ' : CM} {d : Nat} {r : Nat → Nat} (hN : NightAt ow t tl σ n0 qa fx q s L) (hd : d < qD q) (hD : qD q ≤ 5) (hQ : QC ow σ' qa fx q) (hS : Fs (fun b => LkT (qDk q d) (L d) b ∨ b = fx) σ σ') (hL : LockAt σ' (L d) (qDk q d) r) (hv : NV (qDk q d) r) (hc : Cn r) : NightAt ow t tl σ' n0 qa fx q (setRow s d r) L := by
  have hfx := hQ.ofx
  obtain ⟨⟨a1, lf, kf, ⟨b1, b2, b3, b4, b5, b6⟩, a3⟩, -, c1, hT, ht, hl⟩ := hN
  have h2 := hT.1
  have hu := hT.2.1 d hd
  have key : ∀ b, ow b ≠ 1 → ow b ≠ tl d → gC σ' b = gC σ b := fun b hb hn => hS.2.2.1 b (fun z => by
    rcases z with z | rfl
    · exact hn (hl d hd b z)
    · omega)
  have tg := fun i (hi : i < 11) => ht (n0 + i) (by omega) (by omega)
  have kt : ∀ i, i < 11 → gC σ' (n0 + i) = gC σ (n0 + i) := fun i hi => key _ (by rw [tg i hi]; omega) (by rw [tg i hi]; omega)
  have e400 : setRow s d r 400 = s 400 := set_off (by omega)
  have e401 : setRow s d r 401 = s 401 := set_off (by omega)
  refine ⟨⟨?_, lf, kf, ⟨(kt 1 (by omega)).trans b1, (kt 2 (by omega)).trans b2, ?_, (kt 4 (by omega)).trans b4, fun j hj => ?_, ?_⟩, a3⟩, hQ, fun d' hd' => ?_, hT, ht, hl⟩
  · rw [e400, e401]; exact (kt 0 (by omega)).trans a1
  · obtain ⟨F, hF⟩ := b3
    exact ⟨F, (kt 3 (by omega)).trans hF⟩
  · obtain ⟨F, hF⟩ := b5 j hj
    exact ⟨F, by rw [Nat.add_assoc] at hF ⊢; exact (kt (5 + j) (by omega)).trans hF⟩
  · obtain ⟨F, hF⟩ := b6
    exact ⟨F, (kt 10 (by omega)).trans hF⟩
  · by_cases hdd : d' = d
    · subst hdd
      rw [row_set hc]
      exact ⟨hL, hv⟩
    · rw [row_off hdd]
      have hlt := hT.2.1 d' hd'
      have hne := hT.2.2 d' d hd' hd hdd
      have e1 : ∀ b, LkT (qDk q d') (L d') b → gC σ' b = gC σ b := fun b hb => key b (by rw [hl d' hd' b hb]; omega) (by rw [hl d' hd' b hb]; exact hne)
      refine ⟨?_, (c1 d' hd').2⟩
      obtain ⟨x1, x2⟩ := (c1 d' hd').1
      refine ⟨(e1 _ (Or.inl rfl)).trans x1, ?_⟩
      by_cases k5 : qDk q d' = 5
      · rw [k5] at x2 ⊢
        exact (e1 _ (Or.inr (Or.inl rfl))).trans x2
      · exact x2.k (e1 _ (Or.inr (Or.inl rfl))) (e1 _ (Or.inr (Or.inr ⟨k5, rfl⟩)))
theorem c_ntries {d h sl B : Nat} {g : Nat → Nat} (hq : QOK q) (hN : NightAt ow t tl σ n0 qa fx q s L) (hd : d < qD q) (hh : h < qH q) (hO : SO B s) (hB : B ≤ 5899000) (hsl : sl < 2401) (hg : ∀ k, k < 4 → sl / 7 ^ k % 7 = g k)
    (hP : ∀ σ', Fs (TS ow n0 t (tl d)) σ σ' → NightAt ow t tl σ' n0 qa fx q (tS q s d h g) L → P (.inl (some (.int (bI (oS q s d h g)))), σ')) : EC zs (Jc zs) (e + 127) cX3_tries (some .boolean) 2 0 0 [some (.ref n0), some (.int (nI d)), some (.int (nI h)), some (.int (nI sl))] [] σ P := by
  have hD := hq.1.2.1
  obtain ⟨⟨h0, lf, kf, hB1, hlf⟩, hQ, hL, hT, ht, hl⟩ := id hN
  have hlf := hlf d hd
  have b1 := hB1.1
  have h0' := h0
  unfold nFs at h0'
  obtain ⟨hl', nl, ka, na, sl', fo, xl, xe, hx, mx, h1, h2⟩ := hQ.H
  have hnh := fun P => c_nhand (zs := zs) (e := e + 123) (P := P) hq h0 h1 h2 hh
  simp (disch := omega) only [ec_aload_n (i := 0) dX3_tries_0 rfl, ec_get dX3_tries_1, gw_2_11_2, ec_iload_n (i := 1) dX3_tries_4 rfl, ec_aald dX3_tries_5, raE_4, raE_5, raE_6, raE_7, raE_8, ec_aload_n (i := 0) dX3_tries_6 rfl, ec_get dX3_tries_7, gw_2_33_2, ec_aload_n (i := 0) dX3_tries_10 rfl, ec_iload_n (i := 2) dX3_tries_11 rfl, ec_cv1 dX3_tries_12 iN_2_88 cna_2_88, vcE_o ccp_2_88_2, ec_aload_n (i := 0) dX3_tries_15 rfl, ec_iload_n (i := 2) dX3_tries_16 rfl, ec_iload_n (i := 3) dX3_tries_17 rfl, ec_cv2 dX3_tries_18 iN_2_102 cna_2_102, vcE_o ccp_2_102_2, ec_aload_n (i := 0) dX3_tries_21 rfl, ec_get dX3_tries_22, gw_2_37_2, ec_aload_n (i := 0) dX3_tries_25 rfl, ec_get dX3_tries_26, gw_2_41_2, ec_cv5 dX3_tries_29 iN_2_110 cna_2_110, vcE_o ccp_2_110_5, ec_iret dX3_tries_32, ec_zret dX3_tries_32, cat1_i, cat1_r, cat1_u, catB_n, catB_i, catB_r, catB_l, catB_u, lg_0, lg_s, ldEI_i, ldEL_l, ldEA_r, ldEA_n, lin_0, lin_s, ls1_0, ls1_1, ls1_s, ls2_0, ls2_1, ls2_s, lcl_i, lcl_r, lcl_l, lcl_u, lcl_n, lent_i, lent_r, lent_l, lent_u, lent_0, lent_s, Option.toList_some, Option.toList_none, List.cons_append, List.nil_append, Nat.reduceAdd, true_and, vin_0, vin_s, aE_0, aE_s, EK_r, EK_t, List.set_cons_zero, List.set_cons_succ, va_rf_s, va_rf_n, pC_1, pC_21, aC_1, aC_21, gC_self, gC_new, eI_, eLg_, eV_, eInc_, eN_, eS_, eJ_, eCl_, nI_add, nI_mul, nI_subI, nI_clampI, inb_t, nI_lt0, nI_0le, nI_m1, nI_m1', nI_ofNat, bI_01, b01_0, b01_1, bI_eq0, bI_eq1, bb_01, true_or, or_true, false_or, or_false, eq_self, Nat.reduceAdd, Nat.reduceMul, Nat.reduceSub, Nat.reduceLT, Nat.reduceLeDiff, Nat.reduceEqDiff, ↓reduceIte, and_true, true_and, and_self, Nat.add_zero, Nat.zero_add, not_false_eq_true, not_true_eq_false, faV_n, faV_s, m1_lt0, m1_0le, m1_eq0, m1_le, le_m1, m1_lt, lt_m1, nI_100k, nI_100, upd_e, upd_n, pC_pC, gC_ne', gC_old', nI_lt_t, nI_lt_f, nI_le_t, nI_le_f, nI_eq_t, nI_eq_f, nI_eq0_t, nI_eq0_f, nI_0lt_t, nI_0lt_f, nI_le0_t, nI_le0_f, nI_eq1_t, nI_eq1_f, h0', b1, hlf, hnh]
  refine c_feels hq h0 hB1.2.2.1 hQ hh hN.felt.1 hsl hg hN.felt.2 (fun σ1 S1 Q1 F1 => ?_)
  have N1 := hN.k Q1 S1 (by obtain ⟨F, h, -⟩ := F1; exact ⟨F, h⟩)
  obtain ⟨x1, x2, x3, x4⟩ := h2.2 h hh
  obtain ⟨hk4, -⟩ := hq.2.2.1 h hh
  obtain ⟨hk5, -⟩ := hq.2.2.2.1 d hd
  obtain ⟨L1, V1⟩ := N1.2.2.1 d hd
  have t3 := ht (n0 + 3) (by omega) (by omega)
  have t2 := hT.1
  have td := hT.2.1 d hd
  have x1' : HandAt σ1 (hx h) (qK q h) (qN q h) (mx h) (qSl q h) (qTr q h) := S1.g (fun z => by
    have := hQ.ofx
    rcases z with z | z
    · rw [z] at x2; omega
    · rw [z] at x2; omega) x1
  obtain ⟨lfs, hlc⟩ : ∃ fs, gC σ1 (L d) = some (.inl (5, fs)) := ⟨_, L1.1⟩
  have h0'' := N1.1.1
  unfold nFs at h0''
  simp (disch := omega) only [ec_aload_n (i := 0) dX3_tries_0 rfl, ec_get dX3_tries_1, gw_2_11_2, ec_iload_n (i := 1) dX3_tries_4 rfl, ec_aald dX3_tries_5, raE_4, raE_5, raE_6, raE_7, raE_8, ec_aload_n (i := 0) dX3_tries_6 rfl, ec_get dX3_tries_7, gw_2_33_2, ec_aload_n (i := 0) dX3_tries_10 rfl, ec_iload_n (i := 2) dX3_tries_11 rfl, ec_cv1 dX3_tries_12 iN_2_88 cna_2_88, vcE_o ccp_2_88_2, ec_aload_n (i := 0) dX3_tries_15 rfl, ec_iload_n (i := 2) dX3_tries_16 rfl, ec_iload_n (i := 3) dX3_tries_17 rfl, ec_cv2 dX3_tries_18 iN_2_102 cna_2_102, vcE_o ccp_2_102_2, ec_aload_n (i := 0) dX3_tries_21 rfl, ec_get dX3_tries_22, gw_2_37_2, ec_aload_n (i := 0) dX3_tries_25 rfl, ec_get dX3_tries_26, gw_2_41_2, ec_cv5 dX3_tries_29 iN_2_110 cna_2_110, vcE_o ccp_2_110_5, ec_iret dX3_tries_32, ec_zret dX3_tries_32, cat1_i, cat1_r, cat1_u, catB_n, catB_i, catB_r, catB_l, catB_u, lg_0, lg_s, ldEI_i, ldEL_l, ldEA_r, ldEA_n, lin_0, lin_s, ls1_0, ls1_1, ls1_s, ls2_0, ls2_1, ls2_s, lcl_i, lcl_r, lcl_l, lcl_u, lcl_n, lent_i, lent_r, lent_l, lent_u, lent_0, lent_s, Option.toList_some, Option.toList_none, List.cons_append, List.nil_append, Nat.reduceAdd, true_and, vin_0, vin_s, aE_0, aE_s, EK_r, EK_t, List.set_cons_zero, List.set_cons_succ, va_rf_s, va_rf_n, pC_1, pC_21, aC_1, aC_21, gC_self, gC_new, eI_, eLg_, eV_, eInc_, eN_, eS_, eJ_, eCl_, nI_add, nI_mul, nI_subI, nI_clampI, inb_t, nI_lt0, nI_0le, nI_m1, nI_m1', nI_ofNat, bI_01, b01_0, b01_1, bI_eq0, bI_eq1, bb_01, true_or, or_true, false_or, or_false, eq_self, Nat.reduceAdd, Nat.reduceMul, Nat.reduceSub, Nat.reduceLT, Nat.reduceLeDiff, Nat.reduceEqDiff, ↓reduceIte, and_true, true_and, and_self, Nat.add_zero, Nat.zero_add, not_false_eq_true, not_true_eq_false, faV_n, faV_s, m1_lt0, m1_0le, m1_eq0, m1_le, le_m1, m1_lt, lt_m1, nI_100k, nI_100, upd_e, upd_n, pC_pC, gC_ne', gC_old', nI_lt_t, nI_lt_f, nI_le_t, nI_le_f, nI_eq_t, nI_eq_f, nI_eq0_t, nI_eq0_f, nI_0lt_t, nI_0lt_f, nI_le0_t, nI_le0_f, nI_eq1_t, nI_eq1_f, hlc, h0'']
  refine c_tried (e := e + 1) L1 hk5 Q1 x1' hk4 F1 (fun k _ => ftS_le) (fun k5 z => ?_) (fun k5 z => ?_) (fun z => ?_) (hO d (by omega)) hB V1 (fun b hb => by have := hl d hd b hb; omega) (fun σ2 S2 Q2 L2 => ?_)
  · have := hl d hd (L d + 2) (Or.inr (Or.inr ⟨k5, rfl⟩))
    rw [← z] at this
    omega
  · have := hl d hd (L d + 2) (Or.inr (Or.inr ⟨k5, rfl⟩))
    have := hQ.ofx
    rw [← z] at *
    omega
  · have := hQ.ofx
    rw [← z] at this
    omega
  · simp (disch := omega) only [ec_aload_n (i := 0) dX3_tries_0 rfl, ec_get dX3_tries_1, gw_2_11_2, ec_iload_n (i := 1) dX3_tries_4 rfl, ec_aald dX3_tries_5, raE_4, raE_5, raE_6, raE_7, raE_8, ec_aload_n (i := 0) dX3_tries_6 rfl, ec_get dX3_tries_7, gw_2_33_2, ec_aload_n (i := 0) dX3_tries_10 rfl, ec_iload_n (i := 2) dX3_tries_11 rfl, ec_cv1 dX3_tries_12 iN_2_88 cna_2_88, vcE_o ccp_2_88_2, ec_aload_n (i := 0) dX3_tries_15 rfl, ec_iload_n (i := 2) dX3_tries_16 rfl, ec_iload_n (i := 3) dX3_tries_17 rfl, ec_cv2 dX3_tries_18 iN_2_102 cna_2_102, vcE_o ccp_2_102_2, ec_aload_n (i := 0) dX3_tries_21 rfl, ec_get dX3_tries_22, gw_2_37_2, ec_aload_n (i := 0) dX3_tries_25 rfl, ec_get dX3_tries_26, gw_2_41_2, ec_cv5 dX3_tries_29 iN_2_110 cna_2_110, vcE_o ccp_2_110_5, ec_iret dX3_tries_32, ec_zret dX3_tries_32, cat1_i, cat1_r, cat1_u, catB_n, catB_i, catB_r, catB_l, catB_u, lg_0, lg_s, ldEI_i, ldEL_l, ldEA_r, ldEA_n, lin_0, lin_s, ls1_0, ls1_1, ls1_s, ls2_0, ls2_1, ls2_s, lcl_i, lcl_r, lcl_l, lcl_u, lcl_n, lent_i, lent_r, lent_l, lent_u, lent_0, lent_s, Option.toList_some, Option.toList_none, List.cons_append, List.nil_append, Nat.reduceAdd, true_and, vin_0, vin_s, aE_0, aE_s, EK_r, EK_t, List.set_cons_zero, List.set_cons_succ, va_rf_s, va_rf_n, pC_1, pC_21, aC_1, aC_21, gC_self, gC_new, eI_, eLg_, eV_, eInc_, eN_, eS_, eJ_, eCl_, nI_add, nI_mul, nI_subI, nI_clampI, inb_t, nI_lt0, nI_0le, nI_m1, nI_m1', nI_ofNat, bI_01, b01_0, b01_1, bI_eq0, bI_eq1, bb_01, true_or, or_true, false_or, or_false, eq_self, Nat.reduceAdd, Nat.reduceMul, Nat.reduceSub, Nat.reduceLT, Nat.reduceLeDiff, Nat.reduceEqDiff, ↓reduceIte, and_true, true_and, and_self, Nat.add_zero, Nat.zero_add, not_false_eq_true, not_true_eq_false, faV_n, faV_s, m1_lt0, m1_0le, m1_eq0, m1_le, le_m1, m1_lt, lt_m1, nI_100k, nI_100, upd_e, upd_n, pC_pC, gC_ne', gC_old', nI_lt_t, nI_lt_f, nI_le_t, nI_le_f, nI_eq_t, nI_eq_f, nI_eq0_t, nI_eq0_f, nI_0lt_t, nI_0lt_f, nI_le0_t, nI_le0_f, nI_eq1_t, nI_eq1_f]
    refine hP σ2 ((S1.sub (fun b hb => ?_)).tr (S2.sub (fun b hb => ?_))) (N1.set hd hD Q2 S2 L2 (V1.tr (fun k _ => ftS_le)) (Cn.row.tr (fun k _ => ftS_le)))
    · have := hQ.ofx
      rcases hb with rfl | rfl
      · exact Or.inl this
      · exact Or.inr (Or.inl ⟨t3, by omega, by omega⟩)
    · have := hQ.ofx
      rcases hb with hb | rfl
      · exact Or.inr (Or.inr (hl d hd b hb))
      · exact Or.inl this
end
