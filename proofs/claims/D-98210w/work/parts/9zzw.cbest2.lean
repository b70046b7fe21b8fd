set_option maxRecDepth 100000
/-! THE COMPONENT's public calls: best: the slips laid -/
section
variable {zs : Nat → Nat} {e : Nat} {σ : CM} {P : CR → Prop} {ow tl : Nat → Nat} {t n0 qa fx : Nat} {q : QT} {s L : Nat → Nat} {x0 hl : Nat} {op al : Int32} {gg : Int64} {A : Nat → Nat} {B : Nat} {er fa mn fw w : Nat} {ff : Nat → Option Nat} {ab be : Int32}
abbrev erC (fa mn l x0 : Nat) (ab be : Int32) : Cl := .inl (33, [.ref fa, .ref mn, .ref l, .int ab, .int be, .ref x0])
/-- what is written while a hand's slips are laid -/
abbrev LaS (n0 fx fw mn : Nat) : Nat → Prop := fun b => b = fx ∨ b = n0 + 3 ∨ b = fw ∨ b = mn
theorem NightAt.t6 (hN : NightAt ow t tl σ n0 qa fx q s L) (h40 : 39 < t ∧ ∀ d, d < qD q → 39 < tl d) {b : Nat} (h6 : ow b = 6) : b ≠ fx ∧ b ≠ n0 + 3 := by
  have h1 := hN.2.1.ofx
  have h3 := hN.2.2.2.2.1 (n0 + 3) (by omega) (by omega)
  exact ⟨fun z => by rw [z] at h6; omega, fun z => by rw [z] at h6; omega⟩
theorem NightAt.w6 {S : Nat → Prop} {σ' : CM} (hN : NightAt ow t tl σ n0 qa fx q s L) (h40 : 39 < t ∧ ∀ d, d < qD q → 39 < tl d) (hw : HW σ) (hS : Fs S σ σ') (h6 : ∀ b, S b → ow b = 6) : NightAt ow t tl σ' n0 qa fx q s L := hN.fr hw (hS.fr hw) (fun b _ hb => by
  have := h6 b hb
  exact ⟨by omega, by omega, by omega, fun d hd => by have := h40.2 d hd; omega⟩)
theorem c_la_lo {d h : Nat} {G0 : Nat → Int32} (hq : QOK q) (hd : d < qD q) (hh : h < qH q) (hw2 : w < 2) (hw : HW σ) (hO : SO B s) (hB : B ≤ 5899000) (hX : Apt ow tl t q (fun b => b = x0)) (h40 : 39 < t ∧ ∀ d, d < qD q → 39 < tl d) (hT : ow er = 6 ∧ ow fa = 6 ∧ ow fw = 6 ∧ ow mn = 6) (hR : gC σ x0 = some (.inl (0, rtF n0 hl op al gg A))) (hE : gC σ er = some (erC fa mn (L d) x0 ab be)) (hA : gC σ fa = some (.inr (8, 2, .inr (.inr (.inr (.inr ff)))))) (hff : ff w = some fw) (hx2 : ow x0 = 2) (hD4 : er ≠ fw ∧ er ≠ mn ∧ fa ≠ fw ∧ fa ≠ mn ∧ fw ≠ mn) (hP : ∀ σ' F G, Fs (LaS n0 fx fw mn) σ σ' → NightAt ow t tl σ' n0 qa fx q s L → gC σ' fw = some (.inr (0, 2401, .inl F)) → gC σ' mn = some (.inr (0, 2, .inl G)) → FaA q s d h F 2401 → G w = nI (smN (cA q h) 2401) → (∀ j, j ≠ w → G j = G0 j) → P (.inl none, σ')) : ∀ (i k : Nat), k + i = 2401 → ∀ σ1 F G, Fs (LaS n0 fx fw mn) σ σ1 → NightAt ow t tl σ1 n0 qa fx q s L → gC σ1 fw = some (.inr (0, 2401, .inl F)) → gC σ1 mn = some (.inr (0, 2, .inl G)) → FaA q s d h F k → G w = nI (smN (cA q h) k) → (∀ j, j ≠ w → G j = G0 j) → EC zs (Jc zs) (e + 129) cX16_lays none 33 0 9 [some (.ref er), some (.int (nI w)), some (.int (nI h)), some (.int (nI k))] [] σ1 P
  | 0, k, hk, σ1, F, G, S1, N1, f1, m1, a1, g1, g2 => by
    have hk' : k = 2401 := by omega
    subst hk'
    simp (disch := omega) only [ec_aload_n (i := 0) dX16_lays_0 rfl, ec_get dX16_lays_1, gw_33_20_33, ec_iload_n (i := 1) dX16_lays_4 rfl, ec_iconst (v := nI 0) dX16_lays_5 rfl, ec_iast dX16_lays_6, isE_0, ec_iconst (v := nI 0) dX16_lays_7 rfl, ec_istore_n (i := 3) dX16_lays_8 rfl, ec_iload_n (i := 3) dX16_lays_9 rfl, ec_sipush (v := nI 2401) dX16_lays_10 rfl, ec_icmp_ge (t := 61) dX16_lays_13 rfl, ec_aload_n (i := 0) dX16_lays_16 rfl, ec_get dX16_lays_17, gw_33_3_33, ec_iload_n (i := 2) dX16_lays_20 rfl, ec_iload_n (i := 3) dX16_lays_21 rfl, ec_cv2 dX16_lays_22 iN_33_54 cna_33_54, vcE_o ccp_33_54_0, ec_if_eq (t := 55) dX16_lays_25 rfl, ec_aload_n (i := 0) dX16_lays_28 rfl, ec_iload_n (i := 1) dX16_lays_29 rfl, ec_aload_n (i := 0) dX16_lays_30 rfl, ec_get dX16_lays_31, gw_33_34_33, ec_get dX16_lays_34, gw_33_58_5, ec_aload_n (i := 0) dX16_lays_37 rfl, ec_get dX16_lays_38, ec_get dX16_lays_41, gw_33_24_0, ec_iload_n (i := 2) dX16_lays_44 rfl, ec_iload_n (i := 3) dX16_lays_45 rfl, ec_cv2 dX16_lays_46 iN_33_64 cna_33_64, vcE_o ccp_33_64_2, ec_cv1 dX16_lays_49 iN_33_68 cna_33_68, vcE_o ccp_33_68_6, vcE_o ccp_33_68_7, vcE_o ccp_33_68_8, vcE_o ccp_33_68_9, vcE_o ccp_33_68_10, vcE_o ccp_33_68_11, ec_cv2 dX16_lays_52 iN_33_73 cna_33_73, vcE_o ccp_33_73_33, ec_iinc (v := nI 1) dX16_lays_55 rfl, ec_goto (t := 9) dX16_lays_58 rfl, ec_vret dX16_lays_61, cat1_i, cat1_r, cat1_u, catB_n, catB_i, catB_r, catB_l, catB_u, lg_0, lg_s, ldEI_i, ldEL_l, ldEA_r, ldEA_n, lin_0, lin_s, ls1_0, ls1_1, ls1_s, ls2_0, ls2_1, ls2_s, lcl_i, lcl_r, lcl_l, lcl_u, lcl_n, lent_i, lent_r, lent_l, lent_u, lent_0, lent_s, Option.toList_some, Option.toList_none, List.cons_append, List.nil_append, Nat.reduceAdd, true_and, vin_0, vin_s, aE_0, aE_s, EK_r, EK_t, List.set_cons_zero, List.set_cons_succ, va_rf_s, va_rf_n, pC_1, pC_21, aC_1, aC_21, gC_self, gC_new, eI_, eLg_, eV_, eInc_, eN_, eS_, eJ_, eCl_, nI_add, nI_mul, nI_subI, nI_clampI, inb_t, nI_lt0, nI_0le, nI_m1, nI_m1', nI_ofNat, bI_01, b01_0, b01_1, bI_eq0, bI_eq1, bb_01, true_or, or_true, false_or, or_false, eq_self, Nat.reduceAdd, Nat.reduceMul, Nat.reduceSub, Nat.reduceLT, Nat.reduceLeDiff, Nat.reduceEqDiff, ↓reduceIte, and_true, true_and, and_self, Nat.add_zero, Nat.zero_add, not_false_eq_true, not_true_eq_false, faV_n, faV_s, m1_lt0, m1_0le, m1_eq0, m1_le, le_m1, m1_lt, lt_m1, nI_100k, nI_100, upd_e, upd_n, pC_pC, gC_ne', gC_old', nI_lt_t, nI_lt_f, nI_le_t, nI_le_f, nI_eq_t, nI_eq_f, nI_eq0_t, nI_eq0_f, nI_0lt_t, nI_0lt_f, nI_le0_t, nI_le0_f, nI_eq1_t, nI_eq1_f]
    exact hP σ1 F G S1 N1 f1 m1 a1 g1 g2
  | i + 1, k, hk, σ1, F, G, S1, N1, f1, m1, a1, g1, g2 => by
    have hD := hq.1.2.1
    have hH := hq.1.1
    have lA := smN_le (f := cA q h) (fun i => by unfold cA; split <;> omega) k
    obtain ⟨t1, t2, t3, t4⟩ := hT
    have e1 := N1.t6 h40 t1
    have e2 := N1.t6 h40 t2
    have e3 := N1.t6 h40 t3
    have e4 := N1.t6 h40 t4
    have ex : x0 ≠ fw := fun z => by rw [z] at hx2; omega
    have ex' : x0 ≠ mn := fun z => by rw [z] at hx2; omega
    have nfx := N1.2.1.ofx
    have n3t := N1.2.2.2.2.1 (n0 + 3) (by omega) (by omega)
    have R1 : gC σ1 x0 = some (.inl (0, rtF n0 hl op al gg A)) := S1.g (fun z => by
      rcases z with z | z | z | z
      · rw [z] at hx2; omega
      · rw [z] at hx2; omega
      · exact ex z
      · exact ex' z) hR
    have E1 : gC σ1 er = some (erC fa mn (L d) x0 ab be) := S1.g (fun z => by
      rcases z with z | z | z | z
      · exact e1.1 z
      · exact e1.2 z
      · exact hD4.1 z
      · exact hD4.2.1 z) hE
    have A1 : gC σ1 fa = some (.inr (8, 2, .inr (.inr (.inr (.inr ff))))) := S1.g (fun z => by
      rcases z with z | z | z | z
      · exact e2.1 z
      · exact e2.2 z
      · exact hD4.2.2.1 z
      · exact hD4.2.2.2.1 z) hA
    have asl := fun P => c_areSlips (zs := zs) (e := e + 125) (P := P) (h := h) (x := nI k) hq hh R1 N1
    have ih := c_la_lo hq hd hh hw2 hw hO hB hX h40 ⟨t1, t2, t3, t4⟩ hR hE hA hff hx2 hD4 hP i (k + 1) (by omega)
    have evS : slV q h (nI k) = slB k (qSl q h) := by
      unfold slV
      rw [show decide (0 ≤ nI k ∧ nI k ≤ nI 2400) = true from decide_eq_true ⟨nI_le (a := 0) (by omega) (by omega), nI_le (by omega) (by omega)⟩, show ix (nI k) = k from nI_clamp (by omega), Bool.true_and]
    have eA : smN (cA q h) (k + 1) = smN (cA q h) k + cA q h k := rfl
    rw [eA] at ih
    have R1' := R1
    unfold rtF at R1'
    rw [ec_iload_n (i := 3) dX16_lays_9 rfl]
    cases hsl : slB k (qSl q h) with
    | false =>
      have h0 : cA q h k = 0 := by unfold cA; rw [hsl]; rfl
      rw [h0, Nat.add_zero] at ih
      simp (disch := omega) only [ec_aload_n (i := 0) dX16_lays_0 rfl, ec_get dX16_lays_1, gw_33_20_33, ec_iload_n (i := 1) dX16_lays_4 rfl, ec_iconst (v := nI 0) dX16_lays_5 rfl, ec_iast dX16_lays_6, isE_0, ec_iconst (v := nI 0) dX16_lays_7 rfl, ec_istore_n (i := 3) dX16_lays_8 rfl, ec_sipush (v := nI 2401) dX16_lays_10 rfl, ec_icmp_ge (t := 61) dX16_lays_13 rfl, ec_aload_n (i := 0) dX16_lays_16 rfl, ec_get dX16_lays_17, gw_33_3_33, ec_iload_n (i := 2) dX16_lays_20 rfl, ec_iload_n (i := 3) dX16_lays_21 rfl, ec_cv2 dX16_lays_22 iN_33_54 cna_33_54, vcE_o ccp_33_54_0, ec_if_eq (t := 55) dX16_lays_25 rfl, ec_aload_n (i := 0) dX16_lays_28 rfl, ec_iload_n (i := 1) dX16_lays_29 rfl, ec_aload_n (i := 0) dX16_lays_30 rfl, ec_get dX16_lays_31, gw_33_34_33, ec_get dX16_lays_34, gw_33_58_5, ec_aload_n (i := 0) dX16_lays_37 rfl, ec_get dX16_lays_38, ec_get dX16_lays_41, gw_33_24_0, ec_iload_n (i := 2) dX16_lays_44 rfl, ec_iload_n (i := 3) dX16_lays_45 rfl, ec_cv2 dX16_lays_46 iN_33_64 cna_33_64, vcE_o ccp_33_64_2, ec_cv1 dX16_lays_49 iN_33_68 cna_33_68, vcE_o ccp_33_68_6, vcE_o ccp_33_68_7, vcE_o ccp_33_68_8, vcE_o ccp_33_68_9, vcE_o ccp_33_68_10, vcE_o ccp_33_68_11, ec_cv2 dX16_lays_52 iN_33_73 cna_33_73, vcE_o ccp_33_73_33, ec_iinc (v := nI 1) dX16_lays_55 rfl, ec_goto (t := 9) dX16_lays_58 rfl, ec_vret dX16_lays_61, cat1_i, cat1_r, cat1_u, catB_n, catB_i, catB_r, catB_l, catB_u, lg_0, lg_s, ldEI_i, ldEL_l, ldEA_r, ldEA_n, lin_0, lin_s, ls1_0, ls1_1, ls1_s, ls2_0, ls2_1, ls2_s, lcl_i, lcl_r, lcl_l, lcl_u, lcl_n, lent_i, lent_r, lent_l, lent_u, lent_0, lent_s, Option.toList_some, Option.toList_none, List.cons_append, List.nil_append, Nat.reduceAdd, true_and, vin_0, vin_s, aE_0, aE_s, EK_r, EK_t, List.set_cons_zero, List.set_cons_succ, va_rf_s, va_rf_n, pC_1, pC_21, aC_1, aC_21, gC_self, gC_new, eI_, eLg_, eV_, eInc_, eN_, eS_, eJ_, eCl_, nI_add, nI_mul, nI_subI, nI_clampI, inb_t, nI_lt0, nI_0le, nI_m1, nI_m1', nI_ofNat, bI_01, b01_0, b01_1, bI_eq0, bI_eq1, bb_01, true_or, or_true, false_or, or_false, eq_self, Nat.reduceAdd, Nat.reduceMul, Nat.reduceSub, Nat.reduceLT, Nat.reduceLeDiff, Nat.reduceEqDiff, ↓reduceIte, and_true, true_and, and_self, Nat.add_zero, Nat.zero_add, not_false_eq_true, not_true_eq_false, faV_n, faV_s, m1_lt0, m1_0le, m1_eq0, m1_le, le_m1, m1_lt, lt_m1, nI_100k, nI_100, upd_e, upd_n, pC_pC, gC_ne', gC_old', nI_lt_t, nI_lt_f, nI_le_t, nI_le_f, nI_eq_t, nI_eq_f, nI_eq0_t, nI_eq0_f, nI_0lt_t, nI_0lt_f, nI_le0_t, nI_le0_f, nI_eq1_t, nI_eq1_f, R1', E1, asl, evS, hsl]
      exact ih σ1 F G S1 N1 f1 m1 (fun x hx hb => a1 x (Nat.lt_of_le_of_ne (by omega) (fun z => by rw [z, hsl] at hb; cases hb)) hb) g1 g2
    | true =>
      have h1 : cA q h k = 1 := if_pos hsl
      rw [h1] at ih
      obtain ⟨lfs, kfs, b1, hlf, hNB, hL⟩ := N1.lk hd
      have hlc := hL.1
      unfold lkF at hlc
      have g0' := N1.1.1
      unfold nFs at g0'
      simp (disch := omega) only [ec_aload_n (i := 0) dX16_lays_0 rfl, ec_get dX16_lays_1, gw_33_20_33, ec_iload_n (i := 1) dX16_lays_4 rfl, ec_iconst (v := nI 0) dX16_lays_5 rfl, ec_iast dX16_lays_6, isE_0, ec_iconst (v := nI 0) dX16_lays_7 rfl, ec_istore_n (i := 3) dX16_lays_8 rfl, ec_sipush (v := nI 2401) dX16_lays_10 rfl, ec_icmp_ge (t := 61) dX16_lays_13 rfl, ec_aload_n (i := 0) dX16_lays_16 rfl, ec_get dX16_lays_17, gw_33_3_33, ec_iload_n (i := 2) dX16_lays_20 rfl, ec_iload_n (i := 3) dX16_lays_21 rfl, ec_cv2 dX16_lays_22 iN_33_54 cna_33_54, vcE_o ccp_33_54_0, ec_if_eq (t := 55) dX16_lays_25 rfl, ec_aload_n (i := 0) dX16_lays_28 rfl, ec_iload_n (i := 1) dX16_lays_29 rfl, ec_aload_n (i := 0) dX16_lays_30 rfl, ec_get dX16_lays_31, gw_33_34_33, ec_get dX16_lays_34, gw_33_58_5, ec_aload_n (i := 0) dX16_lays_37 rfl, ec_get dX16_lays_38, ec_get dX16_lays_41, gw_33_24_0, ec_iload_n (i := 2) dX16_lays_44 rfl, ec_iload_n (i := 3) dX16_lays_45 rfl, ec_cv2 dX16_lays_46 iN_33_64 cna_33_64, vcE_o ccp_33_64_2, ec_cv2 dX16_lays_52 iN_33_73 cna_33_73, vcE_o ccp_33_73_33, ec_iinc (v := nI 1) dX16_lays_55 rfl, ec_goto (t := 9) dX16_lays_58 rfl, ec_vret dX16_lays_61, cat1_i, cat1_r, cat1_u, catB_n, catB_i, catB_r, catB_l, catB_u, lg_0, lg_s, ldEI_i, ldEL_l, ldEA_r, ldEA_n, lin_0, lin_s, ls1_0, ls1_1, ls1_s, ls2_0, ls2_1, ls2_s, lcl_i, lcl_r, lcl_l, lcl_u, lcl_n, lent_i, lent_r, lent_l, lent_u, lent_0, lent_s, Option.toList_some, Option.toList_none, List.cons_append, List.nil_append, Nat.reduceAdd, true_and, vin_0, vin_s, aE_0, aE_s, EK_r, EK_t, List.set_cons_zero, List.set_cons_succ, va_rf_s, va_rf_n, pC_1, pC_21, aC_1, aC_21, gC_self, gC_new, eI_, eLg_, eV_, eInc_, eN_, eS_, eJ_, eCl_, nI_add, nI_mul, nI_subI, nI_clampI, inb_t, nI_lt0, nI_0le, nI_m1, nI_m1', nI_ofNat, bI_01, b01_0, b01_1, bI_eq0, bI_eq1, bb_01, true_or, or_true, false_or, or_false, eq_self, Nat.reduceAdd, Nat.reduceMul, Nat.reduceSub, Nat.reduceLT, Nat.reduceLeDiff, Nat.reduceEqDiff, ↓reduceIte, and_true, true_and, and_self, Nat.add_zero, Nat.zero_add, not_false_eq_true, not_true_eq_false, faV_n, faV_s, m1_lt0, m1_0le, m1_eq0, m1_le, le_m1, m1_lt, lt_m1, nI_100k, nI_100, upd_e, upd_n, pC_pC, gC_ne', gC_old', nI_lt_t, nI_lt_f, nI_le_t, nI_le_f, nI_eq_t, nI_eq_f, nI_eq0_t, nI_eq0_f, nI_0lt_t, nI_0lt_f, nI_le0_t, nI_le0_f, nI_eq1_t, nI_eq1_f, R1', E1, asl, evS, hsl, Bool.true_eq_false, hlc, g0']
      refine c_feels (e := e + 2) hq N1.1.1 hNB.2.2.1 N1.2.1 hh N1.felt.1 (show k < 2401 by omega) dg_x N1.felt.2 (fun σ3 S3 Q3 F3 => ?_)
      have N3 := N1.k Q3 S3 (by obtain ⟨F, h, -⟩ := F3; exact ⟨F, h⟩)
      have hk5 := (hq.2.2.2.1 d hd).1
      refine c_mfar (e := e + 127) (hO d (by omega)) hB hk5 (N3.2.2.1 d hd).1.2 F3 ?_
      have ns : ∀ {b : Nat}, b ≠ fx ∧ b ≠ n0 + 3 → ¬ (b = fx ∨ b = n0 + 3) := fun h z => z.elim h.1 h.2
      have E3 := S3.g (ns e1) E1
      have A3 := S3.g (ns e2) A1
      have f3 := S3.g (ns e3) f1
      have m3 := S3.g (ns e4) m1
      have S03 := S1.tr (S3.sub (fun b hb => by
        rcases hb with z | z
        · exact Or.inl z
        · exact Or.inr (Or.inl z)))
      have hw3 := S03.hw hw
      obtain ⟨v, hv⟩ : ∃ v, v = faV (faS (qDk q d) (rowOf s d) (fnS q s h (dgt k))) := ⟨_, rfl⟩
      rw [← hv]
      have g1' : G (nI w).toNatClampNeg = nI (smN (cA q h) k) := by rw [nI_clampI (by omega)]; exact g1
      simp (disch := omega) only [ec_aload_n (i := 0) dX16_lays_0 rfl, ec_get dX16_lays_1, gw_33_20_33, ec_iload_n (i := 1) dX16_lays_4 rfl, ec_iconst (v := nI 0) dX16_lays_5 rfl, ec_iast dX16_lays_6, isE_0, ec_iconst (v := nI 0) dX16_lays_7 rfl, ec_istore_n (i := 3) dX16_lays_8 rfl, ec_sipush (v := nI 2401) dX16_lays_10 rfl, ec_icmp_ge (t := 61) dX16_lays_13 rfl, ec_aload_n (i := 0) dX16_lays_16 rfl, ec_get dX16_lays_17, gw_33_3_33, ec_iload_n (i := 2) dX16_lays_20 rfl, ec_iload_n (i := 3) dX16_lays_21 rfl, ec_cv2 dX16_lays_22 iN_33_54 cna_33_54, vcE_o ccp_33_54_0, ec_if_eq (t := 55) dX16_lays_25 rfl, ec_aload_n (i := 0) dX16_lays_28 rfl, ec_iload_n (i := 1) dX16_lays_29 rfl, ec_aload_n (i := 0) dX16_lays_30 rfl, ec_get dX16_lays_31, gw_33_34_33, ec_get dX16_lays_34, gw_33_58_5, ec_aload_n (i := 0) dX16_lays_37 rfl, ec_get dX16_lays_38, ec_get dX16_lays_41, gw_33_24_0, ec_iload_n (i := 2) dX16_lays_44 rfl, ec_iload_n (i := 3) dX16_lays_45 rfl, ec_cv2 dX16_lays_46 iN_33_64 cna_33_64, vcE_o ccp_33_64_2, ec_cv2 dX16_lays_52 iN_33_73 cna_33_73, vcE_o ccp_33_73_33, ec_iinc (v := nI 1) dX16_lays_55 rfl, ec_goto (t := 9) dX16_lays_58 rfl, ec_vret dX16_lays_61, ec_aload_n (i := 0) dX16_addsFar_0 rfl, ec_get dX16_addsFar_1, gw_33_17_33, ec_iload_n (i := 1) dX16_addsFar_4 rfl, ec_aald dX16_addsFar_5, raE_4, raE_5, raE_6, raE_7, raE_8, ec_aload_n (i := 0) dX16_addsFar_6 rfl, ec_get dX16_addsFar_7, gw_33_20_33, ec_iload_n (i := 1) dX16_addsFar_10 rfl, ec_iald dX16_addsFar_11, iaE_i, ec_iload_n (i := 2) dX16_addsFar_12 rfl, ec_iast dX16_addsFar_13, isE_0, ec_aload_n (i := 0) dX16_addsFar_14 rfl, ec_get dX16_addsFar_15, ec_iload_n (i := 1) dX16_addsFar_18 rfl, ec_dup2 dX16_addsFar_19, ec_iald dX16_addsFar_20, ec_iconst (v := nI 1) dX16_addsFar_21 rfl, ec_iadd dX16_addsFar_22, ec_iast dX16_addsFar_23, ec_vret dX16_addsFar_24, cat1_i, cat1_r, cat1_u, catB_n, catB_i, catB_r, catB_l, catB_u, lg_0, lg_s, ldEI_i, ldEL_l, ldEA_r, ldEA_n, lin_0, lin_s, ls1_0, ls1_1, ls1_s, ls2_0, ls2_1, ls2_s, lcl_i, lcl_r, lcl_l, lcl_u, lcl_n, lent_i, lent_r, lent_l, lent_u, lent_0, lent_s, Option.toList_some, Option.toList_none, List.cons_append, List.nil_append, Nat.reduceAdd, true_and, vin_0, vin_s, aE_0, aE_s, EK_r, EK_t, List.set_cons_zero, List.set_cons_succ, va_rf_s, va_rf_n, pC_1, pC_21, aC_1, aC_21, gC_self, gC_new, eI_, eLg_, eV_, eInc_, eN_, eS_, eJ_, eCl_, nI_add, nI_mul, nI_subI, nI_clampI, inb_t, nI_lt0, nI_0le, nI_m1, nI_m1', nI_ofNat, bI_01, b01_0, b01_1, bI_eq0, bI_eq1, bb_01, true_or, or_true, false_or, or_false, eq_self, Nat.reduceAdd, Nat.reduceMul, Nat.reduceSub, Nat.reduceLT, Nat.reduceLeDiff, Nat.reduceEqDiff, ↓reduceIte, and_true, true_and, and_self, Nat.add_zero, Nat.zero_add, not_false_eq_true, not_true_eq_false, faV_n, faV_s, m1_lt0, m1_0le, m1_eq0, m1_le, le_m1, m1_lt, lt_m1, nI_100k, nI_100, upd_e, upd_n, pC_pC, gC_ne', gC_old', nI_lt_t, nI_lt_f, nI_le_t, nI_le_f, nI_eq_t, nI_eq_f, nI_eq0_t, nI_eq0_f, nI_0lt_t, nI_0lt_f, nI_le0_t, nI_le0_f, nI_eq1_t, nI_eq1_f, E3, A3, hff, f3, m3, g1]
      have fp : ∀ {c : Cl}, gC (pC σ3 fw c) mn = gC σ3 mn := gC_ne (fun z => hD4.2.2.2.2 z.symm)
      have S4 : Fs (fun b => b = fw ∨ b = mn) σ3 (pC (pC σ3 fw (.inr (0, 2401, .inl (upd F (smN (cA q h) k) v)))) mn (.inr (0, 2, .inl (upd G w (nI (smN (cA q h) k + 1)))))) := (Fs.rf.p f3 (Or.inl rfl)).p (fp.trans m3) (Or.inr rfl)
      refine ih _ (upd F (smN (cA q h) k) v) (upd G w (nI (smN (cA q h) k + 1))) (S03.tr (S4.sub (fun b hb => Or.inr (Or.inr hb)))) (N3.w6 h40 hw3 S4 (fun b hb => by
        rcases hb with z | z
        · rw [z]; exact t3
        · rw [z]; exact t4)) ((gC_ne hD4.2.2.2.2).trans gC_self) gC_self (fun x hx hb => ?_) upd_e (fun j hj => by rw [upd_n hj]; exact g2 j hj)
      rcases Nat.lt_or_ge x k with hlt | hge
      · have h1x : cA q h x = 1 := if_pos hb
        have := smN_mono (f := cA q h) k (show x + 1 ≤ k by omega)
        have e1 : smN (cA q h) (x + 1) = smN (cA q h) x + cA q h x := rfl
        rw [upd_n (by omega)]
        exact a1 x hlt hb
      · have : x = k := by omega
        subst this
        rw [upd_e]
        exact hv
theorem c_elays {d h : Nat} {G0 F0 : Nat → Int32} (hq : QOK q) (hd : d < qD q) (hh : h < qH q) (hw2 : w < 2) (hw : HW σ) (hO : SO B s) (hB : B ≤ 5899000) (hX : Apt ow tl t q (fun b => b = x0)) (h40 : 39 < t ∧ ∀ d, d < qD q → 39 < tl d) (hT : ow er = 6 ∧ ow fa = 6 ∧ ow fw = 6 ∧ ow mn = 6) (hR : gC σ x0 = some (.inl (0, rtF n0 hl op al gg A))) (hE : gC σ er = some (erC fa mn (L d) x0 ab be)) (hA : gC σ fa = some (.inr (8, 2, .inr (.inr (.inr (.inr ff)))))) (hff : ff w = some fw) (hx2 : ow x0 = 2) (hD4 : er ≠ fw ∧ er ≠ mn ∧ fa ≠ fw ∧ fa ≠ mn ∧ fw ≠ mn) (hN : NightAt ow t tl σ n0 qa fx q s L) (hF : gC σ fw = some (.inr (0, 2401, .inl F0))) (hG : gC σ mn = some (.inr (0, 2, .inl G0))) (hP : ∀ σ' F G, Fs (LaS n0 fx fw mn) σ σ' → NightAt ow t tl σ' n0 qa fx q s L → gC σ' fw = some (.inr (0, 2401, .inl F)) → gC σ' mn = some (.inr (0, 2, .inl G)) → FaA q s d h F 2401 → G w = nI (smN (cA q h) 2401) → (∀ j, j ≠ w → G j = G0 j) → P (.inl none, σ')) : EC zs (Jc zs) (e + 129) cX16_lays none 33 0 0 [some (.ref er), some (.int (nI w)), some (.int (nI h)), none] [] σ P := by
  simp (disch := omega) only [ec_aload_n (i := 0) dX16_lays_0 rfl, ec_get dX16_lays_1, gw_33_20_33, ec_iload_n (i := 1) dX16_lays_4 rfl, ec_iconst (v := nI 0) dX16_lays_5 rfl, ec_iast dX16_lays_6, isE_0, ec_iconst (v := nI 0) dX16_lays_7 rfl, ec_istore_n (i := 3) dX16_lays_8 rfl, ec_sipush (v := nI 2401) dX16_lays_10 rfl, ec_icmp_ge (t := 61) dX16_lays_13 rfl, ec_aload_n (i := 0) dX16_lays_16 rfl, ec_get dX16_lays_17, gw_33_3_33, ec_iload_n (i := 2) dX16_lays_20 rfl, ec_iload_n (i := 3) dX16_lays_21 rfl, ec_cv2 dX16_lays_22 iN_33_54 cna_33_54, vcE_o ccp_33_54_0, ec_if_eq (t := 55) dX16_lays_25 rfl, ec_aload_n (i := 0) dX16_lays_28 rfl, ec_iload_n (i := 1) dX16_lays_29 rfl, ec_aload_n (i := 0) dX16_lays_30 rfl, ec_get dX16_lays_31, gw_33_34_33, ec_get dX16_lays_34, gw_33_58_5, ec_aload_n (i := 0) dX16_lays_37 rfl, ec_get dX16_lays_38, ec_get dX16_lays_41, gw_33_24_0, ec_iload_n (i := 2) dX16_lays_44 rfl, ec_iload_n (i := 3) dX16_lays_45 rfl, ec_cv2 dX16_lays_46 iN_33_64 cna_33_64, vcE_o ccp_33_64_2, ec_cv1 dX16_lays_49 iN_33_68 cna_33_68, vcE_o ccp_33_68_6, vcE_o ccp_33_68_7, vcE_o ccp_33_68_8, vcE_o ccp_33_68_9, vcE_o ccp_33_68_10, vcE_o ccp_33_68_11, ec_cv2 dX16_lays_52 iN_33_73 cna_33_73, vcE_o ccp_33_73_33, ec_iinc (v := nI 1) dX16_lays_55 rfl, ec_goto (t := 9) dX16_lays_58 rfl, ec_vret dX16_lays_61, cat1_i, cat1_r, cat1_u, catB_n, catB_i, catB_r, catB_l, catB_u, lg_0, lg_s, ldEI_i, ldEL_l, ldEA_r, ldEA_n, lin_0, lin_s, ls1_0, ls1_1, ls1_s, ls2_0, ls2_1, ls2_s, lcl_i, lcl_r, lcl_l, lcl_u, lcl_n, lent_i, lent_r, lent_l, lent_u, lent_0, lent_s, Option.toList_some, Option.toList_none, List.cons_append, List.nil_append, Nat.reduceAdd, true_and, vin_0, vin_s, aE_0, aE_s, EK_r, EK_t, List.set_cons_zero, List.set_cons_succ, va_rf_s, va_rf_n, pC_1, pC_21, aC_1, aC_21, gC_self, gC_new, eI_, eLg_, eV_, eInc_, eN_, eS_, eJ_, eCl_, nI_add, nI_mul, nI_subI, nI_clampI, inb_t, nI_lt0, nI_0le, nI_m1, nI_m1', nI_ofNat, bI_01, b01_0, b01_1, bI_eq0, bI_eq1, bb_01, true_or, or_true, false_or, or_false, eq_self, Nat.reduceAdd, Nat.reduceMul, Nat.reduceSub, Nat.reduceLT, Nat.reduceLeDiff, Nat.reduceEqDiff, ↓reduceIte, and_true, true_and, and_self, Nat.add_zero, Nat.zero_add, not_false_eq_true, not_true_eq_false, faV_n, faV_s, m1_lt0, m1_0le, m1_eq0, m1_le, le_m1, m1_lt, lt_m1, nI_100k, nI_100, upd_e, upd_n, pC_pC, gC_ne', gC_old', nI_lt_t, nI_lt_f, nI_le_t, nI_le_f, nI_eq_t, nI_eq_f, nI_eq0_t, nI_eq0_f, nI_0lt_t, nI_0lt_f, nI_le0_t, nI_le0_f, nI_eq1_t, nI_eq1_f, hE, hG]
  have S4 : Fs (fun b => b = fw ∨ b = mn) σ (pC σ mn (.inr (0, 2, .inl (upd G0 w (nI 0))))) := Fs.rf.p hG (Or.inr rfl)
  exact c_la_lo hq hd hh hw2 hw hO hB hX h40 hT hR hE hA hff hx2 hD4 hP 2401 0 (by omega) _ F0 (upd G0 w (nI 0)) (S4.sub (fun b hb => Or.inr (Or.inr hb))) (hN.w6 h40 hw S4 (fun b hb => by
        rcases hb with z | z
        · rw [z]; exact hT.2.2.1
        · rw [z]; exact hT.2.2.2)) ((gC_ne hD4.2.2.2.2).trans hF) gC_self (fun x hx => by omega) upd_e (fun j hj => upd_n hj)
end
