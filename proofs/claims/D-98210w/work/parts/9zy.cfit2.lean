set_option maxRecDepth 100000
/-! THE COMPONENT's public calls: judged, fits -/
section
variable {zs : Nat → Nat} {e : Nat} {σ : CM} {P : CR → Prop} {ow tl : Nat → Nat} {t n0 qa fx : Nat} {q : QT} {s L : Nat → Nat} {x0 hl : Nat} {op al : Int32} {gg : Int64} {A : Nat → Nat} {B w : Nat}
theorem HiA.fr {ow' : Nat → Nat} {σ' : CM} {S : Nat → Prop} {c m : Nat} {Li : List It} (h : HiA ow σ hl Li) (hw : HW σ) (eo : ∀ b, b < σ.1 → ow' b = ow b) (hF : Fr S c m σ σ') (hn : ∀ b, b < σ.1 → S b → ow b ≠ 0) : HiA ow' σ' hl Li := by
  obtain ⟨hx, ⟨mc, d, cap, f, a1, a2, a3, a4, a5, a6⟩, h2⟩ := h
  have z0 : ∀ b, b < σ.1 → ow b = 0 → gC σ' b = gC σ b := fun b hb h0 => hF.2.2.1 b hb (fun z => hn b hb z h0)
  have l1 := hw _ _ a1
  have l2 := hw _ _ a2
  have a5' : ow hl = 0 := a5
  have a6' : ow d = 0 := a6
  refine ⟨hx, ⟨mc, d, cap, f, (z0 _ l1 a5).trans a1, (z0 _ l2 a6).trans a2, a3, a4, ?_, ?_⟩, fun i hi => ⟨(z0 _ (hw _ _ (h2 i hi).1) (h2 i hi).2).trans (h2 i hi).1, ?_⟩⟩
  · show ow' hl = 0
    rw [eo _ l1]; exact a5'
  · show ow' d = 0
    rw [eo _ l2]; exact a6'
  · rw [eo _ (hw _ _ (h2 i hi).1)]; exact (h2 i hi).2
/-- no other cell is of tag 1 -/
def rt1 (ow : Nat → Nat) (fx : Nat) : Nat → Nat := fun b => if ow b = 1 ∧ b ≠ fx then 39 else ow b
theorem re1_n {b : Nat} (h : ow b ≠ 1 ∨ b = fx) : rt1 ow fx b = ow b := if_neg (fun z => by
  rcases h with h | h
  · exact h z.1
  · exact z.2 h)
theorem re1_1 {b : Nat} (h : rt1 ow fx b = 1) : b = fx := by
  unfold rt1 at h
  split at h
  · omega
  · rename_i hn
    exact Classical.byContradiction (fun z => hn ⟨h, z⟩)
theorem QC.re1 (h : QC ow σ qa fx q) (hw : HW σ) : QC (rt1 ow fx) σ qa fx q := by
  have key : ∀ b, ow b = 0 → rt1 ow fx b = 0 := fun b hb => (re1_n (Or.inl (by omega))).trans hb
  have hz : ∀ b, b < σ.1 → Zo ow b → Zo (rt1 ow fx) b := fun b _ z => key b z
  obtain ⟨hl, nl, ka, na, sl, fo, xl, xe, hx, mx, dx, sx, ⟨a1, a2⟩, ⟨b1, b2⟩, ⟨c1, c2, ⟨⟨K, c3, c4⟩, c5⟩, ⟨N, c6, c7⟩, c8⟩, ⟨d1, d2⟩, ⟨e1, e2⟩, f1, f2, f3, Φ, f4⟩ := h
  exact ⟨hl, nl, ka, na, sl, fo, xl, xe, hx, mx, dx, sx, ⟨a1, key _ a2⟩, ⟨b1.z hw hz, fun h hh => ⟨(b2 h hh).1, key _ (b2 h hh).2.1, (b2 h hh).2.2.1, key _ (b2 h hh).2.2.2⟩⟩, ⟨c1.z hw hz, fun d hd => ⟨(c2 d hd).1, key _ (c2 d hd).2⟩, ⟨⟨K, c3, c4⟩, key _ c5⟩, ⟨N, c6, c7⟩, key _ c8⟩, ⟨d1.z hw hz, fun k hk => ⟨(d2 k hk).1, key _ (d2 k hk).2⟩⟩, ⟨e1.z hw hz, e2.z hw hz⟩, f1, key _ f2, (re1_n (Or.inr rfl)).trans f3, Φ, f4⟩
theorem NightAt.re1 (h : NightAt ow t tl σ n0 qa fx q s L) (hw : HW σ) : NightAt (rt1 ow fx) t tl σ n0 qa fx q s L := by
  obtain ⟨a, hQ, hL, hT, ht, hl⟩ := h
  have t2 := hT.1
  exact ⟨a, hQ.re1 hw, hL, hT, fun b x y => (re1_n (Or.inl (by rw [ht b x y]; omega))).trans (ht b x y), fun d hd b hb => (re1_n (Or.inl (by rw [hl d hd b hb]; have := hT.2.1 d hd; omega))).trans (hl d hd b hb)⟩
theorem FX.re1 {fs : List Value} {lf kf : Nat → Option Nat} (h : FX ow t σ n0 fs lf kf) : FX (rt1 ow fx) t σ n0 fs lf kf := by
  obtain ⟨h0, hB, ht, h2, hk⟩ := h
  refine ⟨h0, hB, fun b x y => (re1_n (Or.inl (by rw [ht b x y]; omega))).trans (ht b x y), h2, fun i hi => ?_⟩
  rcases hk i hi with z | ⟨l, z1, z2, z3⟩
  · exact Or.inl z
  · exact Or.inr ⟨l, z1, z2, fun b hb => (re1_n (Or.inl (by rw [z3 b hb]; omega))).trans (z3 b hb)⟩
theorem re1_eo {ow1 : Nat → Nat} (eo : ∀ b, b < σ.1 → ow1 b = ow b) (h1 : ∀ b, b < σ.1 → ow b = 1 → b = fx) : ∀ b, b < σ.1 → rt1 ow1 fx b = ow b := fun b hb => by
  by_cases hh : ow b = 1
  · rw [re1_n (Or.inr (h1 b hb hh))]; exact eo b hb
  · rw [re1_n (Or.inl (by rw [eo b hb]; exact hh))]; exact eo b hb
/-- the night behind a history gone through from a row on -/
theorem c_firstWrong {c0 : Nat} {dr : Option Nat} {Li : List It} (hq : QOK q) (hH : HOK q Li) (hdr : ∀ d, dr = some d → d < qD q) (hO : WS B s) (hB1 : 1 ≤ B) (hB : B ≤ 5800000) (hx0 : ¬ MSo ow c0 t tl (qD q) x0) (hR : gC σ x0 = some (.inl (0, rtF n0 hl op al gg A))) (hHi : HiA ow σ hl Li) (hN : NightAt ow t tl σ c0 qa fx q s L) (hP : ∀ σ' s', Fs (MSo ow c0 t tl (qD q)) σ σ' → NightAt ow t tl σ' c0 qa fx q s' L → ((rlS q dr Li 0 none s).1 = none → s' = (rlS q dr Li 0 none s).2) → P (.inl (some (.int (faV (rlS q dr Li 0 none s).1))), σ')) : EC zs (Jc zs) (e + 128) cX1_firstWrong (some .int) 0 0 0 [some (.ref x0), some (.ref c0), some (.int (faV dr)), none, none, none, none] [] σ P := by
  have h36 := hH.1
  simp (disch := omega) only [ec_iconst (v := nI 0) dX1_firstWrong_0 rfl, ec_istore_n (i := 3) dX1_firstWrong_1 rfl, ec_iconst (v := nI 0) dX1_firstWrong_2 rfl, ec_istore dX1_firstWrong_3, ec_aload_n (i := 0) dX1_firstWrong_7 rfl, ec_get dX1_firstWrong_8, gw_0_77_0, ec_cv0 dX1_firstWrong_11 iN_0_155 cna_0_155, vcE_o ccp_0_155_36, ec_icmp_ge (t := 101) dX1_firstWrong_14 rfl, ec_aload_n (i := 0) dX1_firstWrong_17 rfl, ec_get dX1_firstWrong_18, ec_iload dX1_firstWrong_21, ec_cv1 dX1_firstWrong_23 iN_0_170 cna_0_170, vcE_o ccp_0_170_36, ec_cast dX1_firstWrong_26, ec_castN dX1_firstWrong_26, kE_o kcc_0_332_28, ec_astore dX1_firstWrong_29, ec_astoreN dX1_firstWrong_29, ec_aload dX1_firstWrong_31, ec_get dX1_firstWrong_33, gw_0_334_28, ec_iconst (v := (-1)) dX1_firstWrong_36 rfl, ec_icmp_ne (t := 47) dX1_firstWrong_37 rfl, ec_aload_n (i := 1) dX1_firstWrong_40 rfl, ec_cv0 dX1_firstWrong_41 iN_0_337 cna_0_337, vcE_o ccp_0_337_2, ec_goto (t := 95) dX1_firstWrong_44 rfl, ec_aload_n (i := 1) dX1_firstWrong_47 rfl, ec_aload dX1_firstWrong_48, ec_get dX1_firstWrong_50, gw_0_340_28, ec_aload dX1_firstWrong_53, ec_get dX1_firstWrong_55, ec_sipush (v := nI 1200) dX1_firstWrong_58 rfl, ec_cv3 dX1_firstWrong_61 iN_0_259 cna_0_259, vcE_o ccp_0_259_2, ec_istore dX1_firstWrong_64, ec_iload dX1_firstWrong_66, ec_aload dX1_firstWrong_68, ec_get dX1_firstWrong_70, gw_0_341_28, ec_icmp_eq (t := 92) dX1_firstWrong_73 rfl, ec_iload_n (i := 2) dX1_firstWrong_76 rfl, ec_iconst (v := (-1)) dX1_firstWrong_77 rfl, ec_icmp_eq (t := 90) dX1_firstWrong_78 rfl, ec_aload dX1_firstWrong_81, ec_get dX1_firstWrong_83, ec_iload_n (i := 2) dX1_firstWrong_86 rfl, ec_icmp_ne (t := 92) dX1_firstWrong_87 rfl, ec_iload_n (i := 3) dX1_firstWrong_90 rfl, ec_iret dX1_firstWrong_91, ec_zret dX1_firstWrong_91, ec_iinc (v := nI 1) dX1_firstWrong_92 rfl, ec_iinc (v := nI 1) dX1_firstWrong_95 rfl, ec_goto (t := 5) dX1_firstWrong_98 rfl, ec_iconst (v := (-1)) dX1_firstWrong_101 rfl, ec_iret dX1_firstWrong_102, ec_zret dX1_firstWrong_102, cat1_i, cat1_r, cat1_u, catB_n, catB_i, catB_r, catB_l, catB_u, lg_0, lg_s, ldEI_i, ldEL_l, ldEA_r, ldEA_n, lin_0, lin_s, ls1_0, ls1_1, ls1_s, ls2_0, ls2_1, ls2_s, lcl_i, lcl_r, lcl_l, lcl_u, lcl_n, lent_i, lent_r, lent_l, lent_u, lent_0, lent_s, Option.toList_some, Option.toList_none, List.cons_append, List.nil_append, Nat.reduceAdd, true_and, vin_0, vin_s, aE_0, aE_s, EK_r, EK_t, List.set_cons_zero, List.set_cons_succ, va_rf_s, va_rf_n, pC_1, pC_21, aC_1, aC_21, gC_self, gC_new, eI_, eLg_, eV_, eInc_, eN_, eS_, eJ_, eCl_, nI_add, nI_mul, nI_subI, nI_clampI, inb_t, nI_lt0, nI_0le, nI_m1, nI_m1', nI_ofNat, bI_01, b01_0, b01_1, bI_eq0, bI_eq1, bb_01, true_or, or_true, false_or, or_false, eq_self, Nat.reduceAdd, Nat.reduceMul, Nat.reduceSub, Nat.reduceLT, Nat.reduceLeDiff, Nat.reduceEqDiff, ↓reduceIte, and_true, true_and, and_self, Nat.add_zero, Nat.zero_add, not_false_eq_true, not_true_eq_false, faV_n, faV_s, m1_lt0, m1_0le, m1_eq0, m1_le, le_m1, m1_lt, lt_m1, nI_100k, nI_100, upd_e, upd_n, pC_pC, gC_ne', gC_old', nI_lt_t, nI_lt_f, nI_le_t, nI_le_f, nI_eq_t, nI_eq_f, nI_eq0_t, nI_eq0_f, nI_0lt_t, nI_0lt_f, nI_le0_t, nI_le0_f, nI_eq1_t, nI_eq1_f]
  exact c_fw_lo (V := rlS q dr Li 0 none s) hq hH hdr hx0 hP Li.length 0 (by omega) 0 s B (Nat.le_refl _) rfl hO hB1 (by omega) σ none none Fs.rf hR hHi hN
/-- what is asked of the whole for the night behind a history -/
abbrev FtI (σ : CM) (ow : Nat → Nat) (t : Nat) (tl : Nat → Nat) (x0 n0 qa fx hl : Nat) (op al : Int32) (gg : Int64) (A : Nat → Nat) (q : QT) (s L : Nat → Nat) (Li : List It) (m0 : Nat) : Prop := HW σ ∧ gC σ x0 = some (.inl (0, rtF n0 hl op al gg A)) ∧ ow x0 = 2 ∧ NightAt ow t tl σ n0 qa fx q s L ∧ FtA ow σ (A 4) m0 ∧ (39 < t ∧ ∀ d, d < qD q → 39 < tl d) ∧ HiA ow σ hl Li ∧ ∀ b, b < σ.1 → ow b = 1 → b = fx
theorem fh_WS (hq : QOK q) : WS 99 (fhS q) := ⟨fh_SO hq (Nat.le_refl _), by rw [fh_hd hq.1.2.1 (by omega)]; omega⟩
/-- where a run of the night behind a history may change -/
theorem mso8 {ow1 : Nat → Nat} {f0 b : Nat} {q' : QT} (hq : QOK q') (eo : ∀ b, b < σ.1 → ow1 b = ow b) (h1 : ∀ b, b < σ.1 → ow b = 1 → b = fx) (h : MSo ow1 f0 8 (tlK 8 q') (qD q') b) : σ.1 ≤ b ∨ (8 ≤ ow b ∧ ow b ≤ 38) ∨ b = fx := by
  rcases Nat.lt_or_ge b σ.1 with hb | hb
  · right
    rcases h with z | z | ⟨d, hd, z⟩
    · exact Or.inr (h1 b hb (by rw [← eo b hb]; exact z))
    · rw [eo b hb] at z; exact Or.inl (by omega)
    · rw [eo b hb] at z
      have := (hq.2.2.2.1 d hd).1
      have := hq.1.2.1
      unfold tlK at z
      exact Or.inl (by omega)
  · exact Or.inl hb
theorem c_pjudged {Li : List It} {m0 : Nat} (hq : QOK q) (hK : TQ q) (hH : HOK q Li) (hI : FtI σ ow t tl x0 n0 qa fx hl op al gg A q s L Li m0) (hP : ∀ σ' ow' m1, Lf8 σ σ' ow ow' t tl n0 qa fx q s L m0 m1 → FtA ow' σ' (A 4) m1 → (∀ b, ow' b = 1 → b = fx) → P (.inl (some (.int (spJudged q Li))), σ')) : EC zs (Jc zs) (e + 129) cX1_judged (some .int) 0 0 0 [some (.ref x0)] [] σ P := by
  obtain ⟨hw, hR, h2, hN, hX, h40, hHi, h1⟩ := hI
  have hxl := hw _ _ hR
  have nw := fun P e => c_now (zs := zs) (e := e) (P := P) hR hN.1.1
  have hR' := hR
  unfold rtF at hR'
  obtain ⟨v0, v1, v2, lf, kf, hX', -⟩ := id hX
  have f0c := hX'.1
  simp (disch := omega) only [ec_aload_n (i := 0) dX1_judged_0 rfl, ec_aload_n (i := 0) dX1_judged_1 rfl, ec_get dX1_judged_2, gw_0_100_0, ec_aload_n (i := 0) dX1_judged_5 rfl, ec_cv0 dX1_judged_6 iN_0_143 cna_0_143, vcE_o ccp_0_143_0, ec_cv1 dX1_judged_9 iN_0_66 cna_0_66, vcE_o ccp_0_66_2, ec_iconst (v := (-1)) dX1_judged_12 rfl, ec_cv2 dX1_judged_13 iN_0_344 cna_0_344, vcE_o ccp_0_344_0, ec_iret dX1_judged_16, ec_zret dX1_judged_16, cat1_i, cat1_r, cat1_u, catB_n, catB_i, catB_r, catB_l, catB_u, lg_0, lg_s, ldEI_i, ldEL_l, ldEA_r, ldEA_n, lin_0, lin_s, ls1_0, ls1_1, ls1_s, ls2_0, ls2_1, ls2_s, lcl_i, lcl_r, lcl_l, lcl_u, lcl_n, lent_i, lent_r, lent_l, lent_u, lent_0, lent_s, Option.toList_some, Option.toList_none, List.cons_append, List.nil_append, Nat.reduceAdd, true_and, vin_0, vin_s, aE_0, aE_s, EK_r, EK_t, List.set_cons_zero, List.set_cons_succ, va_rf_s, va_rf_n, pC_1, pC_21, aC_1, aC_21, gC_self, gC_new, eI_, eLg_, eV_, eInc_, eN_, eS_, eJ_, eCl_, nI_add, nI_mul, nI_subI, nI_clampI, inb_t, nI_lt0, nI_0le, nI_m1, nI_m1', nI_ofNat, bI_01, b01_0, b01_1, bI_eq0, bI_eq1, bb_01, true_or, or_true, false_or, or_false, eq_self, Nat.reduceAdd, Nat.reduceMul, Nat.reduceSub, Nat.reduceLT, Nat.reduceLeDiff, Nat.reduceEqDiff, ↓reduceIte, and_true, true_and, and_self, Nat.add_zero, Nat.zero_add, not_false_eq_true, not_true_eq_false, faV_n, faV_s, m1_lt0, m1_0le, m1_eq0, m1_le, le_m1, m1_lt, lt_m1, nI_100k, nI_100, upd_e, upd_n, pC_pC, gC_ne', gC_old', nI_lt_t, nI_lt_f, nI_le_t, nI_le_f, nI_eq_t, nI_eq_f, nI_eq0_t, nI_eq0_f, nI_0lt_t, nI_0lt_f, nI_le0_t, nI_le0_f, nI_eq1_t, nI_eq1_f, hR', nw, f0c]
  refine c_ft_beg (e := e + 123) hq hK hw hN hX h40 (fun σ1 ow1 L1 m1 T1 B1 => ?_)
  obtain ⟨eo, ⟨c1, c2, F1⟩, N1, -⟩ := T1
  have R1 : gC σ1 x0 = some (.inl (0, rtF n0 hl op al gg A)) := F1.g hxl (fun z => by
    have := hN.2.1.ofx
    rcases z with z | z
    · omega
    · rw [z] at h2; omega) hR
  have R1' := R1
  unfold rtF at R1'
  have H1 : HiA ow1 σ1 hl Li := hHi.fr hw eo F1 (fun b hb z => by
    have := hN.2.1.ofx
    rcases z with z | z
    · omega
    · rw [z]; omega)
  simp (disch := omega) only [ec_aload_n (i := 0) dX1_judged_0 rfl, ec_aload_n (i := 0) dX1_judged_1 rfl, ec_get dX1_judged_2, gw_0_100_0, ec_aload_n (i := 0) dX1_judged_5 rfl, ec_cv0 dX1_judged_6 iN_0_143 cna_0_143, vcE_o ccp_0_143_0, ec_cv1 dX1_judged_9 iN_0_66 cna_0_66, vcE_o ccp_0_66_2, ec_iconst (v := (-1)) dX1_judged_12 rfl, ec_cv2 dX1_judged_13 iN_0_344 cna_0_344, vcE_o ccp_0_344_0, ec_iret dX1_judged_16, ec_zret dX1_judged_16, cat1_i, cat1_r, cat1_u, catB_n, catB_i, catB_r, catB_l, catB_u, lg_0, lg_s, ldEI_i, ldEL_l, ldEA_r, ldEA_n, lin_0, lin_s, ls1_0, ls1_1, ls1_s, ls2_0, ls2_1, ls2_s, lcl_i, lcl_r, lcl_l, lcl_u, lcl_n, lent_i, lent_r, lent_l, lent_u, lent_0, lent_s, Option.toList_some, Option.toList_none, List.cons_append, List.nil_append, Nat.reduceAdd, true_and, vin_0, vin_s, aE_0, aE_s, EK_r, EK_t, List.set_cons_zero, List.set_cons_succ, va_rf_s, va_rf_n, pC_1, pC_21, aC_1, aC_21, gC_self, gC_new, eI_, eLg_, eV_, eInc_, eN_, eS_, eJ_, eCl_, nI_add, nI_mul, nI_subI, nI_clampI, inb_t, nI_lt0, nI_0le, nI_m1, nI_m1', nI_ofNat, bI_01, b01_0, b01_1, bI_eq0, bI_eq1, bb_01, true_or, or_true, false_or, or_false, eq_self, Nat.reduceAdd, Nat.reduceMul, Nat.reduceSub, Nat.reduceLT, Nat.reduceLeDiff, Nat.reduceEqDiff, ↓reduceIte, and_true, true_and, and_self, Nat.add_zero, Nat.zero_add, not_false_eq_true, not_true_eq_false, faV_n, faV_s, m1_lt0, m1_0le, m1_eq0, m1_le, le_m1, m1_lt, lt_m1, nI_100k, nI_100, upd_e, upd_n, pC_pC, gC_ne', gC_old', nI_lt_t, nI_lt_f, nI_le_t, nI_le_f, nI_eq_t, nI_eq_f, nI_eq0_t, nI_eq0_f, nI_0lt_t, nI_0lt_f, nI_le0_t, nI_le0_f, nI_eq1_t, nI_eq1_f, R1']
  obtain ⟨-, -, M1, lf1, kf1, X1, k1, g1, g2⟩ := B1
  refine c_firstWrong (e := e) (dr := none) (c0 := A 4) hq hH (fun d z => by cases z) (fh_WS hq) (by omega) (by omega) (fun z => ?_) R1 H1 M1 (fun σ2 s2 S2 N2 hs => ?_)
  · have := mso8 (σ := σ) (fx := fx) hq eo h1 z
    have := hN.2.1.ofx
    rcases this with z
    rename_i h
    rcases h with h | h | h
    · omega
    · omega
    · rw [h] at h2; omega
  · simp (disch := omega) only [ec_aload_n (i := 0) dX1_judged_0 rfl, ec_aload_n (i := 0) dX1_judged_1 rfl, ec_get dX1_judged_2, gw_0_100_0, ec_aload_n (i := 0) dX1_judged_5 rfl, ec_cv0 dX1_judged_6 iN_0_143 cna_0_143, vcE_o ccp_0_143_0, ec_cv1 dX1_judged_9 iN_0_66 cna_0_66, vcE_o ccp_0_66_2, ec_iconst (v := (-1)) dX1_judged_12 rfl, ec_cv2 dX1_judged_13 iN_0_344 cna_0_344, vcE_o ccp_0_344_0, ec_iret dX1_judged_16, ec_zret dX1_judged_16, cat1_i, cat1_r, cat1_u, catB_n, catB_i, catB_r, catB_l, catB_u, lg_0, lg_s, ldEI_i, ldEL_l, ldEA_r, ldEA_n, lin_0, lin_s, ls1_0, ls1_1, ls1_s, ls2_0, ls2_1, ls2_s, lcl_i, lcl_r, lcl_l, lcl_u, lcl_n, lent_i, lent_r, lent_l, lent_u, lent_0, lent_s, Option.toList_some, Option.toList_none, List.cons_append, List.nil_append, Nat.reduceAdd, true_and, vin_0, vin_s, aE_0, aE_s, EK_r, EK_t, List.set_cons_zero, List.set_cons_succ, va_rf_s, va_rf_n, pC_1, pC_21, aC_1, aC_21, gC_self, gC_new, eI_, eLg_, eV_, eInc_, eN_, eS_, eJ_, eCl_, nI_add, nI_mul, nI_subI, nI_clampI, inb_t, nI_lt0, nI_0le, nI_m1, nI_m1', nI_ofNat, bI_01, b01_0, b01_1, bI_eq0, bI_eq1, bb_01, true_or, or_true, false_or, or_false, eq_self, Nat.reduceAdd, Nat.reduceMul, Nat.reduceSub, Nat.reduceLT, Nat.reduceLeDiff, Nat.reduceEqDiff, ↓reduceIte, and_true, true_and, and_self, Nat.add_zero, Nat.zero_add, not_false_eq_true, not_true_eq_false, faV_n, faV_s, m1_lt0, m1_0le, m1_eq0, m1_le, le_m1, m1_lt, lt_m1, nI_100k, nI_100, upd_e, upd_n, pC_pC, gC_ne', gC_old', nI_lt_t, nI_lt_f, nI_le_t, nI_le_f, nI_eq_t, nI_eq_f, nI_eq0_t, nI_eq0_f, nI_0lt_t, nI_0lt_f, nI_le0_t, nI_le0_f, nI_eq1_t, nI_eq1_f]
    refine hP σ2 (rt1 ow1 fx) (muN kf1 30) ⟨re1_eo eo h1, ⟨_, _, F1.n S2 (fun b hb => mso8 hq eo h1 hb)⟩, (N1.fq F1.2.2.2 (S2.fr F1.2.2.2) N2.2.1 (fun b _ z => ?_)).re1 (S2.hw F1.2.2.2), by rw [S2.1]; exact g1, by rw [S2.2.1]; exact g2⟩ ⟨_, _, _, lf1, kf1, (X1.run hq k1 S2 N2).re1, rfl⟩ (fun b hb => re1_1 hb)
    rcases z with z | z | ⟨d, hd, z⟩
    · rw [z]; exact ⟨by omega, fun d hd => by have := h40.2 d hd; omega⟩
    · rw [z.1]; exact ⟨by omega, fun d hd => by have := h40.2 d hd; omega⟩
    · have := (hq.2.2.2.1 d hd).1
      have := hq.1.2.1
      unfold tlK at z
      rw [z]; exact ⟨by omega, fun d hd => by have := h40.2 d hd; omega⟩
end
