set_option maxRecDepth 100000
/-! THE COMPONENT's reader: whole histories -/
def HsR (zs : Nat → Nat) (all : List Tk) (ra : Nat) (C : Nat → Nat) (dr : Value) (hg : Int32) (fa : Nat) (tp : Int32) (dp lo : Nat) (σ : CM) (a : Nat) (x : Except Nat (List It)) (r : CR) : Prop := match x with
  | .error k => ErR zs σ ra C tp (fun b => b = ra ∨ lo ≤ b) (8 * (all.length - a)) (2100 * (all.length - a)) k r
  | .ok L => ∃ a' σ' da cap x, r = (.inl (some (.ref lo)), σ') ∧ RdE zs σ' ra C all dr hg fa tp a' dp ∧ Fr (fun b => b = ra ∨ lo ≤ b) (8 * (all.length - a)) (2100 * (all.length - a)) σ σ' ∧ HsO lo σ' L da cap x
section
variable {zs : Nat → Nat} {e : Nat} {σ σ1 : CM} {P : CR → Prop} {ra lo : Nat} {C : Nat → Nat} {all : List Tk} {dr : Value} {hg : Int32} {fa : Nat} {tp : Int32} {a dp qa : Nat} {q : QT} {L : List It} {da cap : Nat} {x : Nat → Nat} {σ0 : CM}
theorem HsR.tr {y : Except Nat (List It)} {r : CR} {c m a1 : Nat} (hF : Fr (fun b => b = ra ∨ lo ≤ b) c m σ σ1) (h : HsR zs all ra C dr hg fa tp dp lo σ1 a1 y r) (ha : a ≤ a1) (hl : a1 < all.length) (hc : c ≤ 8 * (a1 - a)) (hm : m ≤ 2100 * (a1 - a)) : HsR zs all ra C dr hg fa tp dp lo σ a y r := by
  cases y with
  | error k => exact ErR.tr hF h (fun b z => Or.inr z) (by omega) (by omega)
  | ok L =>
    obtain ⟨a', σ', da', cap', x', h1, h2, h3, h4⟩ := h
    exact ⟨a', σ', da', cap', x', h1, h2, (hF.tr h3).sub (fun _ _ z => z) (by omega) (by omega), h4⟩
/-- the quarter that is asked for names lies below, nothing of it changes -/
def NmK (σ0 : CM) (ra lo : Nat) (σ : CM) : Prop := ∀ b c, gC σ0 b = some c → b ≠ ra → gC σ b = gC σ0 b
theorem NmK.fr {c m : Nat} (h : NmK σ0 ra lo σ) (h0 : HW σ0) (hl : σ0.1 ≤ lo) (hs : lo ≤ σ.1) (hF : Fr (fun b => b = ra ∨ lo ≤ b) c m σ σ1) : NmK σ0 ra lo σ1 := fun b c' hb hn => by
  have := h0 _ _ hb
  rw [hF.2.2.1 b (by omega) (fun z => by rcases z with z | z; exact hn z; omega)]
  exact h b c' hb hn
theorem NmK.nm (h : NmK σ0 ra lo σ) (hE0 : ∃ fs, gC σ0 ra = some (.inl (1, fs))) (hQ : NmQ σ0 qa q) : NmQ σ qa q := hQ.k (fun b c hb hc => h b c hb (fun z => by
  obtain ⟨fs, h1⟩ := hE0
  rw [z, h1] at hb
  exact hc fs (Option.some.inj hb).symm))
theorem xTr_s {ts t : List Tk} {it : It} (hx : xTr q ts = .ok (it, t)) : it.isSome = true := by
  unfold xTr at hx
  split at hx
  · cases hx
  · split at hx
    · cases hx
    · split at hx
      · cases hx
      · cases hx; rfl
theorem c_hs_lo (hZ : ZS zs) (h0 : HW σ0) (hr0 : ∃ fs, gC σ0 ra = some (.inl (1, fs))) (hQ0 : NmQ σ0 qa q) (hl0 : σ0.1 ≤ lo) (hr : ra < lo) (hC : ∀ k, k < 10 → k ≠ 6 → C k < lo) : ∀ (f : Nat) (σ : CM) (a : Nat) (L : List It) (da cap : Nat) (x : Nat → Nat) (l4 : Option Value), all.length - a ≤ f → HW σ → NmK σ0 ra lo σ → RdE zs σ ra C all dr hg fa tp a dp → HsO lo σ L da cap x → (trN L ≤ 24 ∧ ngN L ≤ 12) → (∀ r, HsR zs all ra C dr hg fa tp dp lo σ a (pHis q f L (all.drop a)) r → P r) → EC zs (Jc zs) (e + 6) cX2_history (some (.object "java/util/ArrayList")) 1 0 15 [some (.ref ra), some (.ref qa), some (.ref lo), some (.int (nI (ngN L))), l4] [] σ P
  | 0, σ, a, L, da, cap, x, l4, hf, hw, hK, hE, hH, hN, hP => by have := hE.le; omega
  | f + 1, σ, a, L, da, cap, x, l4, hf, hw, hK, hE, hH, hN, hP => by
    obtain ⟨⟨l0, l1, l2, l3⟩, ⟨F, f1, f2⟩, -, -⟩ := hE.x
    have hle := hE.le
    have h1 := hE.1
    unfold rdF at h1
    have hnn := trN_ng (L := L)
    have hgn : ngN L ≤ 12 := hN.2
    have htn : trN L ≤ 24 := hN.1
    obtain ⟨mc, ff, L1, L2, -⟩ := id hH.1
    have hll := hw _ _ L1
    rw [pHis_s, hd_drop] at hP
    have i1 := fun P => c_isWord (e := e + 4) (P := P) (i := 35) hE hZ (by omega) (by omega) (by decide)
    rw [show wdN 35 = 7622660 from rfl] at i1
    have i2 := fun P => c_isWord (e := e + 4) (P := P) (i := 36) hE hZ (by omega) (by omega) (by decide)
    rw [show wdN 36 = 15091 from rfl] at i2
    have w1 := fun P => c_wrong (e := e + 4) (P := P) (k := 1) (by omega) hw hE
    have w5 := fun P => c_wrong (e := e + 4) (P := P) (k := 5) (by omega) hw hE
    have er : ∀ k, ErR zs σ ra C tp (fun b => b = ra ∨ lo ≤ b) (8 * (all.length - a)) (2100 * (all.length - a)) k (.inr σ.1, wrS zs σ k) := fun k => ErR.tr (Fr.rf hw) (ErR.w (k := k) (S := fun b => b = ra ∨ lo ≤ b) hw hE) (fun b z => Or.inr z) (by omega) (by omega)
    have tl : ∀ (it : It) (a' : Nat) (σ' : CM) (l4' : Option Value), a < a' → HW σ' → RdE zs σ' ra C all dr hg fa tp a' dp → Fr (fun b => b = ra ∨ lo ≤ b) 1 3 σ σ' → HsO lo σ' L da cap x → gC σ' σ.1 = some (.inl (28, trF it)) → (trN (L ++ [it]) ≤ 24 ∧ ngN (L ++ [it]) ≤ 12) → (∀ r, HsR zs all ra C dr hg fa tp dp lo σ a (match pSg 59 (all.drop a') with
        | .error k => .error k
        | .ok t' => pHis q f (L ++ [it]) t') r → P r) → EC zs (Jc zs) (e + 5) cJ2_add (some .boolean) 36 0 0 [some (.ref lo), some (.ref σ.1)] [] σ' (EK zs (Jc zs) (e + 5 + 1) cX2_history (some (.object "java/util/ArrayList")) 1 0 130 [some (.ref ra), some (.ref qa), some (.ref lo), some (.int (nI (ngN (L ++ [it])))), l4'] [] P) := by
      intro it a' σ' l4' ha' hw' hE' hF' hH' hy hN' hP2
      refine c_hs_ad (e := e + 1) hw' hH' (by omega) hy (by omega) (fun σ2 da2 cap2 x2 F2 H2 => ?_)
      have w2 := F2.2.2.2
      have E2 := hE'.fr hw' F2 (fun z => by have z : lo ≤ ra := z; omega) (fun k hk h6 z => by have z : lo ≤ C k := z; have := hC k hk h6; omega)
      have F02 := (hF'.tn F2 (fun b z => Or.inr (Or.inr z)))
      have g2 := E2.1
      have hle' := E2.le
      have sg := fun P => c_sign (e := e + 3) (P := P) (c := 59) (by omega) w2 E2
      cases hgg : isG 59 (all.drop a') with
      | false =>
        have hps : pSg 59 (all.drop a') = .error (erT 1 (all.drop a')) := by unfold pSg; rw [hgg]; rfl
        rw [hps] at hP2
        have fin := hP2 _ (ErR.tr F02 (ErR.w (k := erT 1 (all.drop a')) (S := fun b => b = ra ∨ lo ≤ b) w2 E2) (fun b z => Or.inr z) (by omega) (by omega))
        simp (disch := omega) only [ec_pop dX2_history_133, ec_aload_n (i := 0) dX2_history_134 rfl, ec_bipush (v := nI 59) dX2_history_135 rfl, ec_cv1 dX2_history_137 iN_1_213 cna_1_213, vcE_o ccp_1_213_1, ET_0 (thrP_c (o := 1) dX2_history_137 rfl), cat1_i, cat1_r, cat1_u, catB_n, catB_i, catB_r, catB_l, catB_u, lg_0, lg_s, ldEI_i, ldEL_l, ldEA_r, ldEA_n, lin_0, lin_s, ls1_0, ls1_1, ls1_s, ls2_0, ls2_1, ls2_s, lcl_i, lcl_r, lcl_l, lcl_u, lcl_n, lent_i, lent_r, lent_l, lent_u, lent_0, lent_s, Option.toList_some, Option.toList_none, List.cons_append, List.nil_append, Nat.reduceAdd, true_and, vin_0, vin_s, aE_0, aE_s, EK_r, EK_t, List.set_cons_zero, List.set_cons_succ, va_rf_s, va_rf_n, pC_1, pC_21, aC_1, aC_21, gC_self, gC_new, eI_, eLg_, eV_, eInc_, eN_, eS_, eJ_, eCl_, nI_add, nI_mul, nI_subI, nI_clampI, inb_t, nI_lt0, nI_0le, nI_m1, nI_m1', nI_ofNat, bI_01, b01_0, b01_1, bI_eq0, bI_eq1, bb_01, true_or, or_true, false_or, or_false, eq_self, Nat.reduceAdd, Nat.reduceMul, Nat.reduceSub, Nat.reduceLT, Nat.reduceLeDiff, Nat.reduceEqDiff, ↓reduceIte, and_true, true_and, and_self, Nat.add_zero, Nat.zero_add, not_false_eq_true, not_true_eq_false, faV_n, faV_s, m1_lt0, m1_0le, m1_eq0, m1_le, le_m1, m1_lt, lt_m1, nI_100k, nI_100, upd_e, upd_n, pC_pC, gC_ne', gC_old', nI_lt_t, nI_lt_f, nI_le_t, nI_le_f, nI_eq_t, nI_eq_f, nI_eq0_t, nI_eq0_f, nI_0lt_t, nI_0lt_f, nI_le0_t, nI_le0_f, nI_eq1_t, nI_eq1_f, g2, sg, hps, exE_er]
        exact fin
      | true =>
        have hps : pSg 59 (all.drop a') = .ok (all.drop (a' + 1)) := by unfold pSg; rw [hgg, tl_drop]; rfl
        rw [hps] at hP2
        have hn' := isG_nx E2 hgg
        have E5 : RdE zs (rdP σ2 ra C dr hg fa tp (a' + 1) dp) ra C all dr hg fa tp (a' + 1) dp := E2.rp hn'
        have S5 : Fs (fun b => b = ra) σ2 (rdP σ2 ra C dr hg fa tp (a' + 1) dp) := E2.fs (S := fun b => b = ra) rfl
        have F5 := F02.n S5 (fun b z => Or.inr (Or.inl z))
        have fin := c_hs_lo hZ h0 hr0 hQ0 hl0 hr hC f _ (a' + 1) (L ++ [it]) da2 cap2 x2 l4' (by omega) F5.2.2.2 (hK.fr h0 hl0 (by omega) F5) E5 (H2.fr w2 (S5.fr w2) hr) hN' (fun r hr => hP2 r (HsR.tr F5 hr (by omega) hn' (by omega) (by omega)))
        simp (disch := omega) only [ec_pop dX2_history_133, ec_aload_n (i := 0) dX2_history_134 rfl, ec_bipush (v := nI 59) dX2_history_135 rfl, ec_cv1 dX2_history_137 iN_1_213 cna_1_213, vcE_o ccp_1_213_1, ET_0 (thrP_c (o := 1) dX2_history_137 rfl), ec_goto (t := 15) dX2_history_140 rfl, cat1_i, cat1_r, cat1_u, catB_n, catB_i, catB_r, catB_l, catB_u, lg_0, lg_s, ldEI_i, ldEL_l, ldEA_r, ldEA_n, lin_0, lin_s, ls1_0, ls1_1, ls1_s, ls2_0, ls2_1, ls2_s, lcl_i, lcl_r, lcl_l, lcl_u, lcl_n, lent_i, lent_r, lent_l, lent_u, lent_0, lent_s, Option.toList_some, Option.toList_none, List.cons_append, List.nil_append, Nat.reduceAdd, true_and, vin_0, vin_s, aE_0, aE_s, EK_r, EK_t, List.set_cons_zero, List.set_cons_succ, va_rf_s, va_rf_n, pC_1, pC_21, aC_1, aC_21, gC_self, gC_new, eI_, eLg_, eV_, eInc_, eN_, eS_, eJ_, eCl_, nI_add, nI_mul, nI_subI, nI_clampI, inb_t, nI_lt0, nI_0le, nI_m1, nI_m1', nI_ofNat, bI_01, b01_0, b01_1, bI_eq0, bI_eq1, bb_01, true_or, or_true, false_or, or_false, eq_self, Nat.reduceAdd, Nat.reduceMul, Nat.reduceSub, Nat.reduceLT, Nat.reduceLeDiff, Nat.reduceEqDiff, ↓reduceIte, and_true, true_and, and_self, Nat.add_zero, Nat.zero_add, not_false_eq_true, not_true_eq_false, faV_n, faV_s, m1_lt0, m1_0le, m1_eq0, m1_le, le_m1, m1_lt, lt_m1, nI_100k, nI_100, upd_e, upd_n, pC_pC, gC_ne', gC_old', nI_lt_t, nI_lt_f, nI_le_t, nI_le_f, nI_eq_t, nI_eq_f, nI_eq0_t, nI_eq0_f, nI_0lt_t, nI_0lt_f, nI_le0_t, nI_le0_f, nI_eq1_t, nI_eq1_f, g2, sg, hps, exE_ok]
        exact fin
    rw [ec_aload_n (i := 0) dX2_history_15 rfl]
    by_cases hs : (tk all a).1 = 0
    · rw [if_pos hs] at hP
      rw [hs] at f2
      have fin := hP (.inl (some (.ref lo)), σ) ⟨a, σ, da, cap, x, rfl, hE, (Fr.rf hw).sub (fun _ _ z => z) (by omega) (by omega), hH⟩
      simp (disch := omega) only [ec_get dX2_history_16, gw_1_107_1, ec_aload_n (i := 0) dX2_history_19 rfl, ec_get dX2_history_20, gw_1_156_1, ec_iald dX2_history_23, iaE_i, ec_if_eq (t := 143) dX2_history_24 rfl, ec_aload_n (i := 2) dX2_history_143 rfl, ec_aret dX2_history_144, ec_aretN dX2_history_144, ec_aretA dX2_history_144, cat1_i, cat1_r, cat1_u, catB_n, catB_i, catB_r, catB_l, catB_u, lg_0, lg_s, ldEI_i, ldEL_l, ldEA_r, ldEA_n, lin_0, lin_s, ls1_0, ls1_1, ls1_s, ls2_0, ls2_1, ls2_s, lcl_i, lcl_r, lcl_l, lcl_u, lcl_n, lent_i, lent_r, lent_l, lent_u, lent_0, lent_s, Option.toList_some, Option.toList_none, List.cons_append, List.nil_append, Nat.reduceAdd, true_and, vin_0, vin_s, aE_0, aE_s, EK_r, EK_t, List.set_cons_zero, List.set_cons_succ, va_rf_s, va_rf_n, pC_1, pC_21, aC_1, aC_21, gC_self, gC_new, eI_, eLg_, eV_, eInc_, eN_, eS_, eJ_, eCl_, nI_add, nI_mul, nI_subI, nI_clampI, inb_t, nI_lt0, nI_0le, nI_m1, nI_m1', nI_ofNat, bI_01, b01_0, b01_1, bI_eq0, bI_eq1, bb_01, true_or, or_true, false_or, or_false, eq_self, Nat.reduceAdd, Nat.reduceMul, Nat.reduceSub, Nat.reduceLT, Nat.reduceLeDiff, Nat.reduceEqDiff, ↓reduceIte, and_true, true_and, and_self, Nat.add_zero, Nat.zero_add, not_false_eq_true, not_true_eq_false, faV_n, faV_s, m1_lt0, m1_0le, m1_eq0, m1_le, le_m1, m1_lt, lt_m1, nI_100k, nI_100, upd_e, upd_n, pC_pC, gC_ne', gC_old', nI_lt_t, nI_lt_f, nI_le_t, nI_le_f, nI_eq_t, nI_eq_f, nI_eq0_t, nI_eq0_f, nI_0lt_t, nI_0lt_f, nI_le0_t, nI_le0_f, nI_eq1_t, nI_eq1_f, h1, f1, f2]
      exact fin
    · rw [if_neg hs] at hP
      have S1 : ∀ z, Fs (fun b => b = ra) σ (rdP σ ra C dr hg fa tp z dp) := fun z => hE.fs (S := fun b => b = ra) rfl
      cases b1 : isW 7622660 (all.drop a) with
      | true =>
        have b2 : isW 15091 (all.drop a) = false := by
          cases hh : isW 15091 (all.drop a) with
          | false => rfl
          | true =>
            unfold isW at b1 hh
            have c1 := (of_decide_eq_true b1).2
            have c2 := (of_decide_eq_true hh).2
            omega
        rw [b2, if_neg (by decide), b1, if_pos rfl] at hP
        by_cases hg12 : ngN L = 12
        · have hpn : pNgt L (all.drop a) = .error (erT 5 (all.drop a)) := by unfold pNgt; rw [if_pos hg12]
          rw [hpn] at hP
          have fin := hP _ (er _)
          rw [hg12]
          simp (disch := omega) only [ec_get dX2_history_16, gw_1_107_1, ec_aload_n (i := 0) dX2_history_19 rfl, ec_get dX2_history_20, gw_1_156_1, ec_iald dX2_history_23, iaE_i, ec_if_eq (t := 143) dX2_history_24 rfl, ec_aload_n (i := 0) dX2_history_27 rfl, ec_ldcwS dX2_history_28 rfl scp_319, ec_cv1 dX2_history_31 iN_1_168 cna_1_168, vcE_o ccp_1_168_1, ec_istore dX2_history_34, ec_iload dX2_history_36, ec_if_ne (t := 57) dX2_history_38 rfl, ec_iload dX2_history_57, ec_if_eq (t := 71) dX2_history_59 rfl, ec_iload_n (i := 3) dX2_history_62 rfl, ec_bipush (v := nI 12) dX2_history_63 rfl, ec_icmp_ne (t := 88) dX2_history_65 rfl, ec_goto (t := 82) dX2_history_68 rfl, ec_aload_n (i := 0) dX2_history_82 rfl, ec_iconst (v := nI 5) dX2_history_83 rfl, ec_cv1 dX2_history_84 iN_1_178 cna_1_178, vcE_o ccp_1_178_1, ec_athrow dX2_history_87, ET_0 (thrP_a dX2_history_87), cat1_i, cat1_r, cat1_u, catB_n, catB_i, catB_r, catB_l, catB_u, lg_0, lg_s, ldEI_i, ldEL_l, ldEA_r, ldEA_n, lin_0, lin_s, ls1_0, ls1_1, ls1_s, ls2_0, ls2_1, ls2_s, lcl_i, lcl_r, lcl_l, lcl_u, lcl_n, lent_i, lent_r, lent_l, lent_u, lent_0, lent_s, Option.toList_some, Option.toList_none, List.cons_append, List.nil_append, Nat.reduceAdd, true_and, vin_0, vin_s, aE_0, aE_s, EK_r, EK_t, List.set_cons_zero, List.set_cons_succ, va_rf_s, va_rf_n, pC_1, pC_21, aC_1, aC_21, gC_self, gC_new, eI_, eLg_, eV_, eInc_, eN_, eS_, eJ_, eCl_, nI_add, nI_mul, nI_subI, nI_clampI, inb_t, nI_lt0, nI_0le, nI_m1, nI_m1', nI_ofNat, bI_01, b01_0, b01_1, bI_eq0, bI_eq1, bb_01, true_or, or_true, false_or, or_false, eq_self, Nat.reduceAdd, Nat.reduceMul, Nat.reduceSub, Nat.reduceLT, Nat.reduceLeDiff, Nat.reduceEqDiff, ↓reduceIte, and_true, true_and, and_self, Nat.add_zero, Nat.zero_add, not_false_eq_true, not_true_eq_false, faV_n, faV_s, m1_lt0, m1_0le, m1_eq0, m1_le, le_m1, m1_lt, lt_m1, nI_100k, nI_100, upd_e, upd_n, pC_pC, gC_ne', gC_old', nI_lt_t, nI_lt_f, nI_le_t, nI_le_f, nI_eq_t, nI_eq_f, nI_eq0_t, nI_eq0_f, nI_0lt_t, nI_0lt_f, nI_le0_t, nI_le0_f, nI_eq1_t, nI_eq1_f, h1, f1, f2, hs, i1, b1, w5, Bool.true_eq_false]
          exact fin
        · rw [pNgt_x hg12, tl_drop, pH_ok] at hP
          have hn := isW_nx hE b1
          have E1 : RdE zs (rdP σ ra C dr hg fa tp (a + 1) dp) ra C all dr hg fa tp (a + 1) dp := hE.rp hn
          have wr1 : HW (rdP σ ra C dr hg fa tp (a + 1) dp) := hw.rdP hE
          have F2 : Fr (fun _ => False) 1 3 (rdP σ ra C dr hg fa tp (a + 1) dp) (aC (rdP σ ra C dr hg fa tp (a + 1) dp) 3 (.inl (28, trF none))) := Fr.nc wr1
          have F02 : Fr (fun b => b = ra) 1 3 σ (aC (rdP σ ra C dr hg fa tp (a + 1) dp) 3 (.inl (28, trF none))) := (((S1 (a + 1)).fr hw).tn F2 (fun b z => z.elim)).sub (fun _ _ z => z) (by omega) (by omega)
          have key := tl none (a + 1) (aC (rdP σ ra C dr hg fa tp (a + 1) dp) 3 (.inl (28, trF none))) (some (.int (bI true))) (by omega) F2.2.2.2 (E1.fr wr1 F2 (fun z => z) (fun _ _ _ z => z)) (F02.sub (fun _ _ z => Or.inl z) (by omega) (by omega)) (hH.fr hw F02 hr) (gC_new (σ := rdP σ ra C dr hg fa tp (a + 1) dp)) ⟨by rw [trN_n.1]; omega, by rw [trN_n.2]; omega⟩ hP
          rw [trN_n.2] at key
          have tn := fun P => c_trNew (zs := zs) (e := e + 4) (σ := rdP σ ra C dr hg fa tp (a + 1) dp) (P := P) (h := -1) (d := -1) (o := nI 0) (Or.inl rfl)
          have s3 : (rdP σ ra C dr hg fa tp (a + 1) dp).1 = σ.1 := rfl
          simp only [s3] at tn
          unfold rdP rdF at tn key
          have Ll : ∀ X Y, gC (aC (pC σ ra X) 3 Y) lo = some (.inl (36, [.int mc, .ref da, .int (nI L.length)])) := fun X Y => by rw [gC_old' (by rw [pC_1]; exact hll), gC_ne (by omega)]; exact L1
          simp (disch := omega) only [ec_get dX2_history_16, gw_1_107_1, ec_aload_n (i := 0) dX2_history_19 rfl, ec_get dX2_history_20, gw_1_156_1, ec_iald dX2_history_23, iaE_i, ec_if_eq (t := 143) dX2_history_24 rfl, ec_aload_n (i := 0) dX2_history_27 rfl, ec_ldcwS dX2_history_28 rfl scp_319, ec_cv1 dX2_history_31 iN_1_168 cna_1_168, vcE_o ccp_1_168_1, ec_istore dX2_history_34, ec_iload dX2_history_36, ec_if_ne (t := 57) dX2_history_38 rfl, ec_iload dX2_history_57, ec_if_eq (t := 71) dX2_history_59 rfl, ec_iload_n (i := 3) dX2_history_62 rfl, ec_bipush (v := nI 12) dX2_history_63 rfl, ec_icmp_ne (t := 88) dX2_history_65 rfl, ec_aload_n (i := 0) dX2_history_88 rfl, ec_dup dX2_history_89, ec_get dX2_history_90, ec_iconst (v := nI 1) dX2_history_93 rfl, ec_iadd dX2_history_94, ec_put dX2_history_95, pw_1_0_156_1, ec_iload dX2_history_98, ec_if_eq (t := 106) dX2_history_100 rfl, ec_iinc (v := nI 1) dX2_history_103 rfl, ec_aload_n (i := 2) dX2_history_106 rfl, ec_iload dX2_history_107, ec_if_eq (t := 125) dX2_history_109 rfl, ec_new dX2_history_112 ncp_1_323 cSz_28 cDf_28, ec_dup dX2_history_115, ec_iconst (v := (-1)) dX2_history_116 rfl, ec_iconst (v := (-1)) dX2_history_117 rfl, ec_iconst (v := nI 0) dX2_history_118 rfl, ec_ci3 dX2_history_119 iN_1_325 ccp_1_325_99, ec_goto (t := 130) dX2_history_122 rfl, ec_cv1 dX2_history_130 iN_1_266 cna_1_266, vcE_o ccp_1_266_36, cat1_i, cat1_r, cat1_u, catB_n, catB_i, catB_r, catB_l, catB_u, lg_0, lg_s, ldEI_i, ldEL_l, ldEA_r, ldEA_n, lin_0, lin_s, ls1_0, ls1_1, ls1_s, ls2_0, ls2_1, ls2_s, lcl_i, lcl_r, lcl_l, lcl_u, lcl_n, lent_i, lent_r, lent_l, lent_u, lent_0, lent_s, Option.toList_some, Option.toList_none, List.cons_append, List.nil_append, Nat.reduceAdd, true_and, vin_0, vin_s, aE_0, aE_s, EK_r, EK_t, List.set_cons_zero, List.set_cons_succ, va_rf_s, va_rf_n, pC_1, pC_21, aC_1, aC_21, gC_self, gC_new, eI_, eLg_, eV_, eInc_, eN_, eS_, eJ_, eCl_, nI_add, nI_mul, nI_subI, nI_clampI, inb_t, nI_lt0, nI_0le, nI_m1, nI_m1', nI_ofNat, bI_01, b01_0, b01_1, bI_eq0, bI_eq1, bb_01, true_or, or_true, false_or, or_false, eq_self, Nat.reduceAdd, Nat.reduceMul, Nat.reduceSub, Nat.reduceLT, Nat.reduceLeDiff, Nat.reduceEqDiff, ↓reduceIte, and_true, true_and, and_self, Nat.add_zero, Nat.zero_add, not_false_eq_true, not_true_eq_false, faV_n, faV_s, m1_lt0, m1_0le, m1_eq0, m1_le, le_m1, m1_lt, lt_m1, nI_100k, nI_100, upd_e, upd_n, pC_pC, gC_ne', gC_old', nI_lt_t, nI_lt_f, nI_le_t, nI_le_f, nI_eq_t, nI_eq_f, nI_eq0_t, nI_eq0_f, nI_0lt_t, nI_0lt_f, nI_le0_t, nI_le0_f, nI_eq1_t, nI_eq1_f, h1, f1, f2, hs, i1, b1, tn, Ll, Bool.true_eq_false]
          exact key
      | false =>
        cases b2 : isW 15091 (all.drop a) with
        | false =>
          rw [b2, if_neg (by decide), b1, if_neg (by decide)] at hP
          have fin := hP _ (er _)
          simp (disch := omega) only [ec_get dX2_history_16, gw_1_107_1, ec_aload_n (i := 0) dX2_history_19 rfl, ec_get dX2_history_20, gw_1_156_1, ec_iald dX2_history_23, iaE_i, ec_if_eq (t := 143) dX2_history_24 rfl, ec_aload_n (i := 0) dX2_history_27 rfl, ec_ldcwS dX2_history_28 rfl scp_319, ec_cv1 dX2_history_31 iN_1_168 cna_1_168, vcE_o ccp_1_168_1, ec_istore dX2_history_34, ec_iload dX2_history_36, ec_if_ne (t := 57) dX2_history_38 rfl, ec_aload_n (i := 0) dX2_history_41 rfl, ec_ldcwS dX2_history_42 rfl scp_321, ec_cv1 dX2_history_45 iN_1_168 cna_1_168, ec_if_ne (t := 57) dX2_history_48 rfl, ec_aload_n (i := 0) dX2_history_51 rfl, ec_iconst (v := nI 1) dX2_history_52 rfl, ec_cv1 dX2_history_53 iN_1_178 cna_1_178, vcE_o ccp_1_178_1, ec_athrow dX2_history_56, ET_0 (thrP_a dX2_history_56), cat1_i, cat1_r, cat1_u, catB_n, catB_i, catB_r, catB_l, catB_u, lg_0, lg_s, ldEI_i, ldEL_l, ldEA_r, ldEA_n, lin_0, lin_s, ls1_0, ls1_1, ls1_s, ls2_0, ls2_1, ls2_s, lcl_i, lcl_r, lcl_l, lcl_u, lcl_n, lent_i, lent_r, lent_l, lent_u, lent_0, lent_s, Option.toList_some, Option.toList_none, List.cons_append, List.nil_append, Nat.reduceAdd, true_and, vin_0, vin_s, aE_0, aE_s, EK_r, EK_t, List.set_cons_zero, List.set_cons_succ, va_rf_s, va_rf_n, pC_1, pC_21, aC_1, aC_21, gC_self, gC_new, eI_, eLg_, eV_, eInc_, eN_, eS_, eJ_, eCl_, nI_add, nI_mul, nI_subI, nI_clampI, inb_t, nI_lt0, nI_0le, nI_m1, nI_m1', nI_ofNat, bI_01, b01_0, b01_1, bI_eq0, bI_eq1, bb_01, true_or, or_true, false_or, or_false, eq_self, Nat.reduceAdd, Nat.reduceMul, Nat.reduceSub, Nat.reduceLT, Nat.reduceLeDiff, Nat.reduceEqDiff, ↓reduceIte, and_true, true_and, and_self, Nat.add_zero, Nat.zero_add, not_false_eq_true, not_true_eq_false, faV_n, faV_s, m1_lt0, m1_0le, m1_eq0, m1_le, le_m1, m1_lt, lt_m1, nI_100k, nI_100, upd_e, upd_n, pC_pC, gC_ne', gC_old', nI_lt_t, nI_lt_f, nI_le_t, nI_le_f, nI_eq_t, nI_eq_f, nI_eq0_t, nI_eq0_f, nI_0lt_t, nI_0lt_f, nI_le0_t, nI_le0_f, nI_eq1_t, nI_eq1_f, h1, f1, f2, hs, i1, i2, b1, b2, w1]
          exact fin
        | true =>
          rw [b2, if_pos rfl] at hP
          have hAL := hH.1.z (Z := fun _ => True) trivial trivial
          by_cases ht24 : trN L = 24
          · have hpn : pTry q L (all.drop a) = .error (erT 5 (all.drop a)) := by unfold pTry; rw [if_pos ht24]
            rw [hpn] at hP
            have fin := hP _ (er _)
            have e24 : L.length - ngN L = 24 := by omega
            simp (disch := omega) only [ec_get dX2_history_16, gw_1_107_1, ec_aload_n (i := 0) dX2_history_19 rfl, ec_get dX2_history_20, gw_1_156_1, ec_iald dX2_history_23, iaE_i, ec_if_eq (t := 143) dX2_history_24 rfl, ec_aload_n (i := 0) dX2_history_27 rfl, ec_ldcwS dX2_history_28 rfl scp_319, ec_cv1 dX2_history_31 iN_1_168 cna_1_168, vcE_o ccp_1_168_1, ec_istore dX2_history_34, ec_iload dX2_history_36, ec_if_ne (t := 57) dX2_history_38 rfl, ec_aload_n (i := 0) dX2_history_41 rfl, ec_ldcwS dX2_history_42 rfl scp_321, ec_cv1 dX2_history_45 iN_1_168 cna_1_168, ec_if_ne (t := 57) dX2_history_48 rfl, ec_iload dX2_history_57, ec_if_eq (t := 71) dX2_history_59 rfl, ec_aload_n (i := 2) dX2_history_71 rfl, ec_cv0 dX2_history_72 iN_1_239 cna_1_239, vcE_o ccp_1_239_36, ec_iload_n (i := 3) dX2_history_75 rfl, ec_isub dX2_history_76, ec_bipush (v := nI 24) dX2_history_77 rfl, ec_icmp_ne (t := 88) dX2_history_79 rfl, ec_aload_n (i := 0) dX2_history_82 rfl, ec_iconst (v := nI 5) dX2_history_83 rfl, ec_cv1 dX2_history_84 iN_1_178 cna_1_178, vcE_o ccp_1_178_1, ec_athrow dX2_history_87, ET_0 (thrP_a dX2_history_87), cat1_i, cat1_r, cat1_u, catB_n, catB_i, catB_r, catB_l, catB_u, lg_0, lg_s, ldEI_i, ldEL_l, ldEA_r, ldEA_n, lin_0, lin_s, ls1_0, ls1_1, ls1_s, ls2_0, ls2_1, ls2_s, lcl_i, lcl_r, lcl_l, lcl_u, lcl_n, lent_i, lent_r, lent_l, lent_u, lent_0, lent_s, Option.toList_some, Option.toList_none, List.cons_append, List.nil_append, Nat.reduceAdd, true_and, vin_0, vin_s, aE_0, aE_s, EK_r, EK_t, List.set_cons_zero, List.set_cons_succ, va_rf_s, va_rf_n, pC_1, pC_21, aC_1, aC_21, gC_self, gC_new, eI_, eLg_, eV_, eInc_, eN_, eS_, eJ_, eCl_, nI_add, nI_mul, nI_subI, nI_clampI, inb_t, nI_lt0, nI_0le, nI_m1, nI_m1', nI_ofNat, bI_01, b01_0, b01_1, bI_eq0, bI_eq1, bb_01, true_or, or_true, false_or, or_false, eq_self, Nat.reduceAdd, Nat.reduceMul, Nat.reduceSub, Nat.reduceLT, Nat.reduceLeDiff, Nat.reduceEqDiff, ↓reduceIte, and_true, true_and, and_self, Nat.add_zero, Nat.zero_add, not_false_eq_true, not_true_eq_false, faV_n, faV_s, m1_lt0, m1_0le, m1_eq0, m1_le, le_m1, m1_lt, lt_m1, nI_100k, nI_100, upd_e, upd_n, pC_pC, gC_ne', gC_old', nI_lt_t, nI_lt_f, nI_le_t, nI_le_f, nI_eq_t, nI_eq_f, nI_eq0_t, nI_eq0_f, nI_0lt_t, nI_0lt_f, nI_le0_t, nI_le0_f, nI_eq1_t, nI_eq1_f, h1, f1, f2, hs, i1, i2, b1, b2, L1, c_size hAL, e24, w5, Bool.true_eq_false]
            exact fin
          · rw [pTry_x ht24, tl_drop] at hP
            have hn := isW_nx hE b2
            have e24 : L.length - ngN L ≠ 24 := by omega
            have E1 : RdE zs (rdP σ ra C dr hg fa tp (a + 1) dp) ra C all dr hg fa tp (a + 1) dp := hE.rp hn
            have wr1 : HW (rdP σ ra C dr hg fa tp (a + 1) dp) := hw.rdP hE
            have g1 := E1.1
            have key : EC zs (Jc zs) (e + 5) cX2_tried (some (.object "KnowLocks$Tried")) 1 0 0 [some (.ref ra), some (.ref qa), none, none, none] [] (rdP σ ra C dr hg fa tp (a + 1) dp) (EK zs (Jc zs) (e + 5 + 1) cX2_history (some (.object "java/util/ArrayList")) 1 0 127 [some (.ref ra), some (.ref qa), some (.ref lo), some (.int (nI (ngN L))), some (.int (bI false))] [.ref lo] P) := by
              refine c_rtried (q := q) hZ wr1 E1 (fun z => ?_) (fun r hr' => ?_)
              · rw [rdP_pp]
                exact (hK.fr h0 hl0 (by omega) (((S1 z).fr hw).sub (fun _ _ z => Or.inl z) (Nat.le_refl _) (Nat.le_refl _))).nm hr0 hQ0
              · cases hx : xTr q (all.drop (a + 1)) with
                | error k =>
                  rw [hx] at hr' hP
                  obtain ⟨a1, hre, ha1⟩ := hr'
                  rw [rdP_pp] at hre
                  subst hre
                  have E3 : RdE zs (rdP σ ra C dr hg fa tp a1 dp) ra C all dr hg fa tp a1 dp := hE.rp ha1
                  have fin := hP _ (ErR.tr ((S1 a1).fr hw) (ErR.w (k := k) (S := fun b => b = ra) ((S1 a1).hw hw) E3) (fun b z => Or.inr z) (show _ ≤ 8 * (all.length - a) by omega) (show _ ≤ 2100 * (all.length - a) by omega) |> fun ⟨x', σ', hxe, hF, hh⟩ => ⟨x', σ', hxe, hF.sub (fun _ _ z => Or.inl z) (Nat.le_refl _) (Nat.le_refl _), hh⟩)
                  simp (disch := omega) only [ec_cv1 dX2_history_127 iN_1_328 cna_1_328, vcE_o ccp_1_328_1, ET_0 (thrP_c (o := 1) dX2_history_127 rfl), cat1_i, cat1_r, cat1_u, catB_n, catB_i, catB_r, catB_l, catB_u, lg_0, lg_s, ldEI_i, ldEL_l, ldEA_r, ldEA_n, lin_0, lin_s, ls1_0, ls1_1, ls1_s, ls2_0, ls2_1, ls2_s, lcl_i, lcl_r, lcl_l, lcl_u, lcl_n, lent_i, lent_r, lent_l, lent_u, lent_0, lent_s, Option.toList_some, Option.toList_none, List.cons_append, List.nil_append, Nat.reduceAdd, true_and, vin_0, vin_s, aE_0, aE_s, EK_r, EK_t, List.set_cons_zero, List.set_cons_succ, va_rf_s, va_rf_n, pC_1, pC_21, aC_1, aC_21, gC_self, gC_new, eI_, eLg_, eV_, eInc_, eN_, eS_, eJ_, eCl_]
                  exact fin
                | ok itt =>
                  obtain ⟨it, t⟩ := itt
                  rw [hx] at hr' hP
                  rw [pH_ok] at hP
                  obtain ⟨hre, rfl, hn3⟩ := hr'
                  rw [rdP_pp] at hre
                  subst hre
                  have hit := xTr_s hx
                  obtain ⟨y, rfl⟩ := Option.isSome_iff_exists.mp hit
                  have wr3 : HW (rdP σ ra C dr hg fa tp (a + 1 + 3) dp) := hw.rdP hE
                  have E3 : RdE zs (rdP σ ra C dr hg fa tp (a + 1 + 3) dp) ra C all dr hg fa tp (a + 1 + 3) dp := hE.rp hn3
                  have F2 : Fr (fun _ => False) 1 3 (rdP σ ra C dr hg fa tp (a + 1 + 3) dp) (aC (rdP σ ra C dr hg fa tp (a + 1 + 3) dp) 3 (.inl (28, trF (some y)))) := Fr.nc wr3
                  have F02 : Fr (fun b => b = ra) 1 3 σ (aC (rdP σ ra C dr hg fa tp (a + 1 + 3) dp) 3 (.inl (28, trF (some y)))) := (((S1 (a + 1 + 3)).fr hw).tn F2 (fun b z => z.elim)).sub (fun _ _ z => z) (by omega) (by omega)
                  have key := tl (some y) (a + 1 + 3) (aC (rdP σ ra C dr hg fa tp (a + 1 + 3) dp) 3 (.inl (28, trF (some y)))) (some (.int (bI false))) (by omega) F2.2.2.2 (E3.fr wr3 F2 (fun z => z) (fun _ _ _ z => z)) (F02.sub (fun _ _ z => Or.inl z) (by omega) (by omega)) (hH.fr hw F02 hr) (gC_new (σ := rdP σ ra C dr hg fa tp (a + 1 + 3) dp)) ⟨by rw [trN_s.1]; omega, by rw [trN_s.2]; omega⟩ hP
                  rw [trN_s.2] at key
                  have Ll : ∀ Y, gC (aC (rdP σ ra C dr hg fa tp (a + 1 + 3) dp) 3 Y) lo = some (.inl (36, [.int mc, .ref da, .int (nI L.length)])) := fun Y => by rw [gC_old' (σ := rdP σ ra C dr hg fa tp (a + 1 + 3) dp) hll]; unfold rdP; rw [gC_ne (by omega)]; exact L1
                  simp (disch := omega) only [ec_cv1 dX2_history_130 iN_1_266 cna_1_266, vcE_o ccp_1_266_36, cat1_i, cat1_r, cat1_u, catB_n, catB_i, catB_r, catB_l, catB_u, lg_0, lg_s, ldEI_i, ldEL_l, ldEA_r, ldEA_n, lin_0, lin_s, ls1_0, ls1_1, ls1_s, ls2_0, ls2_1, ls2_s, lcl_i, lcl_r, lcl_l, lcl_u, lcl_n, lent_i, lent_r, lent_l, lent_u, lent_0, lent_s, Option.toList_some, Option.toList_none, List.cons_append, List.nil_append, Nat.reduceAdd, true_and, vin_0, vin_s, aE_0, aE_s, EK_r, EK_t, List.set_cons_zero, List.set_cons_succ, va_rf_s, va_rf_n, pC_1, pC_21, aC_1, aC_21, gC_self, gC_new, eI_, eLg_, eV_, eInc_, eN_, eS_, eJ_, eCl_, nI_add, nI_mul, nI_subI, nI_clampI, inb_t, nI_lt0, nI_0le, nI_m1, nI_m1', nI_ofNat, bI_01, b01_0, b01_1, bI_eq0, bI_eq1, bb_01, true_or, or_true, false_or, or_false, eq_self, Nat.reduceAdd, Nat.reduceMul, Nat.reduceSub, Nat.reduceLT, Nat.reduceLeDiff, Nat.reduceEqDiff, ↓reduceIte, and_true, true_and, and_self, Nat.add_zero, Nat.zero_add, not_false_eq_true, not_true_eq_false, faV_n, faV_s, m1_lt0, m1_0le, m1_eq0, m1_le, le_m1, m1_lt, lt_m1, nI_100k, nI_100, upd_e, upd_n, pC_pC, gC_ne', gC_old', nI_lt_t, nI_lt_f, nI_le_t, nI_le_f, nI_eq_t, nI_eq_f, nI_eq0_t, nI_eq0_f, nI_0lt_t, nI_0lt_f, nI_le0_t, nI_le0_f, nI_eq1_t, nI_eq1_f, Ll]
                  exact key
            unfold rdP rdF at key g1
            simp (disch := omega) only [ec_get dX2_history_16, gw_1_107_1, ec_aload_n (i := 0) dX2_history_19 rfl, ec_get dX2_history_20, gw_1_156_1, ec_iald dX2_history_23, iaE_i, ec_if_eq (t := 143) dX2_history_24 rfl, ec_aload_n (i := 0) dX2_history_27 rfl, ec_ldcwS dX2_history_28 rfl scp_319, ec_cv1 dX2_history_31 iN_1_168 cna_1_168, vcE_o ccp_1_168_1, ec_istore dX2_history_34, ec_iload dX2_history_36, ec_if_ne (t := 57) dX2_history_38 rfl, ec_aload_n (i := 0) dX2_history_41 rfl, ec_ldcwS dX2_history_42 rfl scp_321, ec_cv1 dX2_history_45 iN_1_168 cna_1_168, ec_if_ne (t := 57) dX2_history_48 rfl, ec_iload dX2_history_57, ec_if_eq (t := 71) dX2_history_59 rfl, ec_aload_n (i := 2) dX2_history_71 rfl, ec_cv0 dX2_history_72 iN_1_239 cna_1_239, vcE_o ccp_1_239_36, ec_iload_n (i := 3) dX2_history_75 rfl, ec_isub dX2_history_76, ec_bipush (v := nI 24) dX2_history_77 rfl, ec_icmp_ne (t := 88) dX2_history_79 rfl, ec_aload_n (i := 0) dX2_history_88 rfl, ec_dup dX2_history_89, ec_get dX2_history_90, ec_iconst (v := nI 1) dX2_history_93 rfl, ec_iadd dX2_history_94, ec_put dX2_history_95, pw_1_0_156_1, ec_iload dX2_history_98, ec_if_eq (t := 106) dX2_history_100 rfl, ec_aload_n (i := 2) dX2_history_106 rfl, ec_iload dX2_history_107, ec_if_eq (t := 125) dX2_history_109 rfl, ec_aload_n (i := 0) dX2_history_125 rfl, ec_aload_n (i := 1) dX2_history_126 rfl, ec_cv1 dX2_history_127 iN_1_328 cna_1_328, vcE_o ccp_1_328_1, ET_0 (thrP_c (o := 1) dX2_history_127 rfl), cat1_i, cat1_r, cat1_u, catB_n, catB_i, catB_r, catB_l, catB_u, lg_0, lg_s, ldEI_i, ldEL_l, ldEA_r, ldEA_n, lin_0, lin_s, ls1_0, ls1_1, ls1_s, ls2_0, ls2_1, ls2_s, lcl_i, lcl_r, lcl_l, lcl_u, lcl_n, lent_i, lent_r, lent_l, lent_u, lent_0, lent_s, Option.toList_some, Option.toList_none, List.cons_append, List.nil_append, Nat.reduceAdd, true_and, vin_0, vin_s, aE_0, aE_s, EK_r, EK_t, List.set_cons_zero, List.set_cons_succ, va_rf_s, va_rf_n, pC_1, pC_21, aC_1, aC_21, gC_self, gC_new, eI_, eLg_, eV_, eInc_, eN_, eS_, eJ_, eCl_, nI_add, nI_mul, nI_subI, nI_clampI, inb_t, nI_lt0, nI_0le, nI_m1, nI_m1', nI_ofNat, bI_01, b01_0, b01_1, bI_eq0, bI_eq1, bb_01, true_or, or_true, false_or, or_false, eq_self, Nat.reduceAdd, Nat.reduceMul, Nat.reduceSub, Nat.reduceLT, Nat.reduceLeDiff, Nat.reduceEqDiff, ↓reduceIte, and_true, true_and, and_self, Nat.add_zero, Nat.zero_add, not_false_eq_true, not_true_eq_false, faV_n, faV_s, m1_lt0, m1_0le, m1_eq0, m1_le, le_m1, m1_lt, lt_m1, nI_100k, nI_100, upd_e, upd_n, pC_pC, gC_ne', gC_old', nI_lt_t, nI_lt_f, nI_le_t, nI_le_f, nI_eq_t, nI_eq_f, nI_eq0_t, nI_eq0_f, nI_0lt_t, nI_0lt_f, nI_le0_t, nI_le0_f, nI_eq1_t, nI_eq1_f, h1, g1, f1, f2, hs, i1, i2, b1, b2, L1, c_size hAL, e24, Bool.true_eq_false]
            exact key
end
