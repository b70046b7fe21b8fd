set_option maxRecDepth 100000
/-! THE COMPONENT's reader: the whole hand -/
section
variable {zs w : Nat → Nat} {e : Nat} {σ σ1 : CM} {P : CR → Prop} {ra lo : Nat} {C : Nat → Nat} {all : List Tk} {hg : Int32} {fa : Nat} {tp : Int32} {a dp : Nat} {q : QT} {g : Bool} {dr : Value}
theorem StR.tr {x : Except Nat (QT × List Tk)} {r : CR} {c m a1 : Nat} (hF : Fr (fun b => b = ra ∨ lo ≤ b) c m σ σ1) (h : StR zs all ra C tp lo σ1 a1 g x r) (ha : a < a1) (hl : a1 < all.length) (hc : c ≤ 8 * (a1 - a)) (hm : m ≤ 2100 * (a1 - a)) : StR zs all ra C tp lo σ a g x r := by
  cases x with
  | error k => exact ErR.tr hF h (fun b z => Or.inr z) (by omega) (by omega)
  | ok qt =>
    obtain ⟨a', σ', w', fa', dp', h1, h2, h3, h4, h5, h6⟩ := h
    exact ⟨a', σ', w', fa', dp', h1, h2, by omega, h4, (hF.tr h5).sub (fun _ _ z => z) (by omega) (by omega), h6⟩
theorem c_hand (hZ : ZS zs) (hw : HW σ) (hC : ∀ k, k < 10 → k ≠ 6 → C k < lo) (hE : RdE zs σ ra C all (.ref lo) (bI g) fa tp a dp) (hD : DrO zs w lo ra σ q a) (hn : a + 1 < all.length) (hP : ∀ r, StR zs all ra C tp lo σ a g (xHand q (all.drop a)) r → P r) : EC zs (Jc zs) (e + 6) cX2_hand none 1 0 0 [some (.ref ra), none, none, none, none, none] [] σ P := by
  obtain ⟨⟨l0, -⟩, -⟩ := hE.x
  have hl := hE.le
  have h1 := hE.1
  unfold rdF at h1
  unfold xHand at hP
  rw [tl_drop, tl_drop, tl_drop] at hP
  obtain ⟨hd, ch, nd, cn, sd, cs, hx, mx, dx, sx, xl, xe, ⟨r1, r2⟩, h1s, h2, h3, h4, h5s, h6, ⟨b1, b2, b3, b4⟩, c1, c2, c3, c4⟩ := id hD
  have hll := hw _ _ r1
  have r1' := r1
  unfold qFs at r1'
  have hAL := h1s.1.z (Z := fun _ => True) trivial trivial
  obtain ⟨mc, dd, hl1⟩ := hAL.ob
  have hl1l := hw _ _ hl1
  by_cases hq7 : qH q = 7
  · rw [if_pos hq7] at hP
    have wr := fun P => c_wrong (e := e + 4) (P := P) (k := 5) (by omega) hw hE
    have fin := hP _ (ErR.tr (Fr.rf hw) (ErR.w (S := fun b => b = ra ∨ lo ≤ b) hw hE) (fun b z => Or.inr z) (by omega) (by omega))
    simp (disch := omega) only [ec_aload_n (i := 0) dX2_hand_0 rfl, ec_get dX2_hand_1, gw_1_191_1, ec_get dX2_hand_4, gw_1_235_3, ec_cv0 dX2_hand_7 iN_1_239 cna_1_239, vcE_o ccp_1_239_36, ec_bipush (v := nI 7) dX2_hand_10 rfl, ec_icmp_ne (t := 21) dX2_hand_12 rfl, ec_aload_n (i := 0) dX2_hand_15 rfl, ec_iconst (v := nI 5) dX2_hand_16 rfl, ec_cv1 dX2_hand_17 iN_1_178 cna_1_178, vcE_o ccp_1_178_1, ec_athrow dX2_hand_20, ET_0 (thrP_a dX2_hand_20), cat1_i, cat1_r, cat1_u, catB_n, catB_i, catB_r, catB_l, catB_u, lg_0, lg_s, ldEI_i, ldEL_l, ldEA_r, ldEA_n, lin_0, lin_s, ls1_0, ls1_1, ls1_s, ls2_0, ls2_1, ls2_s, lcl_i, lcl_r, lcl_l, lcl_u, lcl_n, lent_i, lent_r, lent_l, lent_u, lent_0, lent_s, Option.toList_some, Option.toList_none, List.cons_append, List.nil_append, Nat.reduceAdd, true_and, vin_0, vin_s, aE_0, aE_s, EK_r, EK_t, List.set_cons_zero, List.set_cons_succ, va_rf_s, va_rf_n, pC_1, pC_21, aC_1, aC_21, gC_self, gC_new, eI_, eLg_, eV_, eInc_, eN_, eS_, eJ_, eCl_, nI_add, nI_mul, nI_subI, nI_clampI, inb_t, nI_lt0, nI_0le, nI_m1, nI_m1', nI_ofNat, bI_01, b01_0, b01_1, bI_eq0, bI_eq1, bb_01, true_or, or_true, false_or, or_false, eq_self, Nat.reduceAdd, Nat.reduceMul, Nat.reduceSub, Nat.reduceLT, Nat.reduceLeDiff, Nat.reduceEqDiff, ↓reduceIte, and_true, true_and, and_self, Nat.add_zero, Nat.zero_add, not_false_eq_true, not_true_eq_false, faV_n, faV_s, m1_lt0, m1_0le, m1_eq0, m1_le, le_m1, m1_lt, lt_m1, nI_100k, nI_100, upd_e, upd_n, pC_pC, gC_ne', gC_old', nI_lt_t, nI_lt_f, nI_le_t, nI_le_f, nI_eq_t, nI_eq_f, nI_eq0_t, nI_eq0_f, nI_0lt_t, nI_0lt_f, nI_le0_t, nI_le0_f, nI_eq1_t, nI_eq1_f, h1, r1', hl1, c_size hAL, wr]
    exact fin
  · rw [if_neg hq7] at hP
    have nn := fun P => c_newName (e := e + 1) (P := P) hZ hw hE hD.nm hn
    have E1 : RdE zs (rdP σ ra C (.ref lo) (bI g) fa tp (a + 1) dp) ra C all (.ref lo) (bI g) fa tp (a + 1) dp := hE.rp hn
    have S1 : ∀ z, Fs (fun b => b = ra ∨ lo ≤ b) σ (rdP σ ra C (.ref lo) (bI g) fa tp z dp) := fun z => Fs.rf.p hE.1 (Or.inl rfl)
    have w1 : ∀ z, HW (rdP σ ra C (.ref lo) (bI g) fa tp z dp) := fun z => hw.rdP hE
    cases hx1 : pNw q (all.drop (a + 1)) with
    | error k =>
      rw [hx1] at hP
      have fin := hP _ (ErR.tr ((S1 (a + 1)).fr hw) (ErR.w (k := k) (S := fun b => b = ra ∨ lo ≤ b) (w1 _) E1) (fun b z => Or.inr z) (by omega) (by omega))
      simp (disch := omega) only [ec_aload_n (i := 0) dX2_hand_0 rfl, ec_get dX2_hand_1, gw_1_191_1, ec_get dX2_hand_4, gw_1_235_3, ec_cv0 dX2_hand_7 iN_1_239 cna_1_239, vcE_o ccp_1_239_36, ec_bipush (v := nI 7) dX2_hand_10 rfl, ec_icmp_ne (t := 21) dX2_hand_12 rfl, ec_aload_n (i := 0) dX2_hand_21 rfl, ec_cv0 dX2_hand_22 iN_1_244 cna_1_244, vcE_o ccp_1_244_1, ET_0 (thrP_c (o := 1) dX2_hand_22 rfl), cat1_i, cat1_r, cat1_u, catB_n, catB_i, catB_r, catB_l, catB_u, lg_0, lg_s, ldEI_i, ldEL_l, ldEA_r, ldEA_n, lin_0, lin_s, ls1_0, ls1_1, ls1_s, ls2_0, ls2_1, ls2_s, lcl_i, lcl_r, lcl_l, lcl_u, lcl_n, lent_i, lent_r, lent_l, lent_u, lent_0, lent_s, Option.toList_some, Option.toList_none, List.cons_append, List.nil_append, Nat.reduceAdd, true_and, vin_0, vin_s, aE_0, aE_s, EK_r, EK_t, List.set_cons_zero, List.set_cons_succ, va_rf_s, va_rf_n, pC_1, pC_21, aC_1, aC_21, gC_self, gC_new, eI_, eLg_, eV_, eInc_, eN_, eS_, eJ_, eCl_, nI_add, nI_mul, nI_subI, nI_clampI, inb_t, nI_lt0, nI_0le, nI_m1, nI_m1', nI_ofNat, bI_01, b01_0, b01_1, bI_eq0, bI_eq1, bb_01, true_or, or_true, false_or, or_false, eq_self, Nat.reduceAdd, Nat.reduceMul, Nat.reduceSub, Nat.reduceLT, Nat.reduceLeDiff, Nat.reduceEqDiff, ↓reduceIte, and_true, true_and, and_self, Nat.add_zero, Nat.zero_add, not_false_eq_true, not_true_eq_false, faV_n, faV_s, m1_lt0, m1_0le, m1_eq0, m1_le, le_m1, m1_lt, lt_m1, nI_100k, nI_100, upd_e, upd_n, pC_pC, gC_ne', gC_old', nI_lt_t, nI_lt_f, nI_le_t, nI_le_f, nI_eq_t, nI_eq_f, nI_eq0_t, nI_eq0_f, nI_0lt_t, nI_0lt_f, nI_le0_t, nI_le0_f, nI_eq1_t, nI_eq1_f, h1, r1', hl1, c_size hAL, nn, hx1, exE_er]
      exact fin
    | ok u =>
      rw [hx1] at hP
      have hn2 := pNw_v hx1 E1
      have E2 : RdE zs (rdP σ ra C (.ref lo) (bI g) fa tp (a + 2) dp) ra C all (.ref lo) (bI g) fa tp (a + 2) dp := hE.rp hn2
      have g2 := E2.1
      unfold rdF at g2
      have wh := fun P => c_wh_h (e := e + 3) (P := P) E2 hZ
      have hP : ∀ r, StR zs all ra C tp lo σ a g (match whW hkL (all.drop (a + 2)) with
        | none => .error (erT 1 (all.drop (a + 2)))
        | some kd => (match pMs q kd (all.drop (a + 3)) with
          | .error k => .error k
          | .ok (m, t) => (match pWN 382984 0 3 t with
            | .error k => .error k
            | .ok (sl, t) => (match pWN 10998956 0 9 t with
              | .error k => .error k
              | .ok (tr, t) => .ok (qAH q (vWd (all.drop (a + 1))) kd m sl tr, t))))) r → P r := hP
      cases hx2 : whW hkL (all.drop (a + 2)) with
      | none =>
        rw [hx2] at hP
        have wr := fun P => c_wrong (e := e + 4) (P := P) (k := 1) (by omega) (w1 (a + 2)) E2
        have fin := hP _ (ErR.tr ((S1 (a + 2)).fr hw) (ErR.w (k := erT 1 (all.drop (a + 2))) (S := fun b => b = ra ∨ lo ≤ b) (w1 _) E2) (fun b z => Or.inr z) (by omega) (by omega))
        simp (disch := omega) only [ec_aload_n (i := 0) dX2_hand_0 rfl, ec_get dX2_hand_1, gw_1_191_1, ec_get dX2_hand_4, gw_1_235_3, ec_cv0 dX2_hand_7 iN_1_239 cna_1_239, vcE_o ccp_1_239_36, ec_bipush (v := nI 7) dX2_hand_10 rfl, ec_icmp_ne (t := 21) dX2_hand_12 rfl, ec_aload_n (i := 0) dX2_hand_21 rfl, ec_cv0 dX2_hand_22 iN_1_244 cna_1_244, vcE_o ccp_1_244_1, ET_0 (thrP_c (o := 1) dX2_hand_22 rfl), ec_lstore_n (i := 1) dX2_hand_25 rfl, ec_aload_n (i := 0) dX2_hand_26 rfl, ec_aload_n (i := 0) dX2_hand_27 rfl, ec_get dX2_hand_28, gw_1_46_1, ec_cv1 dX2_hand_31 iN_1_182 cna_1_182, vcE_o ccp_1_182_1, ec_istore_n (i := 3) dX2_hand_34 rfl, ec_iload_n (i := 3) dX2_hand_35 rfl, ec_iconst (v := (-1)) dX2_hand_36 rfl, ec_icmp_ne (t := 46) dX2_hand_37 rfl, ec_aload_n (i := 0) dX2_hand_40 rfl, ec_iconst (v := nI 1) dX2_hand_41 rfl, ec_cv1 dX2_hand_42 iN_1_178 cna_1_178, vcE_o ccp_1_178_1, ec_athrow dX2_hand_45, ET_0 (thrP_a dX2_hand_45), cat1_i, cat1_r, cat1_u, catB_n, catB_i, catB_r, catB_l, catB_u, lg_0, lg_s, ldEI_i, ldEL_l, ldEA_r, ldEA_n, lin_0, lin_s, ls1_0, ls1_1, ls1_s, ls2_0, ls2_1, ls2_s, lcl_i, lcl_r, lcl_l, lcl_u, lcl_n, lent_i, lent_r, lent_l, lent_u, lent_0, lent_s, Option.toList_some, Option.toList_none, List.cons_append, List.nil_append, Nat.reduceAdd, true_and, vin_0, vin_s, aE_0, aE_s, EK_r, EK_t, List.set_cons_zero, List.set_cons_succ, va_rf_s, va_rf_n, pC_1, pC_21, aC_1, aC_21, gC_self, gC_new, eI_, eLg_, eV_, eInc_, eN_, eS_, eJ_, eCl_, nI_add, nI_mul, nI_subI, nI_clampI, inb_t, nI_lt0, nI_0le, nI_m1, nI_m1', nI_ofNat, bI_01, b01_0, b01_1, bI_eq0, bI_eq1, bb_01, true_or, or_true, false_or, or_false, eq_self, Nat.reduceAdd, Nat.reduceMul, Nat.reduceSub, Nat.reduceLT, Nat.reduceLeDiff, Nat.reduceEqDiff, ↓reduceIte, and_true, true_and, and_self, Nat.add_zero, Nat.zero_add, not_false_eq_true, not_true_eq_false, faV_n, faV_s, m1_lt0, m1_0le, m1_eq0, m1_le, le_m1, m1_lt, lt_m1, nI_100k, nI_100, upd_e, upd_n, pC_pC, gC_ne', gC_old', nI_lt_t, nI_lt_f, nI_le_t, nI_le_f, nI_eq_t, nI_eq_f, nI_eq0_t, nI_eq0_f, nI_0lt_t, nI_0lt_f, nI_le0_t, nI_le0_f, nI_eq1_t, nI_eq1_f, h1, r1', hl1, c_size hAL, nn, hx1, hx2, g2, wh, wr, exE_ok]
        exact fin
      | some kd =>
        have hkd : kd < 5 := whW_lt hx2
        have hn3 := whW_nx E2 hx2
        rw [hx2] at hP
        have hP : ∀ r, StR zs all ra C tp lo σ a g (match pMs q kd (all.drop (a + 3)) with
          | .error k => .error k
          | .ok (m, t) => (match pWN 382984 0 3 t with
            | .error k => .error k
            | .ok (sl, t) => (match pWN 10998956 0 9 t with
              | .error k => .error k
              | .ok (tr, t) => .ok (qAH q (vWd (all.drop (a + 1))) kd m sl tr, t)))) r → P r := hP
        have E3 : RdE zs (rdP σ ra C (.ref lo) (bI g) fa tp (a + 3) dp) ra C all (.ref lo) (bI g) fa tp (a + 3) dp := hE.rp hn3
        have w3 := w1 (a + 3)
        have D3 : DrO zs w lo ra (rdP σ ra C (.ref lo) (bI g) fa tp (a + 3) dp) q (a + 3) := hD.k (fun b c hb h9 => gC_ne (fun y => by rw [y] at h9; exact h9 b2)) (Nat.le_refl _) (by omega)
        have F34 : Fr (fun b => b = ra) 1 4 (rdP σ ra C (.ref lo) (bI g) fa tp (a + 3) dp) (aC (rdP σ ra C (.ref lo) (bI g) fa tp (a + 3) dp) 4 (.inr (0, 4, .inl (fun _ => 0)))) := ⟨⟨by rw [aC_1]; omega, by rw [aC_1]; omega⟩, ⟨by rw [aC_21]; omega, by rw [aC_21]; omega⟩, fun b hb _ => gC_old' hb, w3.aC⟩
        have E4 : RdE zs (aC (rdP σ ra C (.ref lo) (bI g) fa tp (a + 3) dp) 4 (.inr (0, 4, .inl (fun _ => 0)))) ra C all (.ref lo) (bI g) fa tp (a + 3) dp := E3.fr w3 (S := fun _ => False) (c := 1) (m := 4) ⟨F34.1, F34.2.1, fun b hb _ => gC_old' hb, w3.aC⟩ (fun z => z) (fun _ _ _ z => z)
        have D4 : DrO zs w lo ra (aC (rdP σ ra C (.ref lo) (bI g) fa tp (a + 3) dp) 4 (.inr (0, 4, .inl (fun _ => 0)))) q (a + 3) := D3.k (fun b c hb _ => gC_old' (w3 _ _ hb)) (by rw [aC_1]; omega) (Nat.le_refl _)
        have F04 : Fr (fun b => b = ra ∨ lo ≤ b) 1 4 σ (aC (rdP σ ra C (.ref lo) (bI g) fa tp (a + 3) dp) 4 (.inr (0, 4, .inl (fun _ => 0)))) := (((S1 (a + 3)).fr hw).tn F34 (fun b z => Or.inr (Or.inl z))).sub (fun _ _ z => z) (by omega) (by omega)
        have g4 := E4.1
        unfold rdF at g4
        have g4p : ∀ X, gC (pC σ ra X) ra = some X := fun X => gC_self
        have hre : ∀ {Q : CR → Prop} (X : EC zs (Jc zs) (e + 6) cX2_hand none 1 0 61 [some (.ref ra), some (.long (vWd (all.drop (a + 1)))), none, some (.int (nI kd)), some (.ref σ.1), none] [] (aC (rdP σ ra C (.ref lo) (bI g) fa tp (a + 3) dp) 4 (.inr (0, 4, .inl (fun _ => 0)))) P), EC zs (Jc zs) (e + 6) cX2_hand none 1 0 0 [some (.ref ra), none, none, none, none, none] [] σ P := fun {Q} X => by
          simp (disch := omega) only [ec_aload_n (i := 0) dX2_hand_0 rfl, ec_get dX2_hand_1, gw_1_191_1, ec_get dX2_hand_4, gw_1_235_3, ec_cv0 dX2_hand_7 iN_1_239 cna_1_239, vcE_o ccp_1_239_36, ec_bipush (v := nI 7) dX2_hand_10 rfl, ec_icmp_ne (t := 21) dX2_hand_12 rfl, ec_aload_n (i := 0) dX2_hand_21 rfl, ec_cv0 dX2_hand_22 iN_1_244 cna_1_244, vcE_o ccp_1_244_1, ET_0 (thrP_c (o := 1) dX2_hand_22 rfl), ec_lstore_n (i := 1) dX2_hand_25 rfl, ec_aload_n (i := 0) dX2_hand_26 rfl, ec_aload_n (i := 0) dX2_hand_27 rfl, ec_get dX2_hand_28, gw_1_46_1, ec_cv1 dX2_hand_31 iN_1_182 cna_1_182, vcE_o ccp_1_182_1, ec_istore_n (i := 3) dX2_hand_34 rfl, ec_iload_n (i := 3) dX2_hand_35 rfl, ec_iconst (v := (-1)) dX2_hand_36 rfl, ec_icmp_ne (t := 46) dX2_hand_37 rfl, ec_aload_n (i := 0) dX2_hand_46 rfl, ec_dup dX2_hand_47, ec_get dX2_hand_48, gw_1_156_1, ec_iconst (v := nI 1) dX2_hand_51 rfl, ec_iadd dX2_hand_52, ec_put dX2_hand_53, pw_1_0_156_1, ec_iconst (v := nI 4) dX2_hand_56 rfl, ec_newaI dX2_hand_57, ec_astore dX2_hand_59, ec_astoreN dX2_hand_59, cat1_i, cat1_r, cat1_u, catB_n, catB_i, catB_r, catB_l, catB_u, lg_0, lg_s, ldEI_i, ldEL_l, ldEA_r, ldEA_n, lin_0, lin_s, ls1_0, ls1_1, ls1_s, ls2_0, ls2_1, ls2_s, lcl_i, lcl_r, lcl_l, lcl_u, lcl_n, lent_i, lent_r, lent_l, lent_u, lent_0, lent_s, Option.toList_some, Option.toList_none, List.cons_append, List.nil_append, Nat.reduceAdd, true_and, vin_0, vin_s, aE_0, aE_s, EK_r, EK_t, List.set_cons_zero, List.set_cons_succ, va_rf_s, va_rf_n, pC_1, pC_21, aC_1, aC_21, gC_self, gC_new, eI_, eLg_, eV_, eInc_, eN_, eS_, eJ_, eCl_, nI_add, nI_mul, nI_subI, nI_clampI, inb_t, nI_lt0, nI_0le, nI_m1, nI_m1', nI_ofNat, bI_01, b01_0, b01_1, bI_eq0, bI_eq1, bb_01, true_or, or_true, false_or, or_false, eq_self, Nat.reduceAdd, Nat.reduceMul, Nat.reduceSub, Nat.reduceLT, Nat.reduceLeDiff, Nat.reduceEqDiff, ↓reduceIte, and_true, true_and, and_self, Nat.add_zero, Nat.zero_add, not_false_eq_true, not_true_eq_false, faV_n, faV_s, m1_lt0, m1_0le, m1_eq0, m1_le, le_m1, m1_lt, lt_m1, nI_100k, nI_100, upd_e, upd_n, pC_pC, gC_ne', gC_old', nI_lt_t, nI_lt_f, nI_le_t, nI_le_f, nI_eq_t, nI_eq_f, nI_eq0_t, nI_eq0_f, nI_0lt_t, nI_0lt_f, nI_le0_t, nI_le0_f, nI_eq1_t, nI_eq1_f, h1, r1', hl1, c_size hAL, nn, hx1, hx2, g2, wh, exE_ok]
          unfold rdP at X ⊢
          rw [pC_pC]
          exact X
        refine hre (Q := P) ?_
        by_cases hk4 : kd = 4
        · subst hk4
          unfold pMs at hP
          rw [if_pos rfl, tl_drop] at hP
          have th := fun P => c_toldHand (e := e + 1) (P := P) hZ w3.aC E4 D4.nm
          obtain ⟨hd4, ch4, nd4, cn4, sd4, cs4, hx4, mx4, dx4, sx4, xl4, xe4, ⟨r14, r24⟩, h1s4, -⟩ := id D4
          unfold qFs at r14
          cases hx3 : pHd q (all.drop (a + 3)) with
          | error k =>
            rw [hx3] at hP
            have fin := hP _ (ErR.tr F04 (ErR.w (k := k) (S := fun b => b = ra ∨ lo ≤ b) w3.aC E4) (fun b z => Or.inr z) (by omega) (by omega))
            simp (disch := omega) only [ec_iload_n (i := 3) dX2_hand_61 rfl, ec_iconst (v := nI 4) dX2_hand_62 rfl, ec_icmp_ne (t := 95) dX2_hand_63 rfl, ec_aload_n (i := 0) dX2_hand_66 rfl, ec_get dX2_hand_67, gw_1_191_1, ec_get dX2_hand_70, gw_1_235_3, ec_aload_n (i := 0) dX2_hand_73 rfl, ec_aload_n (i := 0) dX2_hand_74 rfl, ec_get dX2_hand_75, ec_cv1 dX2_hand_78 iN_1_248 cna_1_248, vcE_o ccp_1_248_1, ET_0 (thrP_c (o := 1) dX2_hand_78 rfl), cat1_i, cat1_r, cat1_u, catB_n, catB_i, catB_r, catB_l, catB_u, lg_0, lg_s, ldEI_i, ldEL_l, ldEA_r, ldEA_n, lin_0, lin_s, ls1_0, ls1_1, ls1_s, ls2_0, ls2_1, ls2_s, lcl_i, lcl_r, lcl_l, lcl_u, lcl_n, lent_i, lent_r, lent_l, lent_u, lent_0, lent_s, Option.toList_some, Option.toList_none, List.cons_append, List.nil_append, Nat.reduceAdd, true_and, vin_0, vin_s, aE_0, aE_s, EK_r, EK_t, List.set_cons_zero, List.set_cons_succ, va_rf_s, va_rf_n, pC_1, pC_21, aC_1, aC_21, gC_self, gC_new, eI_, eLg_, eV_, eInc_, eN_, eS_, eJ_, eCl_, nI_add, nI_mul, nI_subI, nI_clampI, inb_t, nI_lt0, nI_0le, nI_m1, nI_m1', nI_ofNat, bI_01, b01_0, b01_1, bI_eq0, bI_eq1, bb_01, true_or, or_true, false_or, or_false, eq_self, Nat.reduceAdd, Nat.reduceMul, Nat.reduceSub, Nat.reduceLT, Nat.reduceLeDiff, Nat.reduceEqDiff, ↓reduceIte, and_true, true_and, and_self, Nat.add_zero, Nat.zero_add, not_false_eq_true, not_true_eq_false, faV_n, faV_s, m1_lt0, m1_0le, m1_eq0, m1_le, le_m1, m1_lt, lt_m1, nI_100k, nI_100, upd_e, upd_n, pC_pC, gC_ne', gC_old', nI_lt_t, nI_lt_f, nI_le_t, nI_le_f, nI_eq_t, nI_eq_f, nI_eq0_t, nI_eq0_f, nI_0lt_t, nI_0lt_f, nI_le0_t, nI_le0_f, nI_eq1_t, nI_eq1_f, g4, r14, th, hx3, exE_er]
            exact fin
          | ok h =>
            rw [hx3] at hP
            obtain ⟨hh, hn4⟩ := pHd_v hx3 E4
            have E5 := E4.rp (dr' := .ref lo) (hg' := bI g) (fa' := fa) (tp' := tp) (dp' := dp) hn4
            have S5 : Fs (fun b => b = ra ∨ lo ≤ b) (aC (rdP σ ra C (.ref lo) (bI g) fa tp (a + 3) dp) 4 (.inr (0, 4, .inl (fun _ => 0)))) (rdP (aC (rdP σ ra C (.ref lo) (bI g) fa tp (a + 3) dp) 4 (.inr (0, 4, .inl (fun _ => 0)))) ra C (.ref lo) (bI g) fa tp (a + 3 + 1) dp) := Fs.rf.p E4.1 (Or.inl rfl)
            have D5 := D4.k (σ' := rdP (aC (rdP σ ra C (.ref lo) (bI g) fa tp (a + 3) dp) 4 (.inr (0, 4, .inl (fun _ => 0)))) ra C (.ref lo) (bI g) fa tp (a + 3 + 1) dp) (a' := a + 3 + 1) (fun b c hb h9 => gC_ne (fun y => by rw [y] at h9; exact h9 b2)) (Nat.le_refl _) (by omega)
            have w5 := S5.hw w3.aC
            have F05 : Fr (fun b => b = ra ∨ lo ≤ b) 1 4 σ (rdP (aC (rdP σ ra C (.ref lo) (bI g) fa tp (a + 3) dp) 4 (.inr (0, 4, .inl (fun _ => 0)))) ra C (.ref lo) (bI g) fa tp (a + 3 + 1) dp) := F04.n S5 (fun b z => Or.inr z)
            obtain ⟨hd5, ch5, nd5, cn5, sd5, cs5, hx5, mx5, dx5, sx5, xl5, xe5, ⟨r15, r25⟩, h1s5, -⟩ := id D5
            obtain ⟨⟨y1, y2, y3, y4⟩, y5, y6, y7⟩ := h1s5.2.2.2 h hh
            have fin := c_hd_fin (e := e + 1) (kd := 4) (nm := vWd (all.drop (a + 1))) (l5 := none) (P := P) hZ w5 hC E5 (by omega) (by omega) D5 y5 y6 y7 (fun r hr => hP r (StR.tr F05 hr (by omega) hn4 (by omega) (by omega)))
            have AL5 := h1s5.1.z (Z := fun _ => True) trivial trivial
            obtain ⟨mc5, dd5, hl5⟩ := AL5.ob
            have AL4 := h1s4.1.z (Z := fun _ => True) trivial trivial
            obtain ⟨mc4, dd4, hl4⟩ := AL4.ob
            have gt := fun P => c_get (zs := zs) (e := e + 3) (P := P) AL5 hh
            have hkk : qK q h = 0 ∨ qK q h = 1 ∨ qK q h = 2 ∨ qK q h = 3 ∨ qK q h = 4 := by omega
            unfold HandAt at y1
            rcases hkk with z | z | z | z | z <;> (rw [z] at y1; simp (disch := omega) only [ec_iload_n (i := 3) dX2_hand_61 rfl, ec_iconst (v := nI 4) dX2_hand_62 rfl, ec_icmp_ne (t := 95) dX2_hand_63 rfl, ec_aload_n (i := 0) dX2_hand_66 rfl, ec_get dX2_hand_67, gw_1_191_1, ec_get dX2_hand_70, gw_1_235_3, ec_aload_n (i := 0) dX2_hand_73 rfl, ec_aload_n (i := 0) dX2_hand_74 rfl, ec_get dX2_hand_75, ec_cv1 dX2_hand_78 iN_1_248 cna_1_248, vcE_o ccp_1_248_1, ET_0 (thrP_c (o := 1) dX2_hand_78 rfl), ec_cv1 dX2_hand_81 iN_1_252 cna_1_252, vcE_o ccp_1_252_36, ec_cast dX2_hand_84, ec_castN dX2_hand_84, kE_o kcc_1_256_12, kE_o kcc_1_256_13, kE_o kcc_1_256_14, kE_o kcc_1_256_15, kE_o kcc_1_256_16, ec_get dX2_hand_87, gw_1_258_12, gw_1_258_13, gw_1_258_14, gw_1_258_15, gw_1_258_16, ec_astore dX2_hand_90, ec_astoreN dX2_hand_90, ec_goto (t := 128) dX2_hand_92 rfl, cat1_i, cat1_r, cat1_u, catB_n, catB_i, catB_r, catB_l, catB_u, lg_0, lg_s, ldEI_i, ldEL_l, ldEA_r, ldEA_n, lin_0, lin_s, ls1_0, ls1_1, ls1_s, ls2_0, ls2_1, ls2_s, lcl_i, lcl_r, lcl_l, lcl_u, lcl_n, lent_i, lent_r, lent_l, lent_u, lent_0, lent_s, Option.toList_some, Option.toList_none, List.cons_append, List.nil_append, Nat.reduceAdd, true_and, vin_0, vin_s, aE_0, aE_s, EK_r, EK_t, List.set_cons_zero, List.set_cons_succ, va_rf_s, va_rf_n, pC_1, pC_21, aC_1, aC_21, gC_self, gC_new, eI_, eLg_, eV_, eInc_, eN_, eS_, eJ_, eCl_, nI_add, nI_mul, nI_subI, nI_clampI, inb_t, nI_lt0, nI_0le, nI_m1, nI_m1', nI_ofNat, bI_01, b01_0, b01_1, bI_eq0, bI_eq1, bb_01, true_or, or_true, false_or, or_false, eq_self, Nat.reduceAdd, Nat.reduceMul, Nat.reduceSub, Nat.reduceLT, Nat.reduceLeDiff, Nat.reduceEqDiff, ↓reduceIte, and_true, true_and, and_self, Nat.add_zero, Nat.zero_add, not_false_eq_true, not_true_eq_false, faV_n, faV_s, m1_lt0, m1_0le, m1_eq0, m1_le, le_m1, m1_lt, lt_m1, nI_100k, nI_100, upd_e, upd_n, pC_pC, gC_ne', gC_old', nI_lt_t, nI_lt_f, nI_le_t, nI_le_f, nI_eq_t, nI_eq_f, nI_eq0_t, nI_eq0_f, nI_0lt_t, nI_0lt_f, nI_le0_t, nI_le0_f, nI_eq1_t, nI_eq1_f, g4, r14, th, hx3, exE_ok, hl5, gt, y1]; exact fin)
        · unfold pMs at hP
          rw [if_neg hk4] at hP
          have tw := fun P => c_takeWord (e := e + 2) (P := P) (i := 20) w3.aC E4 hZ (by omega) (by omega)
          rw [show wdN 20 = 6941854 from rfl] at tw
          cases hx3 : pWd 6941854 (all.drop (a + 3)) with
          | error k =>
            rw [hx3] at hP
            have fin := hP _ (ErR.tr F04 (ErR.w (k := k) (S := fun b => b = ra ∨ lo ≤ b) w3.aC E4) (fun b z => Or.inr z) (by omega) (by omega))
            simp (disch := omega) only [ec_iload_n (i := 3) dX2_hand_61 rfl, ec_iconst (v := nI 4) dX2_hand_62 rfl, ec_icmp_ne (t := 95) dX2_hand_63 rfl, ec_aload_n (i := 0) dX2_hand_95 rfl, ec_ldcS dX2_hand_96 rfl scp_66, ec_cv1 dX2_hand_98 iN_1_216 cna_1_216, vcE_o ccp_1_216_1, ET_0 (thrP_c (o := 1) dX2_hand_98 rfl), cat1_i, cat1_r, cat1_u, catB_n, catB_i, catB_r, catB_l, catB_u, lg_0, lg_s, ldEI_i, ldEL_l, ldEA_r, ldEA_n, lin_0, lin_s, ls1_0, ls1_1, ls1_s, ls2_0, ls2_1, ls2_s, lcl_i, lcl_r, lcl_l, lcl_u, lcl_n, lent_i, lent_r, lent_l, lent_u, lent_0, lent_s, Option.toList_some, Option.toList_none, List.cons_append, List.nil_append, Nat.reduceAdd, true_and, vin_0, vin_s, aE_0, aE_s, EK_r, EK_t, List.set_cons_zero, List.set_cons_succ, va_rf_s, va_rf_n, pC_1, pC_21, aC_1, aC_21, gC_self, gC_new, eI_, eLg_, eV_, eInc_, eN_, eS_, eJ_, eCl_, nI_add, nI_mul, nI_subI, nI_clampI, inb_t, nI_lt0, nI_0le, nI_m1, nI_m1', nI_ofNat, bI_01, b01_0, b01_1, bI_eq0, bI_eq1, bb_01, true_or, or_true, false_or, or_false, eq_self, Nat.reduceAdd, Nat.reduceMul, Nat.reduceSub, Nat.reduceLT, Nat.reduceLeDiff, Nat.reduceEqDiff, ↓reduceIte, and_true, true_and, and_self, Nat.add_zero, Nat.zero_add, not_false_eq_true, not_true_eq_false, faV_n, faV_s, m1_lt0, m1_0le, m1_eq0, m1_le, le_m1, m1_lt, lt_m1, nI_100k, nI_100, upd_e, upd_n, pC_pC, gC_ne', gC_old', nI_lt_t, nI_lt_f, nI_le_t, nI_le_f, nI_eq_t, nI_eq_f, nI_eq0_t, nI_eq0_f, nI_0lt_t, nI_0lt_f, nI_le0_t, nI_le0_f, nI_eq1_t, nI_eq1_f, g4, tw, hx3, exE_er]
            exact fin
          | ok t =>
            obtain ⟨rfl, hn4⟩ := pWd_v hx3 E4
            rw [hx3] at hP
            have hP : ∀ r, StR zs all ra C tp lo σ a g (match pMk 4 (fun _ => 0) 0 (all.drop (a + 3 + 1)) with
              | .error k => .error k
              | .ok (m, t) => (match pWN 382984 0 3 t with
                | .error k => .error k
                | .ok (sl, t) => (match pWN 10998956 0 9 t with
                  | .error k => .error k
                  | .ok (tr, t) => .ok (qAH q (vWd (all.drop (a + 1))) kd m sl tr, t)))) r → P r := hP
            have E5 := E4.rp (dr' := .ref lo) (hg' := bI g) (fa' := fa) (tp' := tp) (dp' := dp) hn4
            have S5 : Fs (fun b => b = ra) (aC (rdP σ ra C (.ref lo) (bI g) fa tp (a + 3) dp) 4 (.inr (0, 4, .inl (fun _ => 0)))) (rdP (aC (rdP σ ra C (.ref lo) (bI g) fa tp (a + 3) dp) 4 (.inr (0, 4, .inl (fun _ => 0)))) ra C (.ref lo) (bI g) fa tp (a + 3 + 1) dp) := Fs.rf.p E4.1 rfl
            have hlo : lo ≤ σ.1 := by omega
            have fin := c_mk_lo (e := e + 2) (P := P) (nm := vWd (all.drop (a + 1))) (kd := kd) (σ3 := rdP σ ra C (.ref lo) (bI g) fa tp (a + 3) dp) w3 (show ra < σ.1 by omega) (fun k hk h6 => by have := hC k hk h6; show C k < σ.1; omega) 4 0 (fun _ => 0) (a + 3 + 1) (rdP (aC (rdP σ ra C (.ref lo) (bI g) fa tp (a + 3) dp) 4 (.inr (0, 4, .inl (fun _ => 0)))) ra C (.ref lo) (bI g) fa tp (a + 3 + 1) dp) (fun _ => 0) (by omega) (S5.hw w3.aC) E5 (F34.n S5 (fun b z => Or.inr z)) (by unfold rdP; rw [gC_ne (by rw [pC_1]; omega)]; exact gC_new) (fun j hj => absurd hj (Nat.not_lt_zero j)) (fun σ' a' k hk hw' hE' hF' => by
              rw [hk] at hP
              exact hP _ (ErR.tr (((S1 (a + 3)).fr hw).tn hF' (fun b z => Or.inr (Or.inl z))) (ErR.w (k := k) (S := fun b => b = ra ∨ lo ≤ b) hw' hE') (fun b z => Or.inr z) (by omega) (by omega))) (fun σ' m' F' hk hw' hE' hF' hg' hm' => by
              rw [hk] at hP
              have D' : DrO zs w lo ra σ' q (a + 3 + 1 + 4) := D3.k (fun b c hb h9 => hF'.2.2.1 b (w3 _ _ hb) (fun y => by have y : b = ra := y; rw [y] at h9; exact h9 b2)) hF'.1.1 (by omega)
              exact c_hd_fin (e := e + 1) (kd := kd) (nm := vWd (all.drop (a + 1))) (P := P) hZ hw' hC hE' (by omega) (by omega) D' ⟨F', hg', hm'⟩ (b1 _ (Nat.le_refl _)) hlo (fun r hr => hP r (StR.tr (((S1 (a + 3)).fr hw).tn hF' (fun b z => Or.inr (Or.inl z))) hr (by omega) hE'.2.2 (by omega) (by omega))))
            simp (disch := omega) only [ec_iload_n (i := 3) dX2_hand_61 rfl, ec_iconst (v := nI 4) dX2_hand_62 rfl, ec_icmp_ne (t := 95) dX2_hand_63 rfl, ec_aload_n (i := 0) dX2_hand_95 rfl, ec_ldcS dX2_hand_96 rfl scp_66, ec_cv1 dX2_hand_98 iN_1_216 cna_1_216, vcE_o ccp_1_216_1, ET_0 (thrP_c (o := 1) dX2_hand_98 rfl), ec_iconst (v := nI 0) dX2_hand_101 rfl, ec_istore dX2_hand_102, cat1_i, cat1_r, cat1_u, catB_n, catB_i, catB_r, catB_l, catB_u, lg_0, lg_s, ldEI_i, ldEL_l, ldEA_r, ldEA_n, lin_0, lin_s, ls1_0, ls1_1, ls1_s, ls2_0, ls2_1, ls2_s, lcl_i, lcl_r, lcl_l, lcl_u, lcl_n, lent_i, lent_r, lent_l, lent_u, lent_0, lent_s, Option.toList_some, Option.toList_none, List.cons_append, List.nil_append, Nat.reduceAdd, true_and, vin_0, vin_s, aE_0, aE_s, EK_r, EK_t, List.set_cons_zero, List.set_cons_succ, va_rf_s, va_rf_n, pC_1, pC_21, aC_1, aC_21, gC_self, gC_new, eI_, eLg_, eV_, eInc_, eN_, eS_, eJ_, eCl_, nI_add, nI_mul, nI_subI, nI_clampI, inb_t, nI_lt0, nI_0le, nI_m1, nI_m1', nI_ofNat, bI_01, b01_0, b01_1, bI_eq0, bI_eq1, bb_01, true_or, or_true, false_or, or_false, eq_self, Nat.reduceAdd, Nat.reduceMul, Nat.reduceSub, Nat.reduceLT, Nat.reduceLeDiff, Nat.reduceEqDiff, ↓reduceIte, and_true, true_and, and_self, Nat.add_zero, Nat.zero_add, not_false_eq_true, not_true_eq_false, faV_n, faV_s, m1_lt0, m1_0le, m1_eq0, m1_le, le_m1, m1_lt, lt_m1, nI_100k, nI_100, upd_e, upd_n, pC_pC, gC_ne', gC_old', nI_lt_t, nI_lt_f, nI_le_t, nI_le_f, nI_eq_t, nI_eq_f, nI_eq0_t, nI_eq0_f, nI_0lt_t, nI_0lt_f, nI_le0_t, nI_le0_f, nI_eq1_t, nI_eq1_f, g4, tw, hx3, exE_ok]
            exact fin
end
