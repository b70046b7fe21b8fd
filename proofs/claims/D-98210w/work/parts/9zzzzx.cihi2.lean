set_option maxRecDepth 100000
/-! THE WHOLE COMPONENT: history -/
section
variable {zs ow' : Nat → Nat} {e : Nat} {σ σ' : CM} {P : CR → Prop} {x0 B c m : Nat} {G : Gh} {a : Ab}
theorem ci_history (hZ : ZS zs) (hI : CI zs σ x0 G a) (hA : AOK B a) (hk : ∀ L', pHis a.q (tls a.T.2 a.T.1 0).length [] (tls a.T.2 a.T.1 0) = .ok L' → ∀ σ', CO zs x0 σ G a ((a.q, a.s, L'), (a.n, a.u), a.mk, (0, a.T.2)) σ' → P (.inl (some (.int (nI 0))), σ')) (he : ∀ k, pHis a.q (tls a.T.2 a.T.1 0).length [] (tls a.T.2 a.T.1 0) = .error k → ∀ σ', CO zs x0 σ G a ((a.q, a.s, a.Li), (a.n, a.u), a.mk, (0, a.T.2)) σ' → P (.inl (some (.int (nI k))), σ')) : EC zs (Jc zs) (e + 7) cX1_history (some .int) 0 2 0 [some (.ref x0), none] [] σ P := by
  have hw := hI.hw
  have x2 := hI.x2
  have f1 := hI.fx1
  have rt := hI.rt
  have rt' := rt
  unfold rtF at rt'
  have nw := fun P e => c_now (zs := zs) (e := e) (P := P) rt hI.2.2.1.1.1
  obtain ⟨-, -, -, hh, ⟨hd0, hK, hC, h79, oA, oC⟩, -⟩ := id hI
  have h0 := hd0.1
  obtain ⟨-, F6, h6, -⟩ := id hd0
  obtain ⟨F7, V, G9, ⟨g7, g8, g9⟩, -⟩ := id hC
  have nx : ¬ CuS (G.A 0) G.C x0 := fun z => by
    rcases z with z | z | z | z
    · rw [z, oA] at x2; omega
    · rw [z, oC 7 (by omega)] at x2; omega
    · rw [z, oC 8 (by omega)] at x2; omega
    · rw [z, oC 9 (by omega)] at x2; omega
  have xl := hw _ _ rt
  simp (disch := omega) only [ec_aload_n (i := 0) dX1_history_0 rfl, ec_aload_n (i := 0) dX1_history_1 rfl, ec_get dX1_history_2, gw_0_56_0, ec_aload_n (i := 0) dX1_history_5 rfl, ec_cv0 dX1_history_6 iN_0_143 cna_0_143, vcE_o ccp_0_143_0, ec_cv1 dX1_history_9 iN_0_146 cna_0_146, vcE_o ccp_0_146_1, ET_0 (thrP_c (o := 0) dX1_history_9 rfl), cat1_i, cat1_r, cat1_u, catB_n, catB_i, catB_r, catB_l, catB_u, lg_0, lg_s, ldEI_i, ldEL_l, ldEA_r, ldEA_n, lin_0, lin_s, ls1_0, ls1_1, ls1_s, ls2_0, ls2_1, ls2_s, lcl_i, lcl_r, lcl_l, lcl_u, lcl_n, lent_i, lent_r, lent_l, lent_u, lent_0, lent_s, Option.toList_some, Option.toList_none, List.cons_append, List.nil_append, Nat.reduceAdd, true_and, vin_0, vin_s, aE_0, aE_s, EK_r, EK_t, List.set_cons_zero, List.set_cons_succ, va_rf_s, va_rf_n, pC_1, pC_21, aC_1, aC_21, gC_self, gC_new, eI_, eLg_, eV_, eInc_, eN_, eS_, eJ_, eCl_, nI_add, nI_mul, nI_subI, nI_clampI, inb_t, nI_lt0, nI_0le, nI_m1, nI_m1', nI_ofNat, bI_01, b01_0, b01_1, bI_eq0, bI_eq1, bb_01, true_or, or_true, false_or, or_false, eq_self, Nat.reduceAdd, Nat.reduceMul, Nat.reduceSub, Nat.reduceLT, Nat.reduceLeDiff, Nat.reduceEqDiff, ↓reduceIte, and_true, true_and, and_self, Nat.add_zero, Nat.zero_add, not_false_eq_true, not_true_eq_false, faV_n, faV_s, m1_lt0, m1_0le, m1_eq0, m1_le, le_m1, m1_lt, lt_m1, nI_100k, nI_100, upd_e, upd_n, pC_pC, gC_ne', gC_old', nI_lt_t, nI_lt_f, nI_le_t, nI_le_f, nI_eq_t, nI_eq_f, nI_eq0_t, nI_eq0_f, nI_0lt_t, nI_0lt_f, nI_le0_t, nI_le0_f, nI_eq1_t, nI_eq1_f, rt', nw, h0]
  refine c_rhistory (e := e) (q := a.q) hZ hw hA.2.2.2.1 hd0 hK hC h79 (hI.nm hA) (fun r hr => ?_)
  cases hx : pHis a.q (tls a.T.2 a.T.1 0).length [] (tls a.T.2 a.T.1 0) with
  | error k =>
    rw [hx] at hr
    obtain ⟨x, σ', rfl, gx, hCO⟩ := hI.rdE hr.1 hr.2 (by omega) (by omega)
    have fin := he k hx σ' hCO
    have gx' := gx
    unfold exF at gx'
    rw [EK_t, ET_2 (thrP_c (o := 0) dX1_history_9 rfl) (by omega) gx]
    simp (disch := omega) only [ec_astore_n (i := 1) dX1_history_17 rfl, ec_astore_nN (i := 1) dX1_history_17 rfl, ec_aload_n (i := 1) dX1_history_18 rfl, ec_get dX1_history_19, gw_0_140_35, ec_iret dX1_history_22, ec_zret dX1_history_22, cat1_i, cat1_r, cat1_u, catB_n, catB_i, catB_r, catB_l, catB_u, lg_0, lg_s, ldEI_i, ldEL_l, ldEA_r, ldEA_n, lin_0, lin_s, ls1_0, ls1_1, ls1_s, ls2_0, ls2_1, ls2_s, lcl_i, lcl_r, lcl_l, lcl_u, lcl_n, lent_i, lent_r, lent_l, lent_u, lent_0, lent_s, Option.toList_some, Option.toList_none, List.cons_append, List.nil_append, Nat.reduceAdd, true_and, vin_0, vin_s, aE_0, aE_s, EK_r, EK_t, List.set_cons_zero, List.set_cons_succ, va_rf_s, va_rf_n, pC_1, pC_21, aC_1, aC_21, gC_self, gC_new, eI_, eLg_, eV_, eInc_, eN_, eS_, eJ_, eCl_, nI_add, nI_mul, nI_subI, nI_clampI, inb_t, nI_lt0, nI_0le, nI_m1, nI_m1', nI_ofNat, bI_01, b01_0, b01_1, bI_eq0, bI_eq1, bb_01, true_or, or_true, false_or, or_false, eq_self, Nat.reduceAdd, Nat.reduceMul, Nat.reduceSub, Nat.reduceLT, Nat.reduceLeDiff, Nat.reduceEqDiff, ↓reduceIte, and_true, true_and, and_self, Nat.add_zero, Nat.zero_add, not_false_eq_true, not_true_eq_false, faV_n, faV_s, m1_lt0, m1_0le, m1_eq0, m1_le, le_m1, m1_lt, lt_m1, nI_100k, nI_100, upd_e, upd_n, pC_pC, gC_ne', gC_old', nI_lt_t, nI_lt_f, nI_le_t, nI_le_f, nI_eq_t, nI_eq_f, nI_eq0_t, nI_eq0_f, nI_0lt_t, nI_0lt_f, nI_le0_t, nI_le0_f, nI_eq1_t, nI_eq1_f, gx']
    exact fin
  | ok L' =>
    rw [hx] at hr
    obtain ⟨a', σ', da, cap, x, rfl, E', F, H⟩ := hr
    have rt2 : gC σ' x0 = some (.inl (0, rtF G.n0 G.hl G.op G.al G.gg G.A)) := F.g xl nx rt
    have rt2' := rt2
    unfold rtF at rt2'
    have w' := F.2.2.2
    have S3 : Fs (fun b => b = x0) σ' (pC σ' x0 (.inl (0, rtF G.n0 σ.1 G.op G.al G.gg G.A))) := Fs.rf.p rt2 rfl
    have F3 : Fr (fun b => CuS (G.A 0) G.C b ∨ b = x0) (8 * a.T.1 + 19) (2100 * a.T.1 + 2144) σ (pC σ' x0 (.inl (0, rtF G.n0 σ.1 G.op G.al G.gg G.A))) := (F.sub (fun _ _ z => Or.inl z) (Nat.le_refl _) (Nat.le_refl _)).n S3 (fun b z => Or.inr (Or.inr z))
    have kp : ∀ b, b ≠ x0 → gC (pC σ' x0 (.inl (0, rtF G.n0 σ.1 G.op G.al G.gg G.A))) b = gC σ' b := fun b hb => gC_ne hb
    obtain ⟨-, ⟨⟨FF, q7, -⟩, ⟨VV, q8, -⟩, ⟨GG, q9, -⟩⟩, hK'⟩ := id E'.2.1
    have xr : x0 ≠ G.A 0 := fun z => by rw [z, oA] at x2; omega
    have xc : ∀ k, k < 10 → G.C k ≠ x0 := fun k hk z => by rw [← z, oC k hk] at x2; omega
    have g6 : gC σ' (G.C 6) = some (.inr (0, 1000, .inl F6)) := by
      refine F.g (hw _ _ h6) (fun z => ?_) h6
      rcases z with z | z | z | z
      · rw [z, h0] at h6; cases h6
      · rw [z, g7] at h6; cases h6
      · rw [z, g8] at h6; cases h6
      · rw [z, g9] at h6; cases h6
    have fin := hk L' hx _ (hI.rd (ow' := fun b => if b < σ.1 then G.ow b else if b < σ'.1 then 0 else 39) (hl := σ.1) (Li := L') (T := (0, a.T.2)) (pt := a') F3 gC_self ⟨⟨by rw [kp _ (Ne.symm xr)]; exact E'.1, _, by rw [kp _ (xc 6 (by omega))]; exact g6, fun j hj => absurd hj (Nat.not_lt_zero j)⟩, RdK.k hK' (fun k hk => kp _ (xc k (by omega))), ⟨FF, VV, GG, ⟨by rw [kp _ (xc 7 (by omega))]; exact q7, by rw [kp _ (xc 8 (by omega))]; exact q8, by rw [kp _ (xc 9 (by omega))]; exact q9⟩, fun i hi => absurd hi (Nat.not_lt_zero i)⟩⟩ (fun b hb => if_pos hb) (fun b hb => by
        show (if b < σ.1 then G.ow b else if b < σ'.1 then 0 else 39) = 0 ∨ (if b < σ.1 then G.ow b else if b < σ'.1 then 0 else 39) = 39
        rw [if_neg (by omega)]
        split
        · exact Or.inl rfl
        · exact Or.inr rfl) (fun b hb => by
        have hb : σ'.1 ≤ b := hb
        show (if b < σ.1 then G.ow b else if b < σ'.1 then 0 else 39) = 39
        have := F.1.1
        rw [if_neg (by omega), if_neg (by omega)]) (by
        obtain ⟨⟨mc, ff, A1, A2, ⟨A3, A3'⟩, A4, A5⟩, ⟨B1, B2, B3⟩, H4⟩ := H
        have tz : ∀ b, σ.1 ≤ b → b < σ'.1 → (if b < σ.1 then G.ow b else if b < σ'.1 then 0 else 39) = 0 := fun b h1 h2 => by rw [if_neg (by omega), if_pos h2]
        have nb : ∀ b, σ.1 ≤ b → b ≠ x0 := fun b hb => by omega
        exact ⟨x, ⟨mc, da, cap, ff, (kp _ (nb _ (Nat.le_refl _))).trans A1, (kp _ (nb _ B1)).trans A2, ⟨A3, by omega⟩, fun i hi => (A4 i hi).1, tz _ (Nat.le_refl _) (w' _ _ A1), tz _ B1 (w' _ _ A2)⟩, fun i hi => ⟨(kp _ (nb _ (H4 i hi).2)).trans (H4 i hi).1, tz _ (H4 i hi).2 (w' _ _ (H4 i hi).1)⟩⟩) (by show 8 * a.T.1 + 19 + 8 * 0 ≤ _; omega) (by show 2100 * a.T.1 + 2144 + 2100 * 0 ≤ _; omega))
    have p2 := fun (x : Nat) (a : Nat) (σ : CM) (fs : List Value) (K : CM → Prop) => pw_0_2_77_0 (x := x) (a := a) (σ := σ) (fs := fs) (K := K)
    simp (disch := omega) only [ec_cv1 dX1_history_9 iN_0_146 cna_0_146, vcE_o ccp_0_146_1, ET_0 (thrP_c (o := 0) dX1_history_9 rfl), ec_put dX1_history_12, pw_0_0_77_0, pn_0_0_77_0, ec_iconst (v := nI 0) dX1_history_15 rfl, ec_iret dX1_history_16, ec_zret dX1_history_16, cat1_i, cat1_r, cat1_u, catB_n, catB_i, catB_r, catB_l, catB_u, lg_0, lg_s, ldEI_i, ldEL_l, ldEA_r, ldEA_n, lin_0, lin_s, ls1_0, ls1_1, ls1_s, ls2_0, ls2_1, ls2_s, lcl_i, lcl_r, lcl_l, lcl_u, lcl_n, lent_i, lent_r, lent_l, lent_u, lent_0, lent_s, Option.toList_some, Option.toList_none, List.cons_append, List.nil_append, Nat.reduceAdd, true_and, vin_0, vin_s, aE_0, aE_s, EK_r, EK_t, List.set_cons_zero, List.set_cons_succ, va_rf_s, va_rf_n, pC_1, pC_21, aC_1, aC_21, gC_self, gC_new, eI_, eLg_, eV_, eInc_, eN_, eS_, eJ_, eCl_, nI_add, nI_mul, nI_subI, nI_clampI, inb_t, nI_lt0, nI_0le, nI_m1, nI_m1', nI_ofNat, bI_01, b01_0, b01_1, bI_eq0, bI_eq1, bb_01, true_or, or_true, false_or, or_false, eq_self, Nat.reduceAdd, Nat.reduceMul, Nat.reduceSub, Nat.reduceLT, Nat.reduceLeDiff, Nat.reduceEqDiff, ↓reduceIte, and_true, true_and, and_self, Nat.add_zero, Nat.zero_add, not_false_eq_true, not_true_eq_false, faV_n, faV_s, m1_lt0, m1_0le, m1_eq0, m1_le, le_m1, m1_lt, lt_m1, nI_100k, nI_100, upd_e, upd_n, pC_pC, gC_ne', gC_old', nI_lt_t, nI_lt_f, nI_le_t, nI_le_f, nI_eq_t, nI_eq_f, nI_eq0_t, nI_eq0_f, nI_0lt_t, nI_0lt_f, nI_le0_t, nI_le0_f, nI_eq1_t, nI_eq1_f, rt2', p2]
    exact fin
end
