set_option maxRecDepth 100000
/-! THE WHOLE COMPONENT: quarter -/
section
variable {zs : Nat → Nat} {e : Nat} {σ σ1 σ2 : CM} {P : CR → Prop} {x0 B : Nat} {G : Gh} {a : Ab} {q' : QT}
theorem ci_quarterO {w : Nat → Nat} {a' fa dp : Nat} {g : Bool} {all : List Tk} (hI : CI zs σ x0 G a) (hA : AOK B a) (hq : QOK q' ∧ TQ q') (hN : NNew σ σ1) (E2 : RdE zs σ2 (G.A 0) G.C all (.ref σ1.1) (bI g) fa (nI 0) a' dp) (F12 : Fr (CuS (G.A 0) G.C) (8 * a.T.1 + 19) (2100 * a.T.1 + 2144) σ1 σ2) (D : DrO zs w σ1.1 (G.A 0) σ2 q' a') (hP : ∀ σ', CO zs x0 σ G a ((q', fhS q', []), (0, a.u), a.mk, (0, a.T.2)) σ' → P (.inl (some (.int (nI 0))), σ')) : EK zs (Jc zs) (e + 42) cX1_quarter (some .int) 0 1 12 [some (.ref x0), none] [.ref σ.1, .ref x0] P (.inl (some (.ref σ1.1)), σ2) := by
  have hw := hI.hw
  have x2 := hI.x2
  obtain ⟨hQC, hFX, hl2⟩ := hI.beg hN F12 D
  obtain ⟨⟨-, t2, t3, t4, t5, t6, t7⟩, ⟨r1, -⟩, hn, -, ⟨hd0, hK, hC, h79, oA, oC⟩, ⟨⟨U1, U2, U3, U4⟩, ⟨U5, U6⟩, U7⟩, hm, ho, hz⟩ := id hI
  have N2 := hN.2.1
  have w2 := F12.2.2.2
  have F02 : Fr (CuS (G.A 0) G.C) (8 * a.T.1 + 30) (2100 * a.T.1 + 2221) σ σ2 := ((hN.1.sub (S' := CuS (G.A 0) G.C) (fun _ _ z => z.elim) (Nat.le_refl _) (Nat.le_refl _)).tr F12).sub (fun _ _ z => z) (by omega) (by omega)
  have tC : ∀ b, CuS (G.A 0) G.C b → G.ow b = 3 := fun b z => by
    rcases z with z | z | z | z
    · rw [z]; exact oA
    · rw [z]; exact oC 7 (by omega)
    · rw [z]; exact oC 8 (by omega)
    · rw [z]; exact oC 9 (by omega)
  have k02 : ∀ b c, gC σ b = some c → G.ow b ≠ 3 → gC σ2 b = some c := fun b c hb h3 => F02.g (hw _ _ hb) (fun z => h3 (tC b z)) hb
  have n0 : gC σ2 σ.1 = some (.inl (2, [.null, .int 0, .int 0, .ref (σ.1 + 1), .ref (σ.1 + 2), .ref (σ.1 + 3), .ref (σ.1 + 4), .ref (σ.1 + 10)])) := hFX.1
  simp (disch := omega) only [ec_cv1 dX1_quarter_15 iN_0_66 cna_0_66, vcE_o ccp_0_66_2, cat1_i, cat1_r, cat1_u, catB_n, catB_i, catB_r, catB_l, catB_u, lg_0, lg_s, ldEI_i, ldEL_l, ldEA_r, ldEA_n, lin_0, lin_s, ls1_0, ls1_1, ls1_s, ls2_0, ls2_1, ls2_s, lcl_i, lcl_r, lcl_l, lcl_u, lcl_n, lent_i, lent_r, lent_l, lent_u, lent_0, lent_s, Option.toList_some, Option.toList_none, List.cons_append, List.nil_append, Nat.reduceAdd, true_and, vin_0, vin_s, aE_0, aE_s, EK_r, EK_t, List.set_cons_zero, List.set_cons_succ, va_rf_s, va_rf_n, pC_1, pC_21, aC_1, aC_21, gC_self, gC_new, eI_, eLg_, eV_, eInc_, eN_, eS_, eJ_, eCl_, nI_add, nI_mul, nI_subI, nI_clampI, inb_t, nI_lt0, nI_0le, nI_m1, nI_m1', nI_ofNat, bI_01, b01_0, b01_1, bI_eq0, bI_eq1, bb_01, true_or, or_true, false_or, or_false, eq_self, Nat.reduceAdd, Nat.reduceMul, Nat.reduceSub, Nat.reduceLT, Nat.reduceLeDiff, Nat.reduceEqDiff, ↓reduceIte, and_true, true_and, and_self, Nat.add_zero, Nat.zero_add, not_false_eq_true, not_true_eq_false, faV_n, faV_s, m1_lt0, m1_0le, m1_eq0, m1_le, le_m1, m1_lt, lt_m1, nI_100k, nI_100, upd_e, upd_n, pC_pC, gC_ne', gC_old', nI_lt_t, nI_lt_f, nI_le_t, nI_le_f, nI_eq_t, nI_eq_f, nI_eq0_t, nI_eq0_f, nI_0lt_t, nI_0lt_f, nI_le0_t, nI_le0_f, nI_eq1_t, nI_eq1_f, n0]
  rw [N2] at *
  refine c_begins (e := e + 36) hq.1 hq.2 rfl hFX hQC w2 (fun σ3 ow3 L3 Bg => ?_)
  obtain ⟨eo3, F23, N3, -, -, -, hc1, hc2⟩ := Bg
  have w3 := F23.2.2.2
  have m23 := F23.1.1
  have rw_ : gC σ2 x0 = some (.inl (0, rtF G.n0 G.hl G.op G.al G.gg G.A)) := k02 _ _ r1 (by omega)
  have bS : ∀ b, b < σ.1 → ¬ BS (owQ G σ.1 σ2.1) G.w b := fun b hb z => by
    have := t2 b
    have z1 : G.w ≤ owQ G σ.1 σ2.1 b := z.1
    unfold owQ at z1
    rw [if_pos hb] at z1
    unfold mow at z1
    split at z1
    · omega
    · split at z1 <;> omega
  have k03 : ∀ b c, gC σ b = some c → G.ow b ≠ 3 → gC σ3 b = some c := fun b c hb h3 => F23.g (w2 _ _ (k02 b c hb h3)) (bS b (hw _ _ hb)) (k02 b c hb h3)
  have rt3 := k03 _ _ r1 (by omega)
  have rt3' := rt3
  unfold rtF at rt3'
  have xl := hw _ _ r1
  have xz : zs 101 ≠ x0 := fun z => by have := hz.2.2.2; rw [z, x2] at this; omega
  have S4 : Fs (fun b => b = x0) σ3 (pC σ3 x0 (.inl (0, rtF σ.1 G.hl G.op G.al G.gg G.A))) := Fs.rf.p rt3 rfl
  have w4 := S4.hw w3
  have z4 : gC (pC σ3 x0 (.inl (0, rtF σ.1 G.hl G.op G.al G.gg G.A))) (zs 101) = some (.inr (4, 0, .inr (.inr (.inr (.inr (fun _ => none)))))) := by rw [gC_ne xz]; exact k03 _ _ hz.2.2.1 (by rw [hz.2.2.2]; omega)
  simp (disch := omega) only [ec_put dX1_quarter_18, pw_0_0_70_0, pn_0_0_70_0, ec_aload_n (i := 0) dX1_quarter_21 rfl, ec_new dX1_quarter_22 ncp_0_74 cSz_36 cDf_36, ec_dup dX1_quarter_25, ec_ci0 dX1_quarter_26 iN_0_76 ccp_0_76_99, cat1_i, cat1_r, cat1_u, catB_n, catB_i, catB_r, catB_l, catB_u, lg_0, lg_s, ldEI_i, ldEL_l, ldEA_r, ldEA_n, lin_0, lin_s, ls1_0, ls1_1, ls1_s, ls2_0, ls2_1, ls2_s, lcl_i, lcl_r, lcl_l, lcl_u, lcl_n, lent_i, lent_r, lent_l, lent_u, lent_0, lent_s, Option.toList_some, Option.toList_none, List.cons_append, List.nil_append, Nat.reduceAdd, true_and, vin_0, vin_s, aE_0, aE_s, EK_r, EK_t, List.set_cons_zero, List.set_cons_succ, va_rf_s, va_rf_n, pC_1, pC_21, aC_1, aC_21, gC_self, gC_new, eI_, eLg_, eV_, eInc_, eN_, eS_, eJ_, eCl_, nI_add, nI_mul, nI_subI, nI_clampI, inb_t, nI_lt0, nI_0le, nI_m1, nI_m1', nI_ofNat, bI_01, b01_0, b01_1, bI_eq0, bI_eq1, bb_01, true_or, or_true, false_or, or_false, eq_self, Nat.reduceAdd, Nat.reduceMul, Nat.reduceSub, Nat.reduceLT, Nat.reduceLeDiff, Nat.reduceEqDiff, ↓reduceIte, and_true, true_and, and_self, Nat.add_zero, Nat.zero_add, not_false_eq_true, not_true_eq_false, faV_n, faV_s, m1_lt0, m1_0le, m1_eq0, m1_le, le_m1, m1_lt, lt_m1, nI_100k, nI_100, upd_e, upd_n, pC_pC, gC_ne', gC_old', nI_lt_t, nI_lt_f, nI_le_t, nI_le_f, nI_eq_t, nI_eq_f, nI_eq0_t, nI_eq0_f, nI_0lt_t, nI_0lt_f, nI_le0_t, nI_le0_f, nI_eq1_t, nI_eq1_f, rt3', pw_0_1_70_0]
  refine c_new0 (σ := pC σ3 x0 (.inl (0, rtF σ.1 G.hl G.op G.al G.gg G.A))) (e := e + 39) w4 z4 (fun σ5 F5 m5 A5 => ?_)
  have w5 := F5.2.2.2
  have s5 : σ5.1 = σ3.1 + 1 := m5
  have A5 : ALm σ5 σ3.1 (zs 101) 0 0 (fun _ => 0) := A5
  have rt5 : gC σ5 x0 = some (.inl (0, rtF σ.1 G.hl G.op G.al G.gg G.A)) := F5.g (by rw [pC_1]; omega) (fun z => z) gC_self
  have rt5' := rt5
  unfold rtF at rt5'
  have S6 : Fs (fun b => b = x0) σ5 (pC σ5 x0 (.inl (0, rtF σ.1 σ3.1 G.op G.al G.gg G.A))) := Fs.rf.p rt5 rfl
  have w6 := S6.hw w5
  have nx : ∀ b, G.ow b ≠ 2 → b ≠ x0 := fun b h z => by rw [z] at h; exact h x2
  have k36 : ∀ b, b < σ3.1 → b ≠ x0 → gC (pC σ5 x0 (.inl (0, rtF σ.1 σ3.1 G.op G.al G.gg G.A))) b = gC σ3 b := fun b hb hn => by
    rw [gC_ne hn, F5.2.2.1 b (by rw [pC_1]; exact hb) (fun z => z), gC_ne hn]
  have k06 : ∀ b c, gC σ b = some c → G.ow b ≠ 3 → G.ow b ≠ 2 → gC (pC σ5 x0 (.inl (0, rtF σ.1 σ3.1 G.op G.al G.gg G.A))) b = some c := fun b c hb h3 h2 => (k36 b (w3 _ _ (k03 b c hb h3)) (nx b h2)).trans (k03 b c hb h3)
  have d0t : G.ow G.d0 = 4 ∨ G.ow G.d0 = 0 := by
    by_cases hc : 0 < G.cap
    · exact Or.inl (U6 hc)
    · rw [U4 (by omega)]; exact Or.inr hz.2.2.2
  have U6' : ALm (pC σ5 x0 (.inl (0, rtF σ.1 σ3.1 G.op G.al G.gg G.A))) (G.A 1) G.d0 a.n G.cap G.x := by
    obtain ⟨mc, f, a1, a2, a3, a4, a5⟩ := U1
    exact ⟨mc, f, k06 _ _ a1 (by omega) (by omega), k06 _ _ a2 (by omega) (by omega), a3, fun i hi => ⟨(a4 i hi).1, Or.inl ⟨_, k06 _ _ (U7 i hi).1.1 (by rw [(U7 i hi).1.2.1]; omega) (by rw [(U7 i hi).1.2.1]; omega)⟩⟩, a5⟩
  obtain ⟨mc6, ff6, l6, -⟩ := id U6'
  unfold rtF at l6
  simp (disch := omega) only [ec_put dX1_quarter_29, pw_0_0_77_0, pn_0_0_77_0, ec_aload_n (i := 0) dX1_quarter_32 rfl, ec_get dX1_quarter_33, gw_0_81_0, ec_cv0 dX1_quarter_36 iN_0_135 cna_0_135, vcE_o ccp_0_135_36, cat1_i, cat1_r, cat1_u, catB_n, catB_i, catB_r, catB_l, catB_u, lg_0, lg_s, ldEI_i, ldEL_l, ldEA_r, ldEA_n, lin_0, lin_s, ls1_0, ls1_1, ls1_s, ls2_0, ls2_1, ls2_s, lcl_i, lcl_r, lcl_l, lcl_u, lcl_n, lent_i, lent_r, lent_l, lent_u, lent_0, lent_s, Option.toList_some, Option.toList_none, List.cons_append, List.nil_append, Nat.reduceAdd, true_and, vin_0, vin_s, aE_0, aE_s, EK_r, EK_t, List.set_cons_zero, List.set_cons_succ, va_rf_s, va_rf_n, pC_1, pC_21, aC_1, aC_21, gC_self, gC_new, eI_, eLg_, eV_, eInc_, eN_, eS_, eJ_, eCl_, nI_add, nI_mul, nI_subI, nI_clampI, inb_t, nI_lt0, nI_0le, nI_m1, nI_m1', nI_ofNat, bI_01, b01_0, b01_1, bI_eq0, bI_eq1, bb_01, true_or, or_true, false_or, or_false, eq_self, Nat.reduceAdd, Nat.reduceMul, Nat.reduceSub, Nat.reduceLT, Nat.reduceLeDiff, Nat.reduceEqDiff, ↓reduceIte, and_true, true_and, and_self, Nat.add_zero, Nat.zero_add, not_false_eq_true, not_true_eq_false, faV_n, faV_s, m1_lt0, m1_0le, m1_eq0, m1_le, le_m1, m1_lt, lt_m1, nI_100k, nI_100, upd_e, upd_n, pC_pC, gC_ne', gC_old', nI_lt_t, nI_lt_f, nI_le_t, nI_le_f, nI_eq_t, nI_eq_f, nI_eq0_t, nI_eq0_f, nI_0lt_t, nI_0lt_f, nI_le0_t, nI_le0_f, nI_eq1_t, nI_eq1_f, rt5', pw_0_1_77_0, l6]
  refine c_clear U6' (by omega) (fun σ7 x7 S7 A7 => ?_)
  have w7 := S7.hw w6
  have s7 : σ7.1 = σ3.1 + 1 := S7.1.trans s5
  have hcap : 0 < a.n → 0 < G.cap := fun h => by obtain ⟨mc, f, -, -, l, -⟩ := id U1; omega
  have t4' : ∀ b, (b = G.A 1 ∨ (b = G.d0 ∧ 0 < a.n)) → G.ow b = 4 := fun b hb => by
    rcases hb with z | z
    · rw [z]; exact U5
    · rw [z.1]; exact U6 (hcap z.2)
  have k67 : ∀ b, G.ow b ≠ 4 → gC σ7 b = gC (pC σ5 x0 (.inl (0, rtF σ.1 σ3.1 G.op G.al G.gg G.A))) b := fun b h4 => S7.2.2.1 b (fun z => h4 (t4' b z))
  have k27 : ∀ b c, gC σ2 b = some c → b < σ.1 → G.ow b ≠ 2 → G.ow b ≠ 4 → gC σ7 b = some c := fun b c hb hl h2 h4 => by
    rw [k67 b h4, k36 b (by omega) (nx b h2)]
    exact F23.g (by omega) (bS b hl) hb
  -- all that changes
  have F3 : Fr (fun b => CuS (G.A 0) G.C b ∨ b = x0 ∨ b = G.A 1 ∨ (b = G.d0 ∧ 0 < a.n)) (8 * a.T.1 + 46) (2100 * a.T.1 + 2469) σ σ7 := by
    have f0 := (F02.sub (S' := fun b => CuS (G.A 0) G.C b ∨ b = x0 ∨ b = G.A 1 ∨ (b = G.d0 ∧ 0 < a.n)) (fun _ _ z => Or.inl z) (Nat.le_refl _) (Nat.le_refl _))
    have f1 := f0.tn F23 (fun b z => by
      by_cases hb : b < σ.1
      · exact absurd z (bS b hb)
      · exact Or.inl (by omega))
    have f2 := f1.n S4 (fun b z => Or.inr (Or.inr (Or.inl z)))
    have f3 := f2.tn F5 (fun b z => z.elim)
    have f4 := f3.n S6 (fun b z => Or.inr (Or.inr (Or.inl z)))
    have f5 := f4.n S7 (fun b z => Or.inr (Or.inr (Or.inr z)))
    exact f5.sub (fun _ _ z => z) (by omega) (by omega)
  have tS : ∀ b, b < σ.1 → (CuS (G.A 0) G.C b ∨ b = x0 ∨ b = G.A 1 ∨ (b = G.d0 ∧ 0 < a.n)) → G.ow b = 2 ∨ G.ow b = 3 ∨ G.ow b = 4 := fun b _ hs => by
    rcases hs with z | z | z
    · exact Or.inr (Or.inl (tC b z))
    · rw [z]; exact Or.inl x2
    · exact Or.inr (Or.inr (t4' b z))
  -- its tags
  let o7 : Nat → Nat := fun b => if b < σ2.1 then owQ G σ.1 σ2.1 b else if b < σ3.1 then (if G.w ≤ ow3 b ∧ ow3 b ≤ G.w + 30 then ow3 b else 39) else if b < σ7.1 then 0 else 39
  have o2 : ∀ b, b < σ2.1 → o7 b = owQ G σ.1 σ2.1 b := fun b hb => if_pos hb
  have oo : ∀ b, b < σ.1 → o7 b = mow G.ow (σ.1 + 21) b := fun b hb => (o2 b (by omega)).trans (if_pos hb)
  have o3 : ∀ b, b < σ3.1 → G.w ≤ ow3 b → ow3 b ≤ G.w + 30 → o7 b = ow3 b := fun b hb h1 h2 => by
    by_cases h : b < σ2.1
    · rw [o2 b h, eo3 b h]
    · show (if b < σ2.1 then owQ G σ.1 σ2.1 b else if b < σ3.1 then (if G.w ≤ ow3 b ∧ ow3 b ≤ G.w + 30 then ow3 b else 39) else if b < σ7.1 then 0 else 39) = ow3 b
      rw [if_neg h, if_pos hb, if_pos ⟨h1, h2⟩]
  have oz : o7 σ3.1 = 0 := by
    show (if σ3.1 < σ2.1 then owQ G σ.1 σ2.1 σ3.1 else if σ3.1 < σ3.1 then (if G.w ≤ ow3 σ3.1 ∧ ow3 σ3.1 ≤ G.w + 30 then ow3 σ3.1 else 39) else if σ3.1 < σ7.1 then 0 else 39) = 0
    rw [if_neg (by omega), if_neg (by omega), if_pos (by omega)]
  have on : ∀ b, σ.1 ≤ b → (o7 b < G.w + 31 ∧ (o7 b = 1 → b = σ.1 + 21)) ∧ (σ7.1 ≤ b → o7 b = 39) := fun b hb => by
    show ((if b < σ2.1 then owQ G σ.1 σ2.1 b else if b < σ3.1 then (if G.w ≤ ow3 b ∧ ow3 b ≤ G.w + 30 then ow3 b else 39) else if b < σ7.1 then 0 else 39) < G.w + 31 ∧ ((if b < σ2.1 then owQ G σ.1 σ2.1 b else if b < σ3.1 then (if G.w ≤ ow3 b ∧ ow3 b ≤ G.w + 30 then ow3 b else 39) else if b < σ7.1 then 0 else 39) = 1 → b = σ.1 + 21)) ∧ (σ7.1 ≤ b → (if b < σ2.1 then owQ G σ.1 σ2.1 b else if b < σ3.1 then (if G.w ≤ ow3 b ∧ ow3 b ≤ G.w + 30 then ow3 b else 39) else if b < σ7.1 then 0 else 39) = 39)
    by_cases h2 : b < σ2.1
    · rw [if_pos h2]
      unfold owQ
      rw [if_neg (by omega)]
      by_cases h3 : b < σ.1 + 11
      · rw [if_pos h3]; omega
      · rw [if_neg h3]
        by_cases h4 : b = σ.1 + 21
        · rw [if_pos h4]; omega
        · rw [if_neg h4, if_pos h2]; omega
    · rw [if_neg h2]
      by_cases h3 : b < σ3.1
      · rw [if_pos h3]
        split <;> omega
      · rw [if_neg h3]
        split <;> omega
  have flt := hw _ _ hd0.1
  have N7 : NightAt o7 G.w (tlK G.w q') σ7 σ.1 (σ.1 + 11) (σ.1 + 21) q' (fhS q') L3 := by
    have hq7 : qD q' ≤ 5 := hq.1.1.2.1
    have q7 : QC o7 σ3 (σ.1 + 11) (σ.1 + 21) q' := (hQC.own w2 o2).fr w2 F23 (fun b hb hs => by
      rw [o2 b hb]
      have := hs.1
      omega)
    have tk : ∀ d, d < qD q' → G.w ≤ tlK G.w q' d ∧ tlK G.w q' d ≤ G.w + 30 := fun d hd => by
      have := (hq.1.2.2.2.1 d hd).1
      unfold tlK
      omega
    have na : NightAt o7 G.w (tlK G.w q') σ3 σ.1 (σ.1 + 11) (σ.1 + 21) q' (fhS q') L3 := ⟨N3.1, q7, N3.2.2.1, N3.2.2.2.1, fun b h1 h2 => by
      rw [o3 b (by omega) (by rw [N3.2.2.2.2.1 b h1 h2]; omega) (by rw [N3.2.2.2.2.1 b h1 h2]; omega)]
      exact N3.2.2.2.2.1 b h1 h2, fun d hd b hb => by
      have hbl := (N3.2.2.1 d hd).1.ltT w3 hb
      have e1 := N3.2.2.2.2.2 d hd b hb
      have := tk d hd
      rw [o3 b hbl (by omega) (by omega)]
      exact e1⟩
    have f37 : Fr (fun b => b = x0 ∨ b = G.A 1 ∨ (b = G.d0 ∧ 0 < a.n)) 1 3 σ3 σ7 := (((((S4.fr w3).sub (S' := fun b => b = x0 ∨ b = G.A 1 ∨ (b = G.d0 ∧ 0 < a.n)) (fun _ _ z => Or.inl z) (Nat.le_refl _) (Nat.le_refl _)).tn F5 (fun b z => z.elim)).n S6 (fun b z => Or.inr (Or.inl z))).n S7 (fun b z => Or.inr (Or.inr z))).sub (fun _ _ z => z) (by omega) (by omega)
    refine na.fr w3 f37 (fun b hb hs => ?_)
    have hbl : b < σ.1 := by
      by_cases h : b < σ.1
      · exact h
      · have h9 := t4 b (by omega)
        rcases hs with z | z
        · rw [z] at h9; omega
        · have := t4' b z; omega
    rw [oo b hbl]
    have hm4 := tS b hbl (Or.inr hs)
    rw [mow_k (Or.inr (t4 _ (by omega))) (by omega) (by omega)]
    exact ⟨by omega, by omega, by omega, fun d hd => by have := tk d hd; omega⟩
  have g6 : ∃ F6, gC σ2 (G.C 6) = some (.inr (0, 1000, .inl F6)) := by
    obtain ⟨h0, F6, h6, -⟩ := hd0
    obtain ⟨F7, V, G9, ⟨g7, g8, g9⟩, -⟩ := hC
    refine ⟨F6, F02.g (hw _ _ h6) (fun z => ?_) h6⟩
    rcases z with z | z | z | z
    · rw [z, h0] at h6; cases h6
    · rw [z, g7] at h6; cases h6
    · rw [z, g8] at h6; cases h6
    · rw [z, g9] at h6; cases h6
  obtain ⟨F6, g6⟩ := g6
  have lC : ∀ k, k < 10 → G.C k < σ.1 := fun k hk => by
    by_cases h : G.C k < σ.1
    · exact h
    · have := t4 _ (Nat.le_of_not_lt h); rw [oC k hk] at this; omega
  have kC : ∀ k, k < 10 → ∀ c, gC σ2 (G.C k) = some c → gC σ7 (G.C k) = some c := fun k hk c h => k27 _ _ h (lC k hk) (by rw [oC k hk]; omega) (by rw [oC k hk]; omega)
  obtain ⟨-, ⟨⟨FF, q7, -⟩, ⟨VV, q8, -⟩, ⟨GG, q9, -⟩⟩, hK2⟩ := id E2.2.1
  have hK2 : RdK zs σ2 G.C := hK2
  have fin := hP σ7 (hI.nq (f := σ.1 + 21) (ow' := o7) (w := G.w + 31) (t := G.w) (tl := tlK G.w q') (x := x7) (fa := fa) (pt := a') (dp := dp) (dr := .ref σ1.1) (hg := bI g) (T := (0, a.T.2)) (Li := []) (hl := σ3.1) (Or.inr (t4 _ (by omega))) (fun fs z => by have := hw _ _ z; omega) F3 tS oo (fun b hb => (on b hb).1.1) (fun b hb => (on b hb).1.2) (fun b hb => (on b (by omega)).2 hb) (by omega) ⟨Nat.le_refl _, fun d _ => by unfold tlK; omega⟩ N7 ?_ ?_ ⟨⟨k27 _ _ E2.1 flt (by omega) (by omega), F6, kC 6 (by omega) _ g6, fun j hj => absurd hj (Nat.not_lt_zero j)⟩, hK2.k (fun k hk => ?_), ⟨FF, VV, GG, ⟨kC 7 (by omega) _ q7, kC 8 (by omega) _ q8, kC 9 (by omega) _ q9⟩, fun i hi => absurd hi (Nat.not_lt_zero i)⟩⟩ A7 (by show 8 * a.T.1 + 46 + 8 * 0 ≤ _; omega) (by show 2100 * a.T.1 + 2469 + 2100 * 0 ≤ _; omega))
  · simp (disch := omega) only [ec_cv0 dX1_quarter_36 iN_0_135 cna_0_135, vcE_o ccp_0_135_36, ec_iconst (v := nI 0) dX1_quarter_39 rfl, ec_iret dX1_quarter_40, ec_zret dX1_quarter_40, cat1_i, cat1_r, cat1_u, catB_n, catB_i, catB_r, catB_l, catB_u, lg_0, lg_s, ldEI_i, ldEL_l, ldEA_r, ldEA_n, lin_0, lin_s, ls1_0, ls1_1, ls1_s, ls2_0, ls2_1, ls2_s, lcl_i, lcl_r, lcl_l, lcl_u, lcl_n, lent_i, lent_r, lent_l, lent_u, lent_0, lent_s, Option.toList_some, Option.toList_none, List.cons_append, List.nil_append, Nat.reduceAdd, true_and, vin_0, vin_s, aE_0, aE_s, EK_r, EK_t, List.set_cons_zero, List.set_cons_succ, va_rf_s, va_rf_n, pC_1, pC_21, aC_1, aC_21, gC_self, gC_new, eI_, eLg_, eV_, eInc_, eN_, eS_, eJ_, eCl_, nI_add, nI_mul, nI_subI, nI_clampI, inb_t, nI_lt0, nI_0le, nI_m1, nI_m1', nI_ofNat, bI_01, b01_0, b01_1, bI_eq0, bI_eq1, bb_01, true_or, or_true, false_or, or_false, eq_self, Nat.reduceAdd, Nat.reduceMul, Nat.reduceSub, Nat.reduceLT, Nat.reduceLeDiff, Nat.reduceEqDiff, ↓reduceIte, and_true, true_and, and_self, Nat.add_zero, Nat.zero_add, not_false_eq_true, not_true_eq_false, faV_n, faV_s, m1_lt0, m1_0le, m1_eq0, m1_le, le_m1, m1_lt, lt_m1, nI_100k, nI_100, upd_e, upd_n, pC_pC, gC_ne', gC_old', nI_lt_t, nI_lt_f, nI_le_t, nI_le_f, nI_eq_t, nI_eq_f, nI_eq0_t, nI_eq0_f, nI_0lt_t, nI_0lt_f, nI_le0_t, nI_le0_f, nI_eq1_t, nI_eq1_f]
    exact fin
  · rw [k67 x0 (by omega)]
    exact gC_self
  · obtain ⟨mc, f5, a1, a2, a3, -⟩ := A5
    have lz : zs 101 < σ.1 := hw _ _ hz.2.2.1
    refine ⟨fun _ => 0, ⟨mc, zs 101, 0, f5, ?_, ?_, ⟨Nat.le_refl _, by omega⟩, fun i hi => absurd hi (Nat.not_lt_zero i), oz, ?_⟩, fun i hi => absurd hi (Nat.not_lt_zero i)⟩
    · rw [k67 σ3.1 (by rw [t4 _ (by omega)]; omega), gC_ne (by omega)]
      exact a1
    · rw [k67 (zs 101) (by rw [hz.2.2.2]; omega), gC_ne xz]
      exact a2
    · show o7 (zs 101) = 0
      rw [oo _ lz, mow_k (Or.inr (t4 _ (by omega))) (by rw [hz.2.2.2]; omega) (by rw [hz.2.2.2]; omega)]
      exact hz.2.2.2
  · obtain ⟨mm, ff, ha⟩ := hK2.ar k hk
    rw [kC k (by omega) _ ha, ha]
end
