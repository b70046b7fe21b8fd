set_option maxRecDepth 100000
/-- doors that have learnt nothing -/
def fhS (q : QT) : Nat → Nat := fun j => if j < 80 * qD q ∧ j % 80 = 0 then qNr q (j / 80) else 0
theorem fh_row {q : QT} {d : Nat} (hd : d < qD q) : rowOf (fhS q) d = frS (qNr q d) := by
  funext i
  unfold rowOf fhS frS upN
  by_cases hi : i < 80
  · rw [if_pos hi]
    by_cases h0 : i = 0
    · subst h0
      rw [if_pos (by omega), if_pos rfl, show (80 * d + 0) / 80 = d by omega]
    · rw [if_neg (by omega), if_neg h0]
  · rw [if_neg hi, if_neg (by omega)]
theorem fh_hd {q : QT} {i : Nat} (hD : qD q ≤ 5) (hi : 400 ≤ i) : fhS q i = 0 := by unfold fhS; rw [if_neg (by omega)]
theorem frS_RO {n B : Nat} (hn : n ≤ 99) (hB : 99 ≤ B) : RO B (frS n) := by
  unfold frS
  refine up0_RO ⟨fun i _ => by omega, by omega, by omega, by omega, fun i _ => by omega, fun k hk => ?_⟩ hn hB
  have : ∀ a n, anS (fun _ => 0) a n = false := by
    intro a n
    induction n with
    | zero => rfl
    | succ n ih => unfold anS; rw [ih]; rfl
  rw [this, this]
theorem fh_SO {q : QT} {B : Nat} (hq : QOK q) (hB : 99 ≤ B) : SO B (fhS q) := by
  intro d hd
  by_cases h : d < qD q
  · rw [fh_row h]
    exact frS_RO (hq.2.2.2.1 d h).2 hB
  · have : rowOf (fhS q) d = frS 0 := by
      funext i
      unfold rowOf fhS frS upN
      split
      · rw [if_neg (by omega)]; split <;> rfl
      · split <;> rfl
    rw [this]
    exact frS_RO (by omega) hB
theorem frS_NV {kd n : Nat} : NV kd (frS n) := fun _ h => by simp [frS, upN] at h
section
variable {zs : Nat → Nat} {e : Nat} {σ : CM} {P : CR → Prop} {ow : Nat → Nat} {t n0 qa fx : Nat} {q : QT} {fs : List Value} {lf kf : Nat → Option Nat}
/-- tags of a night that keeps its locks -/
def tlK (t : Nat) (q : QT) (d : Nat) : Nat := t + 1 + (6 * d + qDk q d)
theorem tlK_ok {n : Nat} (h2 : 2 ≤ t) (hk : ∀ d, d < n → qDk q d ≤ 5) : TV t (tlK t q) n := ⟨h2, fun d hd => by unfold tlK; omega, fun d d' hd hd' hne => by unfold tlK; have := hk d hd; have := hk d' hd'; omega⟩
/-- what beginning may change -/
def BS (ow : Nat → Nat) (t : Nat) : Nat → Prop := fun b => t ≤ ow b ∧ ow b ≤ t + 30
/-- a night has begun -/
def Bgn (ow : Nat → Nat) (t : Nat) (σ σ' : CM) (ow' : Nat → Nat) (n0 qa fx : Nat) (q : QT) (L : Nat → Nat) (m0 : Nat) : Prop := (∀ b, b < σ.1 → ow' b = ow b) ∧ Fr (BS ow t) 15 245 σ σ' ∧ NightAt ow' t (tlK t q) σ' n0 qa fx q (fhS q) L ∧ ∃ lf kf, FX ow' t σ' n0 (nFs n0 qa 0 0) lf kf ∧ (∀ d, d < qD q → kf (6 * d + qDk q d) = some (L d)) ∧ σ'.1 + 3 * muN kf 30 ≤ σ.1 + 3 * m0 ∧ σ'.2.1 + 49 * muN kf 30 ≤ σ.2.1 + 49 * m0
theorem c_begins {v0 v1 v2 : Value} (hq : QOK q) (hK : TQ q) (hfs : fs = [v0, v1, v2, .ref (n0 + 1), .ref (n0 + 2), .ref (n0 + 3), .ref (n0 + 4), .ref (n0 + 10)]) (hX : FX ow t σ n0 fs lf kf) (hQ : QC ow σ qa fx q) (hw : HW σ) (hP : ∀ σ' ow' L, Bgn ow t σ σ' ow' n0 qa fx q L (muN kf 30) → P (.inl (some (.ref n0)), σ')) : EC zs (Jc zs) (e + 5) cX3_begins (some (.object "KnowLocks$Night")) 2 0 0 [some (.ref n0), some (.ref qa), none] [] σ P := by
  have hD := hq.1.2.1
  obtain ⟨h0, hB, ht, h2, hkp⟩ := id hX
  have hlt := hB.lt hw
  have h0' := h0
  rw [hfs] at h0'
  simp (disch := omega) only [ec_aload_n (i := 0) dX3_begins_0 rfl, ec_aload_n (i := 1) dX3_begins_1 rfl, ec_put dX3_begins_2, pw_2_0_33_2, pn_2_0_33_2, ec_aload_n (i := 0) dX3_begins_5 rfl, ec_iconst (v := nI 0) dX3_begins_6 rfl, ec_put dX3_begins_7, pw_2_0_37_2, ec_aload_n (i := 0) dX3_begins_10 rfl, ec_iconst (v := nI 0) dX3_begins_11 rfl, ec_put dX3_begins_12, pw_2_0_41_2, ec_iconst (v := nI 0) dX3_begins_15 rfl, ec_istore_n (i := 2) dX3_begins_16 rfl, ec_aload_n (i := 1) dX3_begins_18 rfl, ec_cv0 dX3_begins_19 iN_2_44 cna_2_44, vcE_o ccp_2_44_3, ec_icmp_ge (t := 48) dX3_begins_22 rfl, ec_aload_n (i := 0) dX3_begins_25 rfl, ec_iload_n (i := 2) dX3_begins_26 rfl, ec_aload_n (i := 1) dX3_begins_27 rfl, ec_get dX3_begins_28, gw_2_50_3, ec_iload_n (i := 2) dX3_begins_31 rfl, ec_iald dX3_begins_32, iaE_i, ec_aload_n (i := 1) dX3_begins_33 rfl, ec_get dX3_begins_34, gw_2_53_3, ec_iload_n (i := 2) dX3_begins_37 rfl, ec_iald dX3_begins_38, ec_cv3 dX3_begins_39 iN_2_56 cna_2_56, vcE_o ccp_2_56_2, ec_iinc (v := nI 1) dX3_begins_42 rfl, ec_goto (t := 17) dX3_begins_45 rfl, ec_aload_n (i := 0) dX3_begins_48 rfl, ec_aret dX3_begins_49, ec_aretN dX3_begins_49, ec_aretA dX3_begins_49, cat1_i, cat1_r, cat1_u, catB_n, catB_i, catB_r, catB_l, catB_u, lg_0, lg_s, ldEI_i, ldEL_l, ldEA_r, ldEA_n, lin_0, lin_s, ls1_0, ls1_1, ls1_s, ls2_0, ls2_1, ls2_s, lcl_i, lcl_r, lcl_l, lcl_u, lcl_n, lent_i, lent_r, lent_l, lent_u, lent_0, lent_s, Option.toList_some, Option.toList_none, List.cons_append, List.nil_append, Nat.reduceAdd, true_and, vin_0, vin_s, aE_0, aE_s, EK_r, EK_t, List.set_cons_zero, List.set_cons_succ, va_rf_s, va_rf_n, pC_1, pC_21, aC_1, aC_21, gC_self, gC_new, eI_, eLg_, eV_, eInc_, eN_, eS_, eJ_, eCl_, nI_add, nI_mul, nI_subI, nI_clampI, inb_t, nI_lt0, nI_0le, nI_m1, nI_m1', nI_ofNat, bI_01, b01_0, b01_1, bI_eq0, bI_eq1, bb_01, true_or, or_true, false_or, or_false, eq_self, Nat.reduceAdd, Nat.reduceMul, Nat.reduceSub, Nat.reduceLT, Nat.reduceLeDiff, Nat.reduceEqDiff, ↓reduceIte, and_true, true_and, and_self, Nat.add_zero, Nat.zero_add, not_false_eq_true, not_true_eq_false, faV_n, faV_s, m1_lt0, m1_0le, m1_eq0, m1_le, le_m1, m1_lt, lt_m1, nI_100k, nI_100, upd_e, upd_n, pC_pC, gC_ne', gC_old', nI_lt_t, nI_lt_f, nI_le_t, nI_le_f, nI_eq_t, nI_eq_f, nI_eq0_t, nI_eq0_f, nI_0lt_t, nI_0lt_f, nI_le0_t, nI_le0_f, nI_eq1_t, nI_eq1_f, h0']
  have S1 : Fs (fun b => b = n0) σ (pC σ n0 (.inl (2, nFs n0 qa 0 0))) := Fs.rf.p h0 rfl
  have e1 : pC σ n0 (.inl (2, [.ref qa, .int (nI 0), .int (nI 0), .ref (n0 + 1), .ref (n0 + 2), .ref (n0 + 3), .ref (n0 + 4), .ref (n0 + 10)])) = pC σ n0 (.inl (2, nFs n0 qa 0 0)) := rfl
  rw [e1]
  generalize hσ1 : pC σ n0 (.inl (2, nFs n0 qa 0 0)) = σ1 at S1
  have g0 : gC σ1 n0 = some (.inl (2, nFs n0 qa 0 0)) := by rw [← hσ1]; exact gC_self
  have t0 := ht n0 (by omega) (by omega)
  have F1 : Fr (BS ow t) 0 0 σ σ1 := (S1.fr hw).sub (fun b _ hb => by unfold BS; rw [hb, t0]; omega) (Nat.le_refl _) (Nat.le_refl _)
  have kt : ∀ b, b ≠ n0 → gC σ1 b = gC σ b := fun b hb => S1.2.2.1 b hb
  have X1 : FX ow t σ1 n0 (nFs n0 qa 0 0) lf kf := by
    obtain ⟨b1, b2, b3, b4, b5, b6⟩ := hB
    refine ⟨g0, ⟨(kt _ (by omega)).trans b1, (kt _ (by omega)).trans b2, ?_, (kt _ (by omega)).trans b4, fun j hj => ?_, ?_⟩, ht, h2, fun i hi => ?_⟩
    · obtain ⟨F, hF'⟩ := b3; exact ⟨F, (kt _ (by omega)).trans hF'⟩
    · obtain ⟨F, hF'⟩ := b5 j hj; exact ⟨F, (kt _ (by omega)).trans hF'⟩
    · obtain ⟨F, hF'⟩ := b6; exact ⟨F, (kt _ (by omega)).trans hF'⟩
    · rcases hkp i hi with h | ⟨l, h3, ⟨r, h4⟩, h5⟩
      · exact Or.inl h
      · exact Or.inr ⟨l, h3, ⟨r, h4.kT (fun b hb => kt b (fun z => by have := h5 b hb; rw [z] at this; omega))⟩, h5⟩
  have Q1 : QC ow σ1 qa fx q := hQ.k' S1 (fun b hb => by rw [hb, t0]; omega)
  have lo : ∀ (n j : Nat), j + n = qD q → ∀ (σ2 : CM) (ow2 : Nat → Nat) (lf2 kf2 : Nat → Option Nat) (L : Nat → Nat), (σ2.1 + 3 * muN kf2 30 ≤ σ.1 + 3 * muN kf 30 ∧ σ2.2.1 + 49 * muN kf2 30 ≤ σ.2.1 + 49 * muN kf 30) → (∀ b, b < σ.1 → ow2 b = ow b) → Fr (BS ow t) (3 * j) (49 * j) σ σ2 → FX ow2 t σ2 n0 (nFs n0 qa 0 0) lf2 kf2 → QC ow2 σ2 qa fx q → (∀ d, d < j → lf2 d = some (L d) ∧ kf2 (6 * d + qDk q d) = some (L d) ∧ LockAt σ2 (L d) (qDk q d) (frS (qNr q d)) ∧ ∀ b, LkT (qDk q d) (L d) b → ow2 b = tlK t q d) → EC zs (Jc zs) (e + 5) cX3_begins (some (.object "KnowLocks$Night")) 2 0 17 [some (.ref n0), some (.ref qa), some (.int (nI j))] [] σ2 P := by
    intro n
    induction n with
    | zero =>
      intro j hj σ2 ow2 lf2 kf2 L hmu ho F2 X2 Q2 hL
      have : j = qD q := by omega
      subst this
      obtain ⟨hl', nl, ka, na, sl', fo, xl, xe, dx, sx, h1, h2', h3⟩ := Q2.D
      obtain ⟨qfs, hqa⟩ := Q2.ob
      simp (disch := omega) only [ec_aload_n (i := 0) dX3_begins_0 rfl, ec_aload_n (i := 1) dX3_begins_1 rfl, ec_put dX3_begins_2, pw_2_0_33_2, pn_2_0_33_2, ec_aload_n (i := 0) dX3_begins_5 rfl, ec_iconst (v := nI 0) dX3_begins_6 rfl, ec_put dX3_begins_7, pw_2_0_37_2, ec_aload_n (i := 0) dX3_begins_10 rfl, ec_iconst (v := nI 0) dX3_begins_11 rfl, ec_put dX3_begins_12, pw_2_0_41_2, ec_iconst (v := nI 0) dX3_begins_15 rfl, ec_istore_n (i := 2) dX3_begins_16 rfl, ec_iload_n (i := 2) dX3_begins_17 rfl, ec_aload_n (i := 1) dX3_begins_18 rfl, ec_cv0 dX3_begins_19 iN_2_44 cna_2_44, vcE_o ccp_2_44_3, ec_icmp_ge (t := 48) dX3_begins_22 rfl, ec_iload_n (i := 2) dX3_begins_26 rfl, ec_aload_n (i := 1) dX3_begins_27 rfl, ec_get dX3_begins_28, gw_2_50_3, ec_iload_n (i := 2) dX3_begins_31 rfl, ec_iald dX3_begins_32, iaE_i, ec_aload_n (i := 1) dX3_begins_33 rfl, ec_get dX3_begins_34, gw_2_53_3, ec_iload_n (i := 2) dX3_begins_37 rfl, ec_iald dX3_begins_38, ec_cv3 dX3_begins_39 iN_2_56 cna_2_56, vcE_o ccp_2_56_2, ec_iinc (v := nI 1) dX3_begins_42 rfl, ec_goto (t := 17) dX3_begins_45 rfl, ec_aload_n (i := 0) dX3_begins_48 rfl, ec_aret dX3_begins_49, ec_aretN dX3_begins_49, ec_aretA dX3_begins_49, cat1_i, cat1_r, cat1_u, catB_n, catB_i, catB_r, catB_l, catB_u, lg_0, lg_s, ldEI_i, ldEL_l, ldEA_r, ldEA_n, lin_0, lin_s, ls1_0, ls1_1, ls1_s, ls2_0, ls2_1, ls2_s, lcl_i, lcl_r, lcl_l, lcl_u, lcl_n, lent_i, lent_r, lent_l, lent_u, lent_0, lent_s, Option.toList_some, Option.toList_none, List.cons_append, List.nil_append, Nat.reduceAdd, true_and, vin_0, vin_s, aE_0, aE_s, EK_r, EK_t, List.set_cons_zero, List.set_cons_succ, va_rf_s, va_rf_n, pC_1, pC_21, aC_1, aC_21, gC_self, gC_new, eI_, eLg_, eV_, eInc_, eN_, eS_, eJ_, eCl_, nI_add, nI_mul, nI_subI, nI_clampI, inb_t, nI_lt0, nI_0le, nI_m1, nI_m1', nI_ofNat, bI_01, b01_0, b01_1, bI_eq0, bI_eq1, bb_01, true_or, or_true, false_or, or_false, eq_self, Nat.reduceAdd, Nat.reduceMul, Nat.reduceSub, Nat.reduceLT, Nat.reduceLeDiff, Nat.reduceEqDiff, ↓reduceIte, and_true, true_and, and_self, Nat.add_zero, Nat.zero_add, not_false_eq_true, not_true_eq_false, faV_n, faV_s, m1_lt0, m1_0le, m1_eq0, m1_le, le_m1, m1_lt, lt_m1, nI_100k, nI_100, upd_e, upd_n, pC_pC, gC_ne', gC_old', nI_lt_t, nI_lt_f, nI_le_t, nI_le_f, nI_eq_t, nI_eq_f, nI_eq0_t, nI_eq0_f, nI_0lt_t, nI_0lt_f, nI_le0_t, nI_le0_f, nI_eq1_t, nI_eq1_f, hqa, c_doors (zs := zs) (e := e + 3) h1 h2'.1]
      obtain ⟨x0, xB, xt, -, xk⟩ := id X2
      refine hP σ2 ow2 L ⟨ho, F2.sub (fun b _ z => z) (by omega) (by omega), ⟨⟨?_, lf2, kf2, xB, fun d hd => (hL d hd).1⟩, Q2, fun d hd => ?_, tlK_ok h2 (fun d hd => (hq.2.2.2.1 d hd).1), xt, fun d hd => (hL d hd).2.2.2⟩, lf2, kf2, X2, fun d hd => (hL d hd).2.1, hmu⟩
      · rw [fh_hd hD (by omega), fh_hd hD (by omega)]; exact x0
      · rw [fh_row hd]
        exact ⟨(hL d hd).2.2.1, frS_NV⟩
    | succ n ih =>
      intro j hj σ2 ow2 lf2 kf2 L hmu ho F2 X2 Q2 hL
      have hd : j < qD q := by omega
      have w2 := F2.2.2.2
      obtain ⟨hl', nl, ka, na, sl', fo, xl, xe, dx, sx, h1, h2', h3⟩ := Q2.D
      obtain ⟨y1, y2, ⟨⟨K, y3, y4⟩, y5⟩, ⟨N, y6, y7⟩, y8⟩ := id h2'
      have kj : K j = nI (qDk q j) := by rw [← (hK j hd).1]; exact y4 j hd
      have nj : N j = nI (qNr q j) := by rw [← (hK j hd).2]; exact y7 j hd
      obtain ⟨hk5, hn99⟩ := hq.2.2.2.1 j hd
      have h1' := h1
      unfold qFs at h1'
      obtain ⟨x0, -⟩ := id X2
      rw [ec_iload_n (i := 2) dX3_begins_17 rfl]
      simp (disch := omega) only [ec_aload_n (i := 0) dX3_begins_0 rfl, ec_aload_n (i := 1) dX3_begins_1 rfl, ec_put dX3_begins_2, pw_2_0_33_2, pn_2_0_33_2, ec_aload_n (i := 0) dX3_begins_5 rfl, ec_iconst (v := nI 0) dX3_begins_6 rfl, ec_put dX3_begins_7, pw_2_0_37_2, ec_aload_n (i := 0) dX3_begins_10 rfl, ec_iconst (v := nI 0) dX3_begins_11 rfl, ec_put dX3_begins_12, pw_2_0_41_2, ec_iconst (v := nI 0) dX3_begins_15 rfl, ec_istore_n (i := 2) dX3_begins_16 rfl, ec_aload_n (i := 1) dX3_begins_18 rfl, ec_cv0 dX3_begins_19 iN_2_44 cna_2_44, vcE_o ccp_2_44_3, ec_icmp_ge (t := 48) dX3_begins_22 rfl, ec_aload_n (i := 0) dX3_begins_25 rfl, ec_iload_n (i := 2) dX3_begins_26 rfl, ec_aload_n (i := 1) dX3_begins_27 rfl, ec_get dX3_begins_28, gw_2_50_3, ec_iload_n (i := 2) dX3_begins_31 rfl, ec_iald dX3_begins_32, iaE_i, ec_aload_n (i := 1) dX3_begins_33 rfl, ec_get dX3_begins_34, gw_2_53_3, ec_iload_n (i := 2) dX3_begins_37 rfl, ec_iald dX3_begins_38, ec_cv3 dX3_begins_39 iN_2_56 cna_2_56, vcE_o ccp_2_56_2, ec_iinc (v := nI 1) dX3_begins_42 rfl, ec_goto (t := 17) dX3_begins_45 rfl, ec_aload_n (i := 0) dX3_begins_48 rfl, ec_aret dX3_begins_49, ec_aretN dX3_begins_49, ec_aretA dX3_begins_49, cat1_i, cat1_r, cat1_u, catB_n, catB_i, catB_r, catB_l, catB_u, lg_0, lg_s, ldEI_i, ldEL_l, ldEA_r, ldEA_n, lin_0, lin_s, ls1_0, ls1_1, ls1_s, ls2_0, ls2_1, ls2_s, lcl_i, lcl_r, lcl_l, lcl_u, lcl_n, lent_i, lent_r, lent_l, lent_u, lent_0, lent_s, Option.toList_some, Option.toList_none, List.cons_append, List.nil_append, Nat.reduceAdd, true_and, vin_0, vin_s, aE_0, aE_s, EK_r, EK_t, List.set_cons_zero, List.set_cons_succ, va_rf_s, va_rf_n, pC_1, pC_21, aC_1, aC_21, gC_self, gC_new, eI_, eLg_, eV_, eInc_, eN_, eS_, eJ_, eCl_, nI_add, nI_mul, nI_subI, nI_clampI, inb_t, nI_lt0, nI_0le, nI_m1, nI_m1', nI_ofNat, bI_01, b01_0, b01_1, bI_eq0, bI_eq1, bb_01, true_or, or_true, false_or, or_false, eq_self, Nat.reduceAdd, Nat.reduceMul, Nat.reduceSub, Nat.reduceLT, Nat.reduceLeDiff, Nat.reduceEqDiff, ↓reduceIte, and_true, true_and, and_self, Nat.add_zero, Nat.zero_add, not_false_eq_true, not_true_eq_false, faV_n, faV_s, m1_lt0, m1_0le, m1_eq0, m1_le, le_m1, m1_lt, lt_m1, nI_100k, nI_100, upd_e, upd_n, pC_pC, gC_ne', gC_old', nI_lt_t, nI_lt_f, nI_le_t, nI_le_f, nI_eq_t, nI_eq_f, nI_eq0_t, nI_eq0_f, nI_0lt_t, nI_0lt_f, nI_le0_t, nI_le0_f, nI_eq1_t, nI_eq1_f, h1', c_doors (zs := zs) (e := e + 3) h1 h2'.1, y3, y6, kj, nj, x0]
      refine c_turns (e := e) (fs := nFs n0 qa 0 0) (v0 := .ref qa) (v1 := .int (nI 0)) (v2 := .int (nI 0)) rfl X2 w2 (by omega) hk5 (fun σ3 ow3 l T3 => ?_)
      simp (disch := omega) only [ec_aload_n (i := 0) dX3_begins_0 rfl, ec_aload_n (i := 1) dX3_begins_1 rfl, ec_put dX3_begins_2, pw_2_0_33_2, pn_2_0_33_2, ec_aload_n (i := 0) dX3_begins_5 rfl, ec_iconst (v := nI 0) dX3_begins_6 rfl, ec_put dX3_begins_7, pw_2_0_37_2, ec_aload_n (i := 0) dX3_begins_10 rfl, ec_iconst (v := nI 0) dX3_begins_11 rfl, ec_put dX3_begins_12, pw_2_0_41_2, ec_iconst (v := nI 0) dX3_begins_15 rfl, ec_istore_n (i := 2) dX3_begins_16 rfl, ec_aload_n (i := 1) dX3_begins_18 rfl, ec_cv0 dX3_begins_19 iN_2_44 cna_2_44, vcE_o ccp_2_44_3, ec_icmp_ge (t := 48) dX3_begins_22 rfl, ec_aload_n (i := 0) dX3_begins_25 rfl, ec_iload_n (i := 2) dX3_begins_26 rfl, ec_aload_n (i := 1) dX3_begins_27 rfl, ec_get dX3_begins_28, gw_2_50_3, ec_iload_n (i := 2) dX3_begins_31 rfl, ec_iald dX3_begins_32, iaE_i, ec_aload_n (i := 1) dX3_begins_33 rfl, ec_get dX3_begins_34, gw_2_53_3, ec_iload_n (i := 2) dX3_begins_37 rfl, ec_iald dX3_begins_38, ec_cv3 dX3_begins_39 iN_2_56 cna_2_56, vcE_o ccp_2_56_2, ec_iinc (v := nI 1) dX3_begins_42 rfl, ec_goto (t := 17) dX3_begins_45 rfl, ec_aload_n (i := 0) dX3_begins_48 rfl, ec_aret dX3_begins_49, ec_aretN dX3_begins_49, ec_aretA dX3_begins_49, cat1_i, cat1_r, cat1_u, catB_n, catB_i, catB_r, catB_l, catB_u, lg_0, lg_s, ldEI_i, ldEL_l, ldEA_r, ldEA_n, lin_0, lin_s, ls1_0, ls1_1, ls1_s, ls2_0, ls2_1, ls2_s, lcl_i, lcl_r, lcl_l, lcl_u, lcl_n, lent_i, lent_r, lent_l, lent_u, lent_0, lent_s, Option.toList_some, Option.toList_none, List.cons_append, List.nil_append, Nat.reduceAdd, true_and, vin_0, vin_s, aE_0, aE_s, EK_r, EK_t, List.set_cons_zero, List.set_cons_succ, va_rf_s, va_rf_n, pC_1, pC_21, aC_1, aC_21, gC_self, gC_new, eI_, eLg_, eV_, eInc_, eN_, eS_, eJ_, eCl_, nI_add, nI_mul, nI_subI, nI_clampI, inb_t, nI_lt0, nI_0le, nI_m1, nI_m1', nI_ofNat, bI_01, b01_0, b01_1, bI_eq0, bI_eq1, bb_01, true_or, or_true, false_or, or_false, eq_self, Nat.reduceAdd, Nat.reduceMul, Nat.reduceSub, Nat.reduceLT, Nat.reduceLeDiff, Nat.reduceEqDiff, ↓reduceIte, and_true, true_and, and_self, Nat.add_zero, Nat.zero_add, not_false_eq_true, not_true_eq_false, faV_n, faV_s, m1_lt0, m1_0le, m1_eq0, m1_le, le_m1, m1_lt, lt_m1, nI_100k, nI_100, upd_e, upd_n, pC_pC, gC_ne', gC_old', nI_lt_t, nI_lt_f, nI_le_t, nI_le_f, nI_eq_t, nI_eq_f, nI_eq0_t, nI_eq0_f, nI_0lt_t, nI_0lt_f, nI_le0_t, nI_le0_f, nI_eq1_t, nI_eq1_f]
      obtain ⟨o3, f3, l3, tg3, gr3, kf3, X3, k3, k3'⟩ := T3
      have hle := F2.1.1
      have no01 : ∀ b, ow2 b = t ∨ ow2 b = t + 1 + (6 * j + qDk q j) → ow2 b ≠ 0 ∧ ow2 b ≠ 1 := fun b z => by omega
      refine ih (j + 1) (by omega) σ3 ow3 _ kf3 (fun d => if d = j then l else L d) ?_ (fun b hb => (o3 b (by omega)).trans (ho b hb)) ((F2.tn f3 (fun b hb => ?_)).sub (fun b _ z => z) (by omega) (by omega)) X3 ?_ (fun d hd' => ?_)
      · have g1 := f3.1.2
        have g2 := f3.2.1.2
        by_cases hnn : kf2 (6 * j + qDk q j) = none
        · have := muN_d hnn (by rw [k3]; exact (by simp)) k3' (n := 30) (by omega)
          omega
        · rcases gr3 with z | ⟨z1, z2⟩
          · exact absurd z hnn
          · have : muN kf3 30 = muN kf2 30 := muN_e (fun i _ => by
              by_cases hi : i = 6 * j + qDk q j
              · rw [hi, k3]; exact ⟨fun z => (by cases z), fun z => absurd z hnn⟩
              · rw [k3' i hi])
            rw [this, z1, z2]
            exact hmu
      · by_cases hbl : b < σ.1
        · right
          have := ho b hbl
          unfold BS
          omega
        · left; omega
      · exact (Q2.own w2 o3).fr w2 f3 (fun b hb hs => by rw [o3 b hb]; exact no01 b hs)
      · by_cases hdj : d = j
        · subst hdj
          simp only [↓reduceIte]
          exact ⟨by unfold va_up; rw [if_pos rfl], k3, l3, tg3⟩
        · simp only [hdj, ↓reduceIte]
          obtain ⟨a1, a2, a3, a4⟩ := hL d (by omega)
          have hkd := (hq.2.2.2.1 d (by omega)).1
          refine ⟨by unfold va_up; rw [if_neg hdj]; exact a1, by rw [k3' _ (by omega)]; exact a2, a3.kT (fun b hb => f3.2.2.1 b (a3.ltT w2 hb) (fun z => ?_)), fun b hb => by rw [o3 b (a3.ltT w2 hb)]; exact a4 b hb⟩
          have := a4 b hb
          unfold tlK at this
          omega
  exact lo (qD q) 0 (by omega) σ1 ow lf kf (fun _ => 0) ⟨by rw [S1.1]; exact Nat.le_refl _, by rw [S1.2.1]; exact Nat.le_refl _⟩ (fun _ _ => rfl) F1 X1 Q1 (fun d hd => by omega)
end
