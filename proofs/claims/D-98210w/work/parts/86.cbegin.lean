set_option maxRecDepth 100000
/-! A NIGHT THAT IS BEGUN, doors that turn -/
/-- a night's object with the locks that it keeps by doors and kinds -/
def FX (ow : Nat → Nat) (t : Nat) (σ : CM) (n0 : Nat) (fs : List Value) (lf kf : Nat → Option Nat) : Prop := gC σ n0 = some (.inl (2, fs)) ∧ NightB σ n0 lf kf ∧ (∀ b, n0 ≤ b → b < n0 + 11 → ow b = t) ∧ 2 ≤ t ∧ ∀ i, i < 30 → kf i = none ∨ ∃ l, kf i = some l ∧ (∃ r, LockAt σ l (i % 6) r) ∧ ∀ b, LkT (i % 6) l b → ow b = t + 1 + i
section
variable {zs : Nat → Nat} {e : Nat} {σ : CM} {P : CR → Prop} {ow ow' : Nat → Nat} {t n0 qa fx : Nat} {q : QT} {s L : Nat → Nat} {fs : List Value} {lf kf : Nat → Option Nat}
theorem FX.own (h : FX ow t σ n0 fs lf kf) (hw : HW σ) (e : ∀ b, b < σ.1 → ow' b = ow b) : FX ow' t σ n0 fs lf kf := by
  obtain ⟨h0, hB, ht, h2, hk⟩ := h
  have := hB.lt hw
  refine ⟨h0, hB, fun b h1 h2 => by rw [e b (by omega)]; exact ht b h1 h2, h2, fun i hi => ?_⟩
  rcases hk i hi with h | ⟨l, h3, ⟨r, h4⟩, h5⟩
  · exact Or.inl h
  · exact Or.inr ⟨l, h3, ⟨r, h4⟩, fun b hb => by rw [e b (h4.ltT hw hb)]; exact h5 b hb⟩
theorem LockAt.kT {σ' : CM} {l kd : Nat} {r : Nat → Nat} (h : LockAt σ l kd r) (e1 : ∀ b, LkT kd l b → gC σ' b = gC σ b) : LockAt σ' l kd r := by
  obtain ⟨x1, y2⟩ := h
  refine ⟨(e1 _ (Or.inl rfl)).trans x1, ?_⟩
  by_cases k5 : kd = 5
  · rw [k5] at y2 ⊢
    exact (e1 _ (Or.inr (Or.inl rfl))).trans y2
  · exact y2.k (e1 _ (Or.inr (Or.inl rfl))) (e1 _ (Or.inr (Or.inr ⟨k5, rfl⟩)))
theorem FX.fr {σ' : CM} {S : Nat → Prop} {c m : Nat} (h : FX ow t σ n0 fs lf kf) (hw : HW σ) (hF : Fr S c m σ σ') (hn : ∀ b, b < σ.1 → S b → ow b ≠ t ∧ ∀ i, i < 30 → ow b ≠ t + 1 + i) : FX ow t σ' n0 fs lf kf := by
  obtain ⟨h0, hB, ht, h2, hk⟩ := h
  have hlt := hB.lt hw
  have kt : ∀ i, i < 11 → gC σ' (n0 + i) = gC σ (n0 + i) := fun i hi => hF.2.2.1 _ (by omega) (fun z => (hn _ (by omega) z).1 (ht _ (by omega) (by omega)))
  obtain ⟨b1, b2, b3, b4, b5, b6⟩ := hB
  refine ⟨(kt 0 (by omega)).trans h0, ⟨(kt 1 (by omega)).trans b1, (kt 2 (by omega)).trans b2, ?_, (kt 4 (by omega)).trans b4, fun j hj => ?_, ?_⟩, ht, h2, fun i hi => ?_⟩
  · obtain ⟨F, hF'⟩ := b3; exact ⟨F, (kt 3 (by omega)).trans hF'⟩
  · obtain ⟨F, hF'⟩ := b5 j hj; exact ⟨F, by rw [Nat.add_assoc] at hF' ⊢; exact (kt (5 + j) (by omega)).trans hF'⟩
  · obtain ⟨F, hF'⟩ := b6; exact ⟨F, (kt 10 (by omega)).trans hF'⟩
  · rcases hk i hi with h | ⟨l, h3, ⟨r, h4⟩, h5⟩
    · exact Or.inl h
    · exact Or.inr ⟨l, h3, ⟨r, h4.kT (fun b hb => hF.2.2.1 b (h4.ltT hw hb) (fun z => (hn b (h4.ltT hw hb) z).2 i hi (h5 b hb)))⟩, h5⟩
/-- who owns a new lock -/
def owK (ow : Nat → Nat) (n u : Nat) : Nat → Nat := fun b => if b < n then ow b else u
/-- how many places are free -/
def muN (kf : Nat → Option Nat) : Nat → Nat
  | 0 => 0
  | n + 1 => muN kf n + (if kf n = none then 1 else 0)
theorem muN_e {kf kf' : Nat → Option Nat} : ∀ {n : Nat}, (∀ i, i < n → (kf' i = none ↔ kf i = none)) → muN kf' n = muN kf n
  | 0, _ => rfl
  | n + 1, h => by
    unfold muN
    rw [muN_e (fun i hi => h i (by omega))]
    by_cases hh : kf n = none
    · rw [if_pos hh, if_pos ((h n (by omega)).mpr hh)]
    · rw [if_neg hh, if_neg (fun z => hh ((h n (by omega)).mp z))]
theorem muN_d {kf kf' : Nat → Option Nat} {i0 : Nat} (h0 : kf i0 = none) (h1 : kf' i0 ≠ none) (ho : ∀ i, i ≠ i0 → kf' i = kf i) : ∀ {n : Nat}, i0 < n → muN kf' n + 1 = muN kf n
  | 0, hi => by omega
  | n + 1, hi => by
    unfold muN
    by_cases hh : i0 = n
    · subst hh
      rw [if_pos h0, if_neg h1, muN_e (kf' := kf') (kf := kf) (fun i hi => by rw [ho i (by omega)])]
    · rw [ho n (fun z => hh z.symm)]
      have := muN_d h0 h1 ho (n := n) (by omega)
      omega
theorem muN_le {kf : Nat → Option Nat} : ∀ {n : Nat}, muN kf n ≤ n
  | 0 => Nat.le_refl _
  | n + 1 => by
    unfold muN
    have := muN_le (kf := kf) (n := n)
    split <;> omega
/-- a door has turned: its lock l is new-begun -/
def Trn (ow : Nat → Nat) (t : Nat) (σ σ' : CM) (ow' : Nat → Nat) (n0 : Nat) (fs : List Value) (lf kf : Nat → Option Nat) (d kd n l : Nat) : Prop := (∀ b, b < σ.1 → ow' b = ow b) ∧ Fr (fun b => ow b = t ∨ ow b = t + 1 + (6 * d + kd)) 3 49 σ σ' ∧ LockAt σ' l kd (frS n) ∧ (∀ b, LkT kd l b → ow' b = t + 1 + (6 * d + kd)) ∧ (kf (6 * d + kd) = none ∨ σ'.1 = σ.1 ∧ σ'.2.1 = σ.2.1) ∧ ∃ kf', FX ow' t σ' n0 fs (va_up lf d (some l)) kf' ∧ kf' (6 * d + kd) = some l ∧ ∀ i, i ≠ 6 * d + kd → kf' i = kf i
theorem c_turns {v0 v1 v2 : Value} {d kd n : Nat} (hfs : fs = [v0, v1, v2, .ref (n0 + 1), .ref (n0 + 2), .ref (n0 + 3), .ref (n0 + 4), .ref (n0 + 10)]) (hX : FX ow t σ n0 fs lf kf) (hw : HW σ) (hd : d < 5) (hk : kd ≤ 5) (hP : ∀ σ' ow' l, Trn ow t σ σ' ow' n0 fs lf kf d kd n l → P (.inl none, σ')) : EC zs (Jc zs) (e + 4) cX3_turns none 2 0 0 [some (.ref n0), some (.int (nI d)), some (.int (nI kd)), some (.int (nI n)), none] [] σ P := by
  obtain ⟨h0, hB, ht, h2, hkp⟩ := id hX
  have hlt := hB.lt hw
  have hat : (6 * d + kd) % 6 = kd ∧ 6 * d + kd < 30 ∨ kd = 5 ∧ 6 * d + kd < 30 := by omega
  have ham : (6 * d + kd) % 6 = kd := by omega
  have hal : 6 * d + kd < 30 := by omega
  have b2 := hB.2.1
  have h0' := h0
  rw [hfs] at h0'
  -- the lock stands: it is begun
  have fin : ∀ (σ1 : CM) (ow1 : Nat → Nat) (kf1 : Nat → Option Nat) (l : Nat) (r : Nat → Nat), (∀ b, b < σ.1 → ow1 b = ow b) → Fr (fun b => ow b = t ∨ ow b = t + 1 + (6 * d + kd)) 3 49 σ σ1 → FX ow1 t σ1 n0 fs lf kf1 → kf1 (6 * d + kd) = some l → (∀ i, i ≠ 6 * d + kd → kf1 i = kf i) → LockAt σ1 l kd r → (∀ b, LkT kd l b → ow1 b = t + 1 + (6 * d + kd)) → (∀ b, LkT kd l b → b < σ.1 → ow b = t + 1 + (6 * d + kd)) → (kf (6 * d + kd) = none ∨ σ1.1 = σ.1 ∧ σ1.2.1 = σ.2.1) → EC zs (Jc zs) (e + 4) cX3_turns none 2 0 37 [some (.ref n0), some (.int (nI d)), some (.int (nI kd)), some (.int (nI n)), some (.int (nI (6 * d + kd)))] [] σ1 P := by
    intro σ1 ow1 kf1 l r ho1 F1 X1 k1 k2 L1 t1 t2 hgr
    obtain ⟨g0, gB, gt, -, gk⟩ := id X1
    have w1 := F1.2.2.2
    have g0' := g0
    rw [hfs] at g0'
    have c1 := gB.1
    have c2 := gB.2.1
    obtain ⟨lfs, hlc⟩ : ∃ fs, gC σ1 l = some (.inl (5, fs)) := ⟨_, L1.1⟩
    simp (disch := omega) only [ec_bipush (v := nI 6) dX3_turns_0 rfl, ec_iload_n (i := 1) dX3_turns_2 rfl, ec_imul dX3_turns_3, ec_iload_n (i := 2) dX3_turns_4 rfl, ec_iadd dX3_turns_5, ec_istore dX3_turns_6, ec_aload_n (i := 0) dX3_turns_8 rfl, ec_get dX3_turns_9, gw_2_17_2, ec_iload dX3_turns_12, ec_aald dX3_turns_14, raE_4, raE_5, raE_6, raE_7, raE_8, ec_ifnonnull (t := 37) dX3_turns_15 rfl, nuE_r, nuE_n, ec_aload_n (i := 0) dX3_turns_18 rfl, ec_get dX3_turns_19, ec_iload dX3_turns_22, ec_new dX3_turns_24 ncp_2_9 cSz_5 cDf_5, ec_dup dX3_turns_27, ec_iload_n (i := 2) dX3_turns_28 rfl, ec_cs1 dX3_turns_29 iN_2_60 ccp_2_60_99, ec_iload_n (i := 3) dX3_turns_32 rfl, ec_ci2 dX3_turns_33 iN_2_64 ccp_2_64_99, ec_aast dX3_turns_36, ec_aastN dX3_turns_36, rsE_r, rok_4, rok_4a, rok_5, rok_6, nsE_4, nsE_5, nsE_6, nsE_7, ec_aload_n (i := 0) dX3_turns_37 rfl, ec_get dX3_turns_38, gw_2_11_2, ec_iload_n (i := 1) dX3_turns_41 rfl, ec_aload_n (i := 0) dX3_turns_42 rfl, ec_get dX3_turns_43, ec_iload dX3_turns_46, ec_aald dX3_turns_48, ec_iload_n (i := 3) dX3_turns_49 rfl, ec_cv1 dX3_turns_50 iN_2_67 cna_2_67, vcE_o ccp_2_67_5, ec_aast dX3_turns_53, ec_aastN dX3_turns_53, ec_vret dX3_turns_54, cat1_i, cat1_r, cat1_u, catB_n, catB_i, catB_r, catB_l, catB_u, lg_0, lg_s, ldEI_i, ldEL_l, ldEA_r, ldEA_n, lin_0, lin_s, ls1_0, ls1_1, ls1_s, ls2_0, ls2_1, ls2_s, lcl_i, lcl_r, lcl_l, lcl_u, lcl_n, lent_i, lent_r, lent_l, lent_u, lent_0, lent_s, Option.toList_some, Option.toList_none, List.cons_append, List.nil_append, Nat.reduceAdd, true_and, vin_0, vin_s, aE_0, aE_s, EK_r, EK_t, List.set_cons_zero, List.set_cons_succ, va_rf_s, va_rf_n, pC_1, pC_21, aC_1, aC_21, gC_self, gC_new, eI_, eLg_, eV_, eInc_, eN_, eS_, eJ_, eCl_, nI_add, nI_mul, nI_subI, nI_clampI, inb_t, nI_lt0, nI_0le, nI_m1, nI_m1', nI_ofNat, bI_01, b01_0, b01_1, bI_eq0, bI_eq1, bb_01, true_or, or_true, false_or, or_false, eq_self, Nat.reduceAdd, Nat.reduceMul, Nat.reduceSub, Nat.reduceLT, Nat.reduceLeDiff, Nat.reduceEqDiff, ↓reduceIte, and_true, true_and, and_self, Nat.add_zero, Nat.zero_add, not_false_eq_true, not_true_eq_false, faV_n, faV_s, m1_lt0, m1_0le, m1_eq0, m1_le, le_m1, m1_lt, lt_m1, nI_100k, nI_100, upd_e, upd_n, pC_pC, gC_ne', gC_old', nI_lt_t, nI_lt_f, nI_le_t, nI_le_f, nI_eq_t, nI_eq_f, nI_eq0_t, nI_eq0_f, nI_0lt_t, nI_0lt_f, nI_le0_t, nI_le0_f, nI_eq1_t, nI_eq1_f, g0', c1, c2, k1, hlc]
    refine c_lbegins (e := e + 2) L1 hk (fun σ2 S2 L2 => ?_)
    have lt1 : ∀ b, LkT kd l b → b < σ1.1 := fun b hb => L1.ltT w1 hb
    have ho : ∀ b, n0 ≤ b → b < n0 + 11 → ¬ LkT kd l b := fun b hb1 hb2 z => by have := t1 b z; have := gt b hb1 hb2; omega
    have c1' : gC σ2 (n0 + 1) = some (.inr (5, 5, .inr (.inr (.inr (.inr lf))))) := S2.g (ho _ (by omega) (by omega)) c1
    obtain ⟨lfs2, hlc2⟩ : ∃ fs, gC σ2 l = some (.inl (5, fs)) := ⟨_, L2.1⟩
    simp (disch := omega) only [ec_bipush (v := nI 6) dX3_turns_0 rfl, ec_iload_n (i := 1) dX3_turns_2 rfl, ec_imul dX3_turns_3, ec_iload_n (i := 2) dX3_turns_4 rfl, ec_iadd dX3_turns_5, ec_istore dX3_turns_6, ec_aload_n (i := 0) dX3_turns_8 rfl, ec_get dX3_turns_9, gw_2_17_2, ec_iload dX3_turns_12, ec_aald dX3_turns_14, raE_4, raE_5, raE_6, raE_7, raE_8, ec_ifnonnull (t := 37) dX3_turns_15 rfl, nuE_r, nuE_n, ec_aload_n (i := 0) dX3_turns_18 rfl, ec_get dX3_turns_19, ec_iload dX3_turns_22, ec_new dX3_turns_24 ncp_2_9 cSz_5 cDf_5, ec_dup dX3_turns_27, ec_iload_n (i := 2) dX3_turns_28 rfl, ec_cs1 dX3_turns_29 iN_2_60 ccp_2_60_99, ec_iload_n (i := 3) dX3_turns_32 rfl, ec_ci2 dX3_turns_33 iN_2_64 ccp_2_64_99, ec_aast dX3_turns_36, ec_aastN dX3_turns_36, rsE_r, rok_4, rok_4a, rok_5, rok_6, nsE_4, nsE_5, nsE_6, nsE_7, ec_aload_n (i := 0) dX3_turns_37 rfl, ec_get dX3_turns_38, gw_2_11_2, ec_iload_n (i := 1) dX3_turns_41 rfl, ec_aload_n (i := 0) dX3_turns_42 rfl, ec_get dX3_turns_43, ec_iload dX3_turns_46, ec_aald dX3_turns_48, ec_iload_n (i := 3) dX3_turns_49 rfl, ec_cv1 dX3_turns_50 iN_2_67 cna_2_67, vcE_o ccp_2_67_5, ec_aast dX3_turns_53, ec_aastN dX3_turns_53, ec_vret dX3_turns_54, cat1_i, cat1_r, cat1_u, catB_n, catB_i, catB_r, catB_l, catB_u, lg_0, lg_s, ldEI_i, ldEL_l, ldEA_r, ldEA_n, lin_0, lin_s, ls1_0, ls1_1, ls1_s, ls2_0, ls2_1, ls2_s, lcl_i, lcl_r, lcl_l, lcl_u, lcl_n, lent_i, lent_r, lent_l, lent_u, lent_0, lent_s, Option.toList_some, Option.toList_none, List.cons_append, List.nil_append, Nat.reduceAdd, true_and, vin_0, vin_s, aE_0, aE_s, EK_r, EK_t, List.set_cons_zero, List.set_cons_succ, va_rf_s, va_rf_n, pC_1, pC_21, aC_1, aC_21, gC_self, gC_new, eI_, eLg_, eV_, eInc_, eN_, eS_, eJ_, eCl_, nI_add, nI_mul, nI_subI, nI_clampI, inb_t, nI_lt0, nI_0le, nI_m1, nI_m1', nI_ofNat, bI_01, b01_0, b01_1, bI_eq0, bI_eq1, bb_01, true_or, or_true, false_or, or_false, eq_self, Nat.reduceAdd, Nat.reduceMul, Nat.reduceSub, Nat.reduceLT, Nat.reduceLeDiff, Nat.reduceEqDiff, ↓reduceIte, and_true, true_and, and_self, Nat.add_zero, Nat.zero_add, not_false_eq_true, not_true_eq_false, faV_n, faV_s, m1_lt0, m1_0le, m1_eq0, m1_le, le_m1, m1_lt, lt_m1, nI_100k, nI_100, upd_e, upd_n, pC_pC, gC_ne', gC_old', nI_lt_t, nI_lt_f, nI_le_t, nI_le_f, nI_eq_t, nI_eq_f, nI_eq0_t, nI_eq0_f, nI_0lt_t, nI_0lt_f, nI_le0_t, nI_le0_f, nI_eq1_t, nI_eq1_f, c1', hlc2]
    have S3 : Fs (fun b => b = n0 + 1) σ2 (pC σ2 (n0 + 1) (.inr (5, 5, .inr (.inr (.inr (.inr (va_up lf d (some l)))))))) := Fs.rf.p c1' rfl
    generalize hσ3 : pC σ2 (n0 + 1) (.inr (5, 5, .inr (.inr (.inr (.inr (va_up lf d (some l))))))) = σ3 at S3
    have g31 : gC σ3 (n0 + 1) = some (.inr (5, 5, .inr (.inr (.inr (.inr (va_up lf d (some l))))))) := by rw [← hσ3]; exact gC_self
    have kt : ∀ b, ¬ LkT kd l b → b ≠ n0 + 1 → gC σ3 b = gC σ1 b := fun b hb hne => (S3.2.2.1 b hne).trans (S2.2.2.1 b hb)
    have L3 : LockAt σ3 l kd (frS n) := L2.kT (fun b hb => S3.2.2.1 b (fun z => ho b (by omega) (by omega) hb))
    obtain ⟨b1', b2', b3', b4', b5', b6'⟩ := gB
    refine hP σ3 ow1 l ⟨ho1, (F1.n S2 (fun b hb => ?_)).n S3 (fun b hb => ?_), L3, t1, ?_, kf1, ⟨?_, ⟨g31, ?_, ?_, ?_, fun j hj => ?_, ?_⟩, gt, h2, fun i hi => ?_⟩, k1, k2⟩
    · by_cases hlt : b < σ.1
      · exact Or.inr (Or.inr (t2 b hb hlt))
      · exact Or.inl (by omega)
    · exact Or.inr (Or.inl (by rw [hb]; exact ht _ (by omega) (by omega)))
    · rw [S3.1, S3.2.1, S2.1, S2.2.1]; exact hgr
    · exact (kt _ (ho _ (by omega) (by omega)) (by omega)).trans g0
    · exact (kt _ (ho _ (by omega) (by omega)) (by omega)).trans b2'
    · obtain ⟨F, hF⟩ := b3'; exact ⟨F, (kt _ (ho _ (by omega) (by omega)) (by omega)).trans hF⟩
    · exact (kt _ (ho _ (by omega) (by omega)) (by omega)).trans b4'
    · obtain ⟨F, hF⟩ := b5' j hj; exact ⟨F, (kt _ (ho _ (by omega) (by omega)) (by omega)).trans hF⟩
    · obtain ⟨F, hF⟩ := b6'; exact ⟨F, (kt _ (ho _ (by omega) (by omega)) (by omega)).trans hF⟩
    · by_cases hi' : i = 6 * d + kd
      · subst hi'
        refine Or.inr ⟨l, k1, ⟨frS n, by rw [ham]; exact L3⟩, fun b hb => ?_⟩
        rw [ham] at hb
        exact t1 b hb
      · rcases gk i hi with h | ⟨l', h3, ⟨r', h4⟩, h5⟩
        · exact Or.inl h
        · refine Or.inr ⟨l', h3, ⟨r', h4.kT (fun b hb => kt b (fun z => ?_) (fun z => ?_))⟩, h5⟩
          · have := t1 b z
            have := h5 b hb
            omega
          · have := h5 b hb
            have := gt b (by omega) (by omega)
            omega
  rcases hkp _ hal with hn | ⟨l, h3, ⟨r, h4⟩, h5⟩
  · -- a new lock
    simp (disch := omega) only [ec_bipush (v := nI 6) dX3_turns_0 rfl, ec_iload_n (i := 1) dX3_turns_2 rfl, ec_imul dX3_turns_3, ec_iload_n (i := 2) dX3_turns_4 rfl, ec_iadd dX3_turns_5, ec_istore dX3_turns_6, ec_aload_n (i := 0) dX3_turns_8 rfl, ec_get dX3_turns_9, gw_2_17_2, ec_iload dX3_turns_12, ec_aald dX3_turns_14, raE_4, raE_5, raE_6, raE_7, raE_8, ec_ifnonnull (t := 37) dX3_turns_15 rfl, nuE_r, nuE_n, ec_aload_n (i := 0) dX3_turns_18 rfl, ec_get dX3_turns_19, ec_iload dX3_turns_22, ec_new dX3_turns_24 ncp_2_9 cSz_5 cDf_5, ec_dup dX3_turns_27, ec_iload_n (i := 2) dX3_turns_28 rfl, ec_cs1 dX3_turns_29 iN_2_60 ccp_2_60_99, ec_ci2 dX3_turns_33 iN_2_64 ccp_2_64_99, ec_aast dX3_turns_36, ec_aastN dX3_turns_36, rsE_r, rok_4, rok_4a, rok_5, rok_6, nsE_4, nsE_5, nsE_6, nsE_7, ec_get dX3_turns_38, gw_2_11_2, ec_iload_n (i := 1) dX3_turns_41 rfl, ec_aload_n (i := 0) dX3_turns_42 rfl, ec_get dX3_turns_43, ec_iload dX3_turns_46, ec_aald dX3_turns_48, ec_iload_n (i := 3) dX3_turns_49 rfl, ec_cv1 dX3_turns_50 iN_2_67 cna_2_67, vcE_o ccp_2_67_5, ec_aast dX3_turns_53, ec_aastN dX3_turns_53, ec_vret dX3_turns_54, cat1_i, cat1_r, cat1_u, catB_n, catB_i, catB_r, catB_l, catB_u, lg_0, lg_s, ldEI_i, ldEL_l, ldEA_r, ldEA_n, lin_0, lin_s, ls1_0, ls1_1, ls1_s, ls2_0, ls2_1, ls2_s, lcl_i, lcl_r, lcl_l, lcl_u, lcl_n, lent_i, lent_r, lent_l, lent_u, lent_0, lent_s, Option.toList_some, Option.toList_none, List.cons_append, List.nil_append, Nat.reduceAdd, true_and, vin_0, vin_s, aE_0, aE_s, EK_r, EK_t, List.set_cons_zero, List.set_cons_succ, va_rf_s, va_rf_n, pC_1, pC_21, aC_1, aC_21, gC_self, gC_new, eI_, eLg_, eV_, eInc_, eN_, eS_, eJ_, eCl_, nI_add, nI_mul, nI_subI, nI_clampI, inb_t, nI_lt0, nI_0le, nI_m1, nI_m1', nI_ofNat, bI_01, b01_0, b01_1, bI_eq0, bI_eq1, bb_01, true_or, or_true, false_or, or_false, eq_self, Nat.reduceAdd, Nat.reduceMul, Nat.reduceSub, Nat.reduceLT, Nat.reduceLeDiff, Nat.reduceEqDiff, ↓reduceIte, and_true, true_and, and_self, Nat.add_zero, Nat.zero_add, not_false_eq_true, not_true_eq_false, faV_n, faV_s, m1_lt0, m1_0le, m1_eq0, m1_le, le_m1, m1_lt, lt_m1, nI_100k, nI_100, upd_e, upd_n, pC_pC, gC_ne', gC_old', nI_lt_t, nI_lt_f, nI_le_t, nI_le_f, nI_eq_t, nI_eq_f, nI_eq0_t, nI_eq0_f, nI_0lt_t, nI_0lt_f, nI_le0_t, nI_le0_f, nI_eq1_t, nI_eq1_f, h0', b2, hn]
    refine c_mind (e := e) hk hw.aC (fun σ1 N1 => ?_)
    simp (disch := omega) only [ec_bipush (v := nI 6) dX3_turns_0 rfl, ec_iload_n (i := 1) dX3_turns_2 rfl, ec_imul dX3_turns_3, ec_iload_n (i := 2) dX3_turns_4 rfl, ec_iadd dX3_turns_5, ec_istore dX3_turns_6, ec_aload_n (i := 0) dX3_turns_8 rfl, ec_get dX3_turns_9, gw_2_17_2, ec_iload dX3_turns_12, ec_aald dX3_turns_14, raE_4, raE_5, raE_6, raE_7, raE_8, ec_ifnonnull (t := 37) dX3_turns_15 rfl, nuE_r, nuE_n, ec_aload_n (i := 0) dX3_turns_18 rfl, ec_get dX3_turns_19, ec_iload dX3_turns_22, ec_new dX3_turns_24 ncp_2_9 cSz_5 cDf_5, ec_dup dX3_turns_27, ec_iload_n (i := 2) dX3_turns_28 rfl, ec_cs1 dX3_turns_29 iN_2_60 ccp_2_60_99, ec_iload_n (i := 3) dX3_turns_32 rfl, ec_ci2 dX3_turns_33 iN_2_64 ccp_2_64_99, ec_get dX3_turns_38, gw_2_11_2, ec_iload_n (i := 1) dX3_turns_41 rfl, ec_aload_n (i := 0) dX3_turns_42 rfl, ec_get dX3_turns_43, ec_iload dX3_turns_46, ec_aald dX3_turns_48, ec_iload_n (i := 3) dX3_turns_49 rfl, ec_cv1 dX3_turns_50 iN_2_67 cna_2_67, vcE_o ccp_2_67_5, ec_aast dX3_turns_53, ec_aastN dX3_turns_53, rsE_r, rok_4, rok_4a, rok_5, rok_6, nsE_4, nsE_5, nsE_6, nsE_7, ec_vret dX3_turns_54, cat1_i, cat1_r, cat1_u, catB_n, catB_i, catB_r, catB_l, catB_u, lg_0, lg_s, ldEI_i, ldEL_l, ldEA_r, ldEA_n, lin_0, lin_s, ls1_0, ls1_1, ls1_s, ls2_0, ls2_1, ls2_s, lcl_i, lcl_r, lcl_l, lcl_u, lcl_n, lent_i, lent_r, lent_l, lent_u, lent_0, lent_s, Option.toList_some, Option.toList_none, List.cons_append, List.nil_append, Nat.reduceAdd, true_and, vin_0, vin_s, aE_0, aE_s, EK_r, EK_t, List.set_cons_zero, List.set_cons_succ, va_rf_s, va_rf_n, pC_1, pC_21, aC_1, aC_21, gC_self, gC_new, eI_, eLg_, eV_, eInc_, eN_, eS_, eJ_, eCl_, nI_add, nI_mul, nI_subI, nI_clampI, inb_t, nI_lt0, nI_0le, nI_m1, nI_m1', nI_ofNat, bI_01, b01_0, b01_1, bI_eq0, bI_eq1, bb_01, true_or, or_true, false_or, or_false, eq_self, Nat.reduceAdd, Nat.reduceMul, Nat.reduceSub, Nat.reduceLT, Nat.reduceLeDiff, Nat.reduceEqDiff, ↓reduceIte, and_true, true_and, and_self, Nat.add_zero, Nat.zero_add, not_false_eq_true, not_true_eq_false, faV_n, faV_s, m1_lt0, m1_0le, m1_eq0, m1_le, le_m1, m1_lt, lt_m1, nI_100k, nI_100, upd_e, upd_n, pC_pC, gC_ne', gC_old', nI_lt_t, nI_lt_f, nI_le_t, nI_le_f, nI_eq_t, nI_eq_f, nI_eq0_t, nI_eq0_f, nI_0lt_t, nI_0lt_f, nI_le0_t, nI_le0_f, nI_eq1_t, nI_eq1_f]
    refine c_linit (e := e + 3) hw N1 (fun σ2 N2 => ?_)
    obtain ⟨f2, z2, l2⟩ := N2
    have X2 : FX (owK ow σ.1 (t + 1 + (6 * d + kd))) t σ2 n0 fs lf kf := (hX.own hw (fun b hb => if_pos hb)).fr hw f2 (fun b _ z => z.elim)
    have w2 := f2.2.2.2
    obtain ⟨g0, gB, gt, -, gk⟩ := id X2
    have b2' := gB.2.1
    obtain ⟨lfs2, hlc2⟩ : ∃ fs, gC σ2 σ.1 = some (.inl (5, fs)) := ⟨_, l2.1⟩
    simp (disch := omega) only [ec_bipush (v := nI 6) dX3_turns_0 rfl, ec_iload_n (i := 1) dX3_turns_2 rfl, ec_imul dX3_turns_3, ec_iload_n (i := 2) dX3_turns_4 rfl, ec_iadd dX3_turns_5, ec_istore dX3_turns_6, ec_aload_n (i := 0) dX3_turns_8 rfl, ec_get dX3_turns_9, gw_2_17_2, ec_iload dX3_turns_12, ec_aald dX3_turns_14, raE_4, raE_5, raE_6, raE_7, raE_8, ec_ifnonnull (t := 37) dX3_turns_15 rfl, nuE_r, nuE_n, ec_aload_n (i := 0) dX3_turns_18 rfl, ec_get dX3_turns_19, ec_iload dX3_turns_22, ec_new dX3_turns_24 ncp_2_9 cSz_5 cDf_5, ec_dup dX3_turns_27, ec_iload_n (i := 2) dX3_turns_28 rfl, ec_cs1 dX3_turns_29 iN_2_60 ccp_2_60_99, ec_iload_n (i := 3) dX3_turns_32 rfl, ec_ci2 dX3_turns_33 iN_2_64 ccp_2_64_99, ec_aast dX3_turns_36, ec_aastN dX3_turns_36, rsE_r, rok_4, rok_4a, rok_5, rok_6, nsE_4, nsE_5, nsE_6, nsE_7, ec_get dX3_turns_38, gw_2_11_2, ec_iload_n (i := 1) dX3_turns_41 rfl, ec_aload_n (i := 0) dX3_turns_42 rfl, ec_get dX3_turns_43, ec_iload dX3_turns_46, ec_aald dX3_turns_48, ec_iload_n (i := 3) dX3_turns_49 rfl, ec_cv1 dX3_turns_50 iN_2_67 cna_2_67, vcE_o ccp_2_67_5, ec_aast dX3_turns_53, ec_aastN dX3_turns_53, ec_vret dX3_turns_54, cat1_i, cat1_r, cat1_u, catB_n, catB_i, catB_r, catB_l, catB_u, lg_0, lg_s, ldEI_i, ldEL_l, ldEA_r, ldEA_n, lin_0, lin_s, ls1_0, ls1_1, ls1_s, ls2_0, ls2_1, ls2_s, lcl_i, lcl_r, lcl_l, lcl_u, lcl_n, lent_i, lent_r, lent_l, lent_u, lent_0, lent_s, Option.toList_some, Option.toList_none, List.cons_append, List.nil_append, Nat.reduceAdd, true_and, vin_0, vin_s, aE_0, aE_s, EK_r, EK_t, List.set_cons_zero, List.set_cons_succ, va_rf_s, va_rf_n, pC_1, pC_21, aC_1, aC_21, gC_self, gC_new, eI_, eLg_, eV_, eInc_, eN_, eS_, eJ_, eCl_, nI_add, nI_mul, nI_subI, nI_clampI, inb_t, nI_lt0, nI_0le, nI_m1, nI_m1', nI_ofNat, bI_01, b01_0, b01_1, bI_eq0, bI_eq1, bb_01, true_or, or_true, false_or, or_false, eq_self, Nat.reduceAdd, Nat.reduceMul, Nat.reduceSub, Nat.reduceLT, Nat.reduceLeDiff, Nat.reduceEqDiff, ↓reduceIte, and_true, true_and, and_self, Nat.add_zero, Nat.zero_add, not_false_eq_true, not_true_eq_false, faV_n, faV_s, m1_lt0, m1_0le, m1_eq0, m1_le, le_m1, m1_lt, lt_m1, nI_100k, nI_100, upd_e, upd_n, pC_pC, gC_ne', gC_old', nI_lt_t, nI_lt_f, nI_le_t, nI_le_f, nI_eq_t, nI_eq_f, nI_eq0_t, nI_eq0_f, nI_0lt_t, nI_0lt_f, nI_le0_t, nI_le0_f, nI_eq1_t, nI_eq1_f, b2', hlc2]
    have S3 : Fs (fun b => b = n0 + 2) σ2 (pC σ2 (n0 + 2) (.inr (5, 30, .inr (.inr (.inr (.inr (va_up kf (6 * d + kd) (some σ.1)))))))) := Fs.rf.p b2' rfl
    generalize hσ3 : pC σ2 (n0 + 2) (.inr (5, 30, .inr (.inr (.inr (.inr (va_up kf (6 * d + kd) (some σ.1))))))) = σ3 at S3
    have g32 : gC σ3 (n0 + 2) = some (.inr (5, 30, .inr (.inr (.inr (.inr (va_up kf (6 * d + kd) (some σ.1))))))) := by rw [← hσ3]; exact gC_self
    have kt : ∀ b, b ≠ n0 + 2 → gC σ3 b = gC σ2 b := fun b hb => S3.2.2.1 b hb
    obtain ⟨b1'', b2'', b3', b4', b5', b6'⟩ := gB
    have tl : ∀ b, LkT kd σ.1 b → owK ow σ.1 (t + 1 + (6 * d + kd)) b = t + 1 + (6 * d + kd) := fun b hb => if_neg (by unfold LkT at hb; omega)
    have L3 : LockAt σ3 σ.1 kd (frS n) := l2.kT (fun b hb => kt b (fun z => by unfold LkT at hb; omega))
    refine fin σ3 (owK ow σ.1 (t + 1 + (6 * d + kd))) (va_up kf (6 * d + kd) (some σ.1)) σ.1 (frS n) (fun b hb => if_pos hb) ((f2.sub (fun b _ z => z.elim) (Nat.le_refl _) (Nat.le_refl _)).n S3 (fun b hb => Or.inr (Or.inl (by rw [hb]; exact ht _ (by omega) (by omega))))) ⟨(kt _ (by omega)).trans g0, ⟨(kt _ (by omega)).trans b1'', g32, ?_, (kt _ (by omega)).trans b4', fun j hj => ?_, ?_⟩, gt, h2, fun i hi => ?_⟩ (by unfold va_up; rw [if_pos rfl]) (fun i hi => by unfold va_up; rw [if_neg hi]) L3 tl (fun b hb hlt => by unfold LkT at hb; omega) (Or.inl hn)
    · obtain ⟨F, hF⟩ := b3'; exact ⟨F, (kt _ (by omega)).trans hF⟩
    · obtain ⟨F, hF⟩ := b5' j hj; exact ⟨F, (kt _ (by omega)).trans hF⟩
    · obtain ⟨F, hF⟩ := b6'; exact ⟨F, (kt _ (by omega)).trans hF⟩
    · unfold va_up
      by_cases hi' : i = 6 * d + kd
      · subst hi'
        refine Or.inr ⟨σ.1, if_pos rfl, ⟨frS n, by rw [ham]; exact L3⟩, fun b hb => ?_⟩
        rw [ham] at hb
        exact tl b hb
      · rw [if_neg hi']
        rcases gk i hi with h | ⟨l', h3, ⟨r', h4⟩, h5⟩
        · exact Or.inl h
        · refine Or.inr ⟨l', h3, ⟨r', h4.kT (fun b hb => kt b (fun z => ?_))⟩, h5⟩
          have := h5 b hb
          have := gt b (by omega) (by omega)
          omega
  · simp (disch := omega) only [ec_bipush (v := nI 6) dX3_turns_0 rfl, ec_iload_n (i := 1) dX3_turns_2 rfl, ec_imul dX3_turns_3, ec_iload_n (i := 2) dX3_turns_4 rfl, ec_iadd dX3_turns_5, ec_istore dX3_turns_6, ec_aload_n (i := 0) dX3_turns_8 rfl, ec_get dX3_turns_9, gw_2_17_2, ec_iload dX3_turns_12, ec_aald dX3_turns_14, raE_4, raE_5, raE_6, raE_7, raE_8, ec_ifnonnull (t := 37) dX3_turns_15 rfl, nuE_r, nuE_n, ec_aload_n (i := 0) dX3_turns_18 rfl, ec_get dX3_turns_19, ec_iload dX3_turns_22, ec_new dX3_turns_24 ncp_2_9 cSz_5 cDf_5, ec_dup dX3_turns_27, ec_iload_n (i := 2) dX3_turns_28 rfl, ec_cs1 dX3_turns_29 iN_2_60 ccp_2_60_99, ec_iload_n (i := 3) dX3_turns_32 rfl, ec_ci2 dX3_turns_33 iN_2_64 ccp_2_64_99, ec_aast dX3_turns_36, ec_aastN dX3_turns_36, rsE_r, rok_4, rok_4a, rok_5, rok_6, nsE_4, nsE_5, nsE_6, nsE_7, ec_get dX3_turns_38, gw_2_11_2, ec_iload_n (i := 1) dX3_turns_41 rfl, ec_aload_n (i := 0) dX3_turns_42 rfl, ec_get dX3_turns_43, ec_iload dX3_turns_46, ec_aald dX3_turns_48, ec_iload_n (i := 3) dX3_turns_49 rfl, ec_cv1 dX3_turns_50 iN_2_67 cna_2_67, vcE_o ccp_2_67_5, ec_aast dX3_turns_53, ec_aastN dX3_turns_53, ec_vret dX3_turns_54, cat1_i, cat1_r, cat1_u, catB_n, catB_i, catB_r, catB_l, catB_u, lg_0, lg_s, ldEI_i, ldEL_l, ldEA_r, ldEA_n, lin_0, lin_s, ls1_0, ls1_1, ls1_s, ls2_0, ls2_1, ls2_s, lcl_i, lcl_r, lcl_l, lcl_u, lcl_n, lent_i, lent_r, lent_l, lent_u, lent_0, lent_s, Option.toList_some, Option.toList_none, List.cons_append, List.nil_append, Nat.reduceAdd, true_and, vin_0, vin_s, aE_0, aE_s, EK_r, EK_t, List.set_cons_zero, List.set_cons_succ, va_rf_s, va_rf_n, pC_1, pC_21, aC_1, aC_21, gC_self, gC_new, eI_, eLg_, eV_, eInc_, eN_, eS_, eJ_, eCl_, nI_add, nI_mul, nI_subI, nI_clampI, inb_t, nI_lt0, nI_0le, nI_m1, nI_m1', nI_ofNat, bI_01, b01_0, b01_1, bI_eq0, bI_eq1, bb_01, true_or, or_true, false_or, or_false, eq_self, Nat.reduceAdd, Nat.reduceMul, Nat.reduceSub, Nat.reduceLT, Nat.reduceLeDiff, Nat.reduceEqDiff, ↓reduceIte, and_true, true_and, and_self, Nat.add_zero, Nat.zero_add, not_false_eq_true, not_true_eq_false, faV_n, faV_s, m1_lt0, m1_0le, m1_eq0, m1_le, le_m1, m1_lt, lt_m1, nI_100k, nI_100, upd_e, upd_n, pC_pC, gC_ne', gC_old', nI_lt_t, nI_lt_f, nI_le_t, nI_le_f, nI_eq_t, nI_eq_f, nI_eq0_t, nI_eq0_f, nI_0lt_t, nI_0lt_f, nI_le0_t, nI_le0_f, nI_eq1_t, nI_eq1_f, h0', b2, h3]
    rw [ham] at h4 h5
    exact fin σ ow kf l r (fun _ _ => rfl) ((Fr.rf hw).sub (fun b _ z => z) (by omega) (by omega)) hX h3 (fun _ _ => rfl) h4 h5 (fun b hb _ => h5 b hb) (Or.inr ⟨rfl, rfl⟩)
end
