set_option maxRecDepth 100000
/-! THE COMPONENT: a door tried again and again, try by try kept as it was -/
def szL (kd : Nat) : Nat := if kd = 5 then 2 else 3
/-- the object, its array of locks -/
def DpO (σ : CM) (dp rw lk x0 : Nat) : Prop := ((∃ v : Int32, gC σ dp = some (.inl (31, [.ref rw, .ref lk, .ref x0, .int v, .ref x0]))) ∨ gC σ dp = some (.inl (32, [.ref rw, .ref lk, .ref x0, .ref x0])))
section
variable {zs : Nat → Nat} {e : Nat} {σ : CM} {P : CR → Prop} {ow tl : Nat → Nat} {t n0 qa fx : Nat} {q : QT} {s L : Nat → Nat} {x0 hl : Nat} {op al : Int32} {gg : Int64} {A : Nat → Nat} {B : Nat} {dp rw lk : Nat}
theorem c_db_lo {d : Nat} (hq : QOK q) (hd : d < qD q) (hw : HW σ) (hO : SO B s) (hR : gC σ x0 = some (.inl (0, rtF n0 hl op al gg A))) (hN : NightAt ow t tl σ n0 qa fx q s L) (hLk : Apt ow tl t q (fun b => b = lk)) (hg0 : ∃ lf, gC σ lk = some (.inr (5, 5, .inr (.inr (.inr (.inr lf)))))) (hDP : DpO σ dp rw lk x0) (hP : ∀ σ' lf, Fr (fun b => b = lk) 15 245 σ σ' → σ'.1 = σ.1 + 5 * szL (qDk q d) → gC σ' lk = some (.inr (5, 5, .inr (.inr (.inr (.inr lf))))) → (∀ j, j < 5 → lf j = some (σ.1 + szL (qDk q d) * j) ∧ LockAt σ' (σ.1 + szL (qDk q d) * j) (qDk q d) (rowOf s d)) → P (.inl none, σ')) : ∀ (i k : Nat), k + i = 5 → ∀ σ1 lf, Fr (fun b => b = lk) (3 * k) (49 * k) σ σ1 → σ1.1 = σ.1 + szL (qDk q d) * k → gC σ1 lk = some (.inr (5, 5, .inr (.inr (.inr (.inr lf))))) → (∀ j, j < k → lf j = some (σ.1 + szL (qDk q d) * j) ∧ LockAt σ1 (σ.1 + szL (qDk q d) * j) (qDk q d) (rowOf s d)) → EC zs (Jc zs) (e + 5) cX14_begins none 43 0 2 [some (.ref dp), some (.int (nI d)), some (.int (nI k))] [] σ1 P
  | 0, k, hk, σ1, lf, F1, e1, g1, hls => by
    have hk' : k = 5 := by omega
    subst hk'
    simp (disch := omega) only [ec_iconst (v := nI 0) dX14_begins_0 rfl, ec_istore_n (i := 2) dX14_begins_1 rfl, ec_iload_n (i := 2) dX14_begins_2 rfl, ec_iconst (v := nI 4) dX14_begins_3 rfl, ec_icmp_gt (t := 34) dX14_begins_4 rfl, ec_aload_n (i := 0) dX14_begins_7 rfl, ec_get dX14_begins_8, gw_43_21_31, gw_43_21_32, ec_iload_n (i := 2) dX14_begins_11 rfl, ec_aload_n (i := 0) dX14_begins_12 rfl, ec_get dX14_begins_13, gw_43_3_31, gw_43_3_32, ec_get dX14_begins_16, gw_43_25_0, ec_get dX14_begins_19, gw_43_29_2, ec_iload_n (i := 1) dX14_begins_22 rfl, ec_aald dX14_begins_23, raE_4, raE_5, raE_6, raE_7, raE_8, ec_cv0 dX14_begins_24 iN_43_32 cna_43_32, vcE_o ccp_43_32_5, ec_aast dX14_begins_27, ec_aastN dX14_begins_27, rsE_r, rok_4, rok_4a, rok_5, rok_6, nsE_4, nsE_5, nsE_6, nsE_7, ec_iinc (v := nI 1) dX14_begins_28 rfl, ec_goto (t := 2) dX14_begins_31 rfl, ec_vret dX14_begins_34, cat1_i, cat1_r, cat1_u, catB_n, catB_i, catB_r, catB_l, catB_u, lg_0, lg_s, ldEI_i, ldEL_l, ldEA_r, ldEA_n, lin_0, lin_s, ls1_0, ls1_1, ls1_s, ls2_0, ls2_1, ls2_s, lcl_i, lcl_r, lcl_l, lcl_u, lcl_n, lent_i, lent_r, lent_l, lent_u, lent_0, lent_s, Option.toList_some, Option.toList_none, List.cons_append, List.nil_append, Nat.reduceAdd, true_and, vin_0, vin_s, aE_0, aE_s, EK_r, EK_t, List.set_cons_zero, List.set_cons_succ, va_rf_s, va_rf_n, pC_1, pC_21, aC_1, aC_21, gC_self, gC_new, eI_, eLg_, eV_, eInc_, eN_, eS_, eJ_, eCl_, nI_add, nI_mul, nI_subI, nI_clampI, inb_t, nI_lt0, nI_0le, nI_m1, nI_m1', nI_ofNat, bI_01, b01_0, b01_1, bI_eq0, bI_eq1, bb_01, true_or, or_true, false_or, or_false, eq_self, Nat.reduceAdd, Nat.reduceMul, Nat.reduceSub, Nat.reduceLT, Nat.reduceLeDiff, Nat.reduceEqDiff, ↓reduceIte, and_true, true_and, and_self, Nat.add_zero, Nat.zero_add, not_false_eq_true, not_true_eq_false, faV_n, faV_s, m1_lt0, m1_0le, m1_eq0, m1_le, le_m1, m1_lt, lt_m1, nI_100k, nI_100, upd_e, upd_n, pC_pC, gC_ne', gC_old', nI_lt_t, nI_lt_f, nI_le_t, nI_le_f, nI_eq_t, nI_eq_f, nI_eq0_t, nI_eq0_f, nI_0lt_t, nI_0lt_f, nI_le0_t, nI_le0_f, nI_eq1_t, nI_eq1_f]
    exact hP σ1 lf (F1.sub (fun _ _ z => z) (by omega) (by omega)) (by rw [e1, Nat.mul_comm]) g1 hls
  | i + 1, k, hk, σ1, lf, F1, e1, g1, hls => by
    have hD := hq.1.2.1
    have hw1 := F1.2.2.2
    have hk5 := (hq.2.2.2.1 d hd).1
    have r11 := (hO d (by omega)).2.2.2.1
    have r5 := (hO d (by omega)).2.2.1
    have hsz : szL (qDk q d) = 2 ∨ szL (qDk q d) = 3 := by unfold szL; split <;> omega
    have N1 : NightAt ow t tl σ1 n0 qa fx q s L := hN.fr hw F1 (fun b _ hb => hLk b hb)
    have hxl := hw _ _ hR
    obtain ⟨lf0, hg0'⟩ := id hg0
    have hlk0 := hw _ _ hg0'
    have nx : x0 ≠ lk := fun z => by rw [z, hg0'] at hR; cases hR
    have nd : dp ≠ lk := fun z => by
      rcases hDP with ⟨v, h⟩ | h
      · rw [z, hg0'] at h; cases h
      · rw [z, hg0'] at h; cases h
    have R1 : gC σ1 x0 = some (.inl (0, rtF n0 hl op al gg A)) := F1.g hxl (fun z => nx z) hR
    have D1 : DpO σ1 dp rw lk x0 := by
      rcases hDP with ⟨v, h⟩ | h
      · exact Or.inl ⟨v, F1.g (hw _ _ h) (fun z => nd z) h⟩
      · exact Or.inr (F1.g (hw _ _ h) (fun z => nd z) h)
    have R1' := R1
    unfold rtF at R1'
    have h0 := N1.1.1
    unfold nFs at h0
    obtain ⟨lfn, kfn, b1, hlfn, -, hL⟩ := N1.lk hd
    have hlc := hL.1
    have l1 : lk < σ1.1 := by have := F1.1.1; omega
    have fin : EC zs (Jc zs) (e + 4) cX6_copied (some (.object "KnowLocks$Lock")) 5 0 0 [some (.ref (L d)), none] [] σ1 (EK zs (Jc zs) (e + 4 + 1) cX14_begins none 43 0 24 [some (.ref dp), some (.int (nI d)), some (.int (nI k))] [.int (nI k), .ref lk] P) := by
      refine c_lcopied (e := e) hL hk5 r11 r5 hw1 (fun σ2 N2 => ?_)
      obtain ⟨F2, e2, L2⟩ := N2
      have e2' : σ2.1 = σ1.1 + szL (qDk q d) := e2
      have g2 : gC σ2 lk = some (.inr (5, 5, .inr (.inr (.inr (.inr lf))))) := F2.g l1 (fun z => z) g1
      obtain ⟨lfs, hlc2⟩ : ∃ fs, gC σ2 σ1.1 = some (.inl (5, fs)) := ⟨_, L2.1⟩
      simp (disch := omega) only [ec_iconst (v := nI 0) dX14_begins_0 rfl, ec_istore_n (i := 2) dX14_begins_1 rfl, ec_iconst (v := nI 4) dX14_begins_3 rfl, ec_icmp_gt (t := 34) dX14_begins_4 rfl, ec_aload_n (i := 0) dX14_begins_7 rfl, ec_get dX14_begins_8, gw_43_21_31, gw_43_21_32, ec_iload_n (i := 2) dX14_begins_11 rfl, ec_aload_n (i := 0) dX14_begins_12 rfl, ec_get dX14_begins_13, gw_43_3_31, gw_43_3_32, ec_get dX14_begins_16, gw_43_25_0, ec_get dX14_begins_19, gw_43_29_2, ec_iload_n (i := 1) dX14_begins_22 rfl, ec_aald dX14_begins_23, raE_4, raE_5, raE_6, raE_7, raE_8, ec_cv0 dX14_begins_24 iN_43_32 cna_43_32, vcE_o ccp_43_32_5, ec_aast dX14_begins_27, ec_aastN dX14_begins_27, rsE_r, rok_4, rok_4a, rok_5, rok_6, nsE_4, nsE_5, nsE_6, nsE_7, ec_iinc (v := nI 1) dX14_begins_28 rfl, ec_goto (t := 2) dX14_begins_31 rfl, ec_vret dX14_begins_34, cat1_i, cat1_r, cat1_u, catB_n, catB_i, catB_r, catB_l, catB_u, lg_0, lg_s, ldEI_i, ldEL_l, ldEA_r, ldEA_n, lin_0, lin_s, ls1_0, ls1_1, ls1_s, ls2_0, ls2_1, ls2_s, lcl_i, lcl_r, lcl_l, lcl_u, lcl_n, lent_i, lent_r, lent_l, lent_u, lent_0, lent_s, Option.toList_some, Option.toList_none, List.cons_append, List.nil_append, Nat.reduceAdd, true_and, vin_0, vin_s, aE_0, aE_s, EK_r, EK_t, List.set_cons_zero, List.set_cons_succ, va_rf_s, va_rf_n, pC_1, pC_21, aC_1, aC_21, gC_self, gC_new, eI_, eLg_, eV_, eInc_, eN_, eS_, eJ_, eCl_, nI_add, nI_mul, nI_subI, nI_clampI, inb_t, nI_lt0, nI_0le, nI_m1, nI_m1', nI_ofNat, bI_01, b01_0, b01_1, bI_eq0, bI_eq1, bb_01, true_or, or_true, false_or, or_false, eq_self, Nat.reduceAdd, Nat.reduceMul, Nat.reduceSub, Nat.reduceLT, Nat.reduceLeDiff, Nat.reduceEqDiff, ↓reduceIte, and_true, true_and, and_self, Nat.add_zero, Nat.zero_add, not_false_eq_true, not_true_eq_false, faV_n, faV_s, m1_lt0, m1_0le, m1_eq0, m1_le, le_m1, m1_lt, lt_m1, nI_100k, nI_100, upd_e, upd_n, pC_pC, gC_ne', gC_old', nI_lt_t, nI_lt_f, nI_le_t, nI_le_f, nI_eq_t, nI_eq_f, nI_eq0_t, nI_eq0_f, nI_0lt_t, nI_0lt_f, nI_le0_t, nI_le0_f, nI_eq1_t, nI_eq1_f, g2, hlc2]
      have S3 : Fs (fun b => b = lk) σ2 (pC σ2 lk (.inr (5, 5, .inr (.inr (.inr (.inr (va_up lf k (some σ1.1)))))))) := Fs.rf.p g2 rfl
      refine c_db_lo hq hd hw hO hR hN hLk hg0 hDP hP i (k + 1) (by omega) _ (va_up lf k (some σ1.1)) (((F1.tn F2 (fun b z => z.elim)).n S3 (fun b hb => Or.inr hb)).sub (fun _ _ z => z) (by omega) (by omega)) (by show σ2.1 = _; rw [e2', e1, Nat.mul_add]; omega) gC_self (fun j hj => ?_)
      by_cases hjk : j = k
      · subst hjk
        rw [← e1]
        exact ⟨if_pos rfl, L2.kT (fun b hb => gC_ne (fun z => by unfold LkT at hb; omega))⟩
      · have hj := hls j (by omega)
        have hle : szL (qDk q d) * (j + 1) ≤ szL (qDk q d) * k := Nat.mul_le_mul_left _ (by omega)
        rw [Nat.mul_add] at hle
        refine ⟨(if_neg hjk).trans hj.1, hj.2.kT (fun b hb => ?_)⟩
        have hb1 := hj.2.ltT hw1 hb
        rw [gC_ne (fun z => by unfold LkT at hb; omega)]
        exact F2.2.2.1 b hb1 (fun z => z)
    rw [ec_iload_n (i := 2) dX14_begins_2 rfl]
    rcases D1 with ⟨v, h⟩ | h
    · simp (disch := omega) only [ec_iconst (v := nI 0) dX14_begins_0 rfl, ec_istore_n (i := 2) dX14_begins_1 rfl, ec_iconst (v := nI 4) dX14_begins_3 rfl, ec_icmp_gt (t := 34) dX14_begins_4 rfl, ec_aload_n (i := 0) dX14_begins_7 rfl, ec_get dX14_begins_8, gw_43_21_31, gw_43_21_32, ec_iload_n (i := 2) dX14_begins_11 rfl, ec_aload_n (i := 0) dX14_begins_12 rfl, ec_get dX14_begins_13, gw_43_3_31, gw_43_3_32, ec_get dX14_begins_16, gw_43_25_0, ec_get dX14_begins_19, gw_43_29_2, ec_iload_n (i := 1) dX14_begins_22 rfl, ec_aald dX14_begins_23, raE_4, raE_5, raE_6, raE_7, raE_8, ec_cv0 dX14_begins_24 iN_43_32 cna_43_32, vcE_o ccp_43_32_5, ec_aast dX14_begins_27, ec_aastN dX14_begins_27, rsE_r, rok_4, rok_4a, rok_5, rok_6, nsE_4, nsE_5, nsE_6, nsE_7, ec_iinc (v := nI 1) dX14_begins_28 rfl, ec_goto (t := 2) dX14_begins_31 rfl, ec_vret dX14_begins_34, cat1_i, cat1_r, cat1_u, catB_n, catB_i, catB_r, catB_l, catB_u, lg_0, lg_s, ldEI_i, ldEL_l, ldEA_r, ldEA_n, lin_0, lin_s, ls1_0, ls1_1, ls1_s, ls2_0, ls2_1, ls2_s, lcl_i, lcl_r, lcl_l, lcl_u, lcl_n, lent_i, lent_r, lent_l, lent_u, lent_0, lent_s, Option.toList_some, Option.toList_none, List.cons_append, List.nil_append, Nat.reduceAdd, true_and, vin_0, vin_s, aE_0, aE_s, EK_r, EK_t, List.set_cons_zero, List.set_cons_succ, va_rf_s, va_rf_n, pC_1, pC_21, aC_1, aC_21, gC_self, gC_new, eI_, eLg_, eV_, eInc_, eN_, eS_, eJ_, eCl_, nI_add, nI_mul, nI_subI, nI_clampI, inb_t, nI_lt0, nI_0le, nI_m1, nI_m1', nI_ofNat, bI_01, b01_0, b01_1, bI_eq0, bI_eq1, bb_01, true_or, or_true, false_or, or_false, eq_self, Nat.reduceAdd, Nat.reduceMul, Nat.reduceSub, Nat.reduceLT, Nat.reduceLeDiff, Nat.reduceEqDiff, ↓reduceIte, and_true, true_and, and_self, Nat.add_zero, Nat.zero_add, not_false_eq_true, not_true_eq_false, faV_n, faV_s, m1_lt0, m1_0le, m1_eq0, m1_le, le_m1, m1_lt, lt_m1, nI_100k, nI_100, upd_e, upd_n, pC_pC, gC_ne', gC_old', nI_lt_t, nI_lt_f, nI_le_t, nI_le_f, nI_eq_t, nI_eq_f, nI_eq0_t, nI_eq0_f, nI_0lt_t, nI_0lt_f, nI_le0_t, nI_le0_f, nI_eq1_t, nI_eq1_f, h, R1', h0, b1, hlfn, hlc]
      exact fin
    · simp (disch := omega) only [ec_iconst (v := nI 0) dX14_begins_0 rfl, ec_istore_n (i := 2) dX14_begins_1 rfl, ec_iconst (v := nI 4) dX14_begins_3 rfl, ec_icmp_gt (t := 34) dX14_begins_4 rfl, ec_aload_n (i := 0) dX14_begins_7 rfl, ec_get dX14_begins_8, gw_43_21_31, gw_43_21_32, ec_iload_n (i := 2) dX14_begins_11 rfl, ec_aload_n (i := 0) dX14_begins_12 rfl, ec_get dX14_begins_13, gw_43_3_31, gw_43_3_32, ec_get dX14_begins_16, gw_43_25_0, ec_get dX14_begins_19, gw_43_29_2, ec_iload_n (i := 1) dX14_begins_22 rfl, ec_aald dX14_begins_23, raE_4, raE_5, raE_6, raE_7, raE_8, ec_cv0 dX14_begins_24 iN_43_32 cna_43_32, vcE_o ccp_43_32_5, ec_aast dX14_begins_27, ec_aastN dX14_begins_27, rsE_r, rok_4, rok_4a, rok_5, rok_6, nsE_4, nsE_5, nsE_6, nsE_7, ec_iinc (v := nI 1) dX14_begins_28 rfl, ec_goto (t := 2) dX14_begins_31 rfl, ec_vret dX14_begins_34, cat1_i, cat1_r, cat1_u, catB_n, catB_i, catB_r, catB_l, catB_u, lg_0, lg_s, ldEI_i, ldEL_l, ldEA_r, ldEA_n, lin_0, lin_s, ls1_0, ls1_1, ls1_s, ls2_0, ls2_1, ls2_s, lcl_i, lcl_r, lcl_l, lcl_u, lcl_n, lent_i, lent_r, lent_l, lent_u, lent_0, lent_s, Option.toList_some, Option.toList_none, List.cons_append, List.nil_append, Nat.reduceAdd, true_and, vin_0, vin_s, aE_0, aE_s, EK_r, EK_t, List.set_cons_zero, List.set_cons_succ, va_rf_s, va_rf_n, pC_1, pC_21, aC_1, aC_21, gC_self, gC_new, eI_, eLg_, eV_, eInc_, eN_, eS_, eJ_, eCl_, nI_add, nI_mul, nI_subI, nI_clampI, inb_t, nI_lt0, nI_0le, nI_m1, nI_m1', nI_ofNat, bI_01, b01_0, b01_1, bI_eq0, bI_eq1, bb_01, true_or, or_true, false_or, or_false, eq_self, Nat.reduceAdd, Nat.reduceMul, Nat.reduceSub, Nat.reduceLT, Nat.reduceLeDiff, Nat.reduceEqDiff, ↓reduceIte, and_true, true_and, and_self, Nat.add_zero, Nat.zero_add, not_false_eq_true, not_true_eq_false, faV_n, faV_s, m1_lt0, m1_0le, m1_eq0, m1_le, le_m1, m1_lt, lt_m1, nI_100k, nI_100, upd_e, upd_n, pC_pC, gC_ne', gC_old', nI_lt_t, nI_lt_f, nI_le_t, nI_le_f, nI_eq_t, nI_eq_f, nI_eq0_t, nI_eq0_f, nI_0lt_t, nI_0lt_f, nI_le0_t, nI_le0_f, nI_eq1_t, nI_eq1_f, h, R1', h0, b1, hlfn, hlc]
      exact fin
end
