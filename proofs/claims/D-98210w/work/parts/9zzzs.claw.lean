set_option maxRecDepth 100000
/-! THE COMPONENT's reader: laws of learning, of feeling -/
/-- codes that mean a law: it asks for its facts alone -/
theorem CdOK.dep {n : Nat} {ix : Nat → Nat} {cs : List Nat} {F : Law} (h : CdOK n ix cs F) (hi : ∀ i j, i < n → j < n → ix i = ix j → i = j) : LDep n F := by
  intro φ ψ hφ
  classical
  have key : ∃ u : Nat → Int32, ∀ i, i < n → u (ix i) = φ i := by
    refine ⟨fun c => if h : ∃ i, i < n ∧ ix i = c then φ (Classical.choose h) else 0, fun i hi' => ?_⟩
    have hex : ∃ j, j < n ∧ ix j = ix i := ⟨i, hi', rfl⟩
    show (if h : ∃ j, j < n ∧ ix j = ix i then φ (Classical.choose h) else 0) = φ i
    rw [dif_pos hex]
    have := Classical.choose_spec hex
    rw [hi _ _ this.1 hi' this.2]
  obtain ⟨u, hu⟩ := key
  obtain ⟨f1, r1, e1⟩ := h.2 u φ (fun i hi' => (hu i hi').symm)
  obtain ⟨f2, r2, e2⟩ := h.2 u ψ (fun i hi' => (hφ i hi').symm.trans (hu i hi').symm)
  rw [r1] at r2
  cases r2
  rw [e1] at e2
  exact Option.some.inj e2
theorem fcC_inj {fl : Bool} : ∀ i j, i < nF fl → j < nF fl → fcC fl i = fcC fl j → i = j := by
  cases fl with
  | true =>
    intro i j h1 h2
    have h1 : i < 4 := h1
    have h2 : j < 4 := h2
    have a1 : i = 0 ∨ i = 1 ∨ i = 2 ∨ i = 3 := by omega
    have a2 : j = 0 ∨ j = 1 ∨ j = 2 ∨ j = 3 := by omega
    rcases a1 with rfl | rfl | rfl | rfl <;> rcases a2 with rfl | rfl | rfl | rfl <;> decide
  | false =>
    intro i j h1 h2
    have h1 : i < 6 := h1
    have h2 : j < 6 := h2
    have a1 : i = 0 ∨ i = 1 ∨ i = 2 ∨ i = 3 ∨ i = 4 ∨ i = 5 := by omega
    have a2 : j = 0 ∨ j = 1 ∨ j = 2 ∨ j = 3 ∨ j = 4 ∨ j = 5 := by omega
    rcases a1 with rfl | rfl | rfl | rfl | rfl | rfl <;> rcases a2 with rfl | rfl | rfl | rfl | rfl | rfl <;> decide
theorem TkB.dr {all : List Tk} {a : Nat} (h : TkB all) : TkB (all.drop a) := h.s (fun z hz => List.mem_of_mem_drop hz)
section
variable {zs w : Nat → Nat} {e : Nat} {σ : CM} {P : CR → Prop} {ra lo : Nat} {C : Nat → Nat} {all : List Tk} {hg : Int32} {fa : Nat} {tp : Int32} {a dp : Nat} {q : QT} {g : Bool} {dr : Value}
theorem c_learn (hZ : ZS zs) (hB : TkB all) (hw : HW σ) (hC : ∀ k, k < 10 → k ≠ 6 → C k < lo) (hE : RdE zs σ ra C all (.ref lo) (bI g) fa tp a dp) (hD : DrO zs w lo ra σ q a) (hn : a + 1 < all.length) (hP : ∀ r, StR zs all ra C tp lo σ a g (xLaw q 0 (all.drop a)) r → P r) : EC zs (Jc zs) (e + 40) cX2_learn none 1 0 0 [some (.ref ra)] [] σ P := by
  obtain ⟨⟨l0, -⟩, -⟩ := hE.x
  have h1 := hE.1
  unfold rdF at h1
  unfold xLaw at hP
  obtain ⟨hd, ch, nd, cn, sd, cs, hx, mx, dx, sx, xl, xe, ⟨r1, r2⟩, h1s, h2, h3, h4, h5, h6, ⟨b1, b2, b3, b4⟩, c1, c2, c3, c4⟩ := hD
  have hlw := hw _ _ r1
  have r1' := r1
  unfold qFs at r1'
  have hl5 := h5.1
  unfold qL at hl5
  cases hq : q.2.2.2 0 with
  | some F =>
    rw [hq] at hP hl5
    rw [if_pos (show (some F).isSome = true from rfl)] at hP
    obtain ⟨⟨ea, m, rfl, hm, hX⟩, -⟩ := hl5
    have wr := fun P => c_wrong (e := e + 38) (P := P) (k := 3) (by omega) hw hE
    simp (disch := omega) only [ec_aload_n (i := 0) dX2_learn_0 rfl, ec_get dX2_learn_1, gw_1_191_1, ec_get dX2_learn_4, gw_1_309_3, ec_ifnull (t := 16) dX2_learn_7 rfl, nuE_r, nuE_n, ec_aload_n (i := 0) dX2_learn_10 rfl, ec_iconst (v := nI 3) dX2_learn_11 rfl, ec_cv1 dX2_learn_12 iN_1_178 cna_1_178, vcE_o ccp_1_178_1, ec_athrow dX2_learn_15, ET_0 (thrP_a dX2_learn_15), ec_aload_n (i := 0) dX2_learn_16 rfl, ec_get dX2_learn_17, ec_aload_n (i := 0) dX2_learn_20 rfl, ec_aload_n (i := 0) dX2_learn_21 rfl, ec_get dX2_learn_22, gw_1_23_1, ec_cv1 dX2_learn_25 iN_1_312 cna_1_312, vcE_o ccp_1_312_1, ET_0 (thrP_c (o := 1) dX2_learn_25 rfl), ec_put dX2_learn_28, pw_1_0_309_3, pn_1_0_309_3, ec_vret dX2_learn_31, cat1_i, cat1_r, cat1_u, catB_n, catB_i, catB_r, catB_l, catB_u, lg_0, lg_s, ldEI_i, ldEL_l, ldEA_r, ldEA_n, lin_0, lin_s, ls1_0, ls1_1, ls1_s, ls2_0, ls2_1, ls2_s, lcl_i, lcl_r, lcl_l, lcl_u, lcl_n, lent_i, lent_r, lent_l, lent_u, lent_0, lent_s, Option.toList_some, Option.toList_none, List.cons_append, List.nil_append, Nat.reduceAdd, true_and, vin_0, vin_s, aE_0, aE_s, EK_r, EK_t, List.set_cons_zero, List.set_cons_succ, va_rf_s, va_rf_n, pC_1, pC_21, aC_1, aC_21, gC_self, gC_new, eI_, eLg_, eV_, eInc_, eN_, eS_, eJ_, eCl_, nI_add, nI_mul, nI_subI, nI_clampI, inb_t, nI_lt0, nI_0le, nI_m1, nI_m1', nI_ofNat, bI_01, b01_0, b01_1, bI_eq0, bI_eq1, bb_01, true_or, or_true, false_or, or_false, eq_self, Nat.reduceAdd, Nat.reduceMul, Nat.reduceSub, Nat.reduceLT, Nat.reduceLeDiff, Nat.reduceEqDiff, ↓reduceIte, and_true, true_and, and_self, Nat.add_zero, Nat.zero_add, not_false_eq_true, not_true_eq_false, faV_n, faV_s, m1_lt0, m1_0le, m1_eq0, m1_le, le_m1, m1_lt, lt_m1, nI_100k, nI_100, upd_e, upd_n, pC_pC, gC_ne', gC_old', nI_lt_t, nI_lt_f, nI_le_t, nI_le_f, nI_eq_t, nI_eq_f, nI_eq0_t, nI_eq0_f, nI_0lt_t, nI_0lt_f, nI_le0_t, nI_le0_f, nI_eq1_t, nI_eq1_f, h1, r1', wr]
    exact hP _ (ErR.tr (Fr.rf hw) (ErR.w (S := fun b => b = ra ∨ lo ≤ b) hw hE) (fun b z => Or.inr z) (by omega) (by omega))
  | none =>
    rw [hq] at hP hl5
    rw [if_neg (by decide), tl_drop] at hP
    have hl5 : xl = .null := hl5
    subst hl5
    have E1 : RdE zs (rdP σ ra C (.ref lo) (bI g) (C 0) tp (a + 1) 0) ra C all (.ref lo) (bI g) (C 0) tp (a + 1) 0 := hE.rp hn
    have w1 : HW (rdP σ ra C (.ref lo) (bI g) (C 0) tp (a + 1) 0) := hw.rdP hE
    have F1 : Fr (fun b => b = ra) 0 0 σ (rdP σ ra C (.ref lo) (bI g) (C 0) tp (a + 1) 0) := (hE.fs (S := fun b => b = ra) rfl).fr hw
    have hP' : ∀ r, StR zs all ra C tp lo σ a g (match pExp false (all.drop (a + 1)) with
      | .error k => .error k
      | .ok (x, t) => .ok (qF q 0 x.1, t)) r → P r := hP
    have key : EC zs (Jc zs) (e + 37) cX2_all (some (.object "KnowLocks$Expression")) 1 0 0 (some (.ref ra) :: [none, none, none, none]) [] (rdP σ ra C (.ref lo) (bI g) (C 0) tp (a + 1) 0) (EK zs (Jc zs) (e + 37 + 1) cX2_whole (some (.object "KnowLocks$Expression")) 1 0 6 [some (.ref ra)] [] (EK zs (Jc zs) (e + 38 + 1) cX2_law (some (.object "KnowLocks$Expression")) 1 0 16 [some (.ref ra), some (.ref (C 0))] [] (EK zs (Jc zs) (e + 39 + 1) cX2_learn none 1 0 25 [some (.ref ra)] [.ref lo] P))) := by
      refine c_expr (fl := false) hZ rfl _ _ _ w1 E1 (fun r hr => ?_)
      cases hx' : pExp false (all.drop (a + 1)) with
      | error k =>
        rw [hx'] at hr hP'
        obtain ⟨x', σ', rfl, he⟩ := ErR.tr (F1.sub (S' := fun b => b = ra ∨ lo ≤ b) (fun _ _ z => Or.inl z) (Nat.le_refl _) (Nat.le_refl _)) hr (fun b z => Or.inr (Or.inl z)) (show _ ≤ 8 * (all.length - a) by omega) (show _ ≤ 2100 * (all.length - a) by omega)
        simp (disch := omega) only [ec_cv0 dX2_whole_6 iN_1_338 cna_1_338, vcE_o ccp_1_338_1, ET_0 (thrP_c (o := 1) dX2_whole_6 rfl), ec_cv0 dX2_law_16 iN_1_305 cna_1_305, vcE_o ccp_1_305_1, ET_0 (thrP_c (o := 1) dX2_law_16 rfl), ec_cv1 dX2_learn_25 iN_1_312 cna_1_312, vcE_o ccp_1_312_1, ET_0 (thrP_c (o := 1) dX2_learn_25 rfl), cat1_i, cat1_r, cat1_u, catB_n, catB_i, catB_r, catB_l, catB_u, lg_0, lg_s, ldEI_i, ldEL_l, ldEA_r, ldEA_n, lin_0, lin_s, ls1_0, ls1_1, ls1_s, ls2_0, ls2_1, ls2_s, lcl_i, lcl_r, lcl_l, lcl_u, lcl_n, lent_i, lent_r, lent_l, lent_u, lent_0, lent_s, Option.toList_some, Option.toList_none, List.cons_append, List.nil_append, Nat.reduceAdd, true_and, vin_0, vin_s, aE_0, aE_s, EK_r, EK_t, List.set_cons_zero, List.set_cons_succ, va_rf_s, va_rf_n, pC_1, pC_21, aC_1, aC_21, gC_self, gC_new, eI_, eLg_, eV_, eInc_, eN_, eS_, eJ_, eCl_]
        exact hP' _ ⟨x', σ', rfl, he⟩
      | ok yt =>
        obtain ⟨y, t⟩ := yt
        rw [hx'] at hr hP'
        have hdep : LDep (nF false) y.1 := (t_exp hB.dr hx').2.2.dep fcC_inj
        obtain ⟨a', σ2, ea, rfl, rfl, ha, E3, F3, X3⟩ := hr
        have F13 := F1.tr F3
        have w2 := F3.2.2.2
        have r3 : gC σ2 lo = some (.inl (3, qFs q (lo + 1) (lo + 3) (lo + 5) (lo + 6) (lo + 7) (lo + 9) .null xe)) := F13.g hlw (fun z => by have z : lo = ra := z; omega) r1
        have r3' := r3
        unfold qFs at r3'
        have S1 : Fs (fun b => lo ≤ b) σ2 (pC σ2 lo (.inl (3, qFs (qF q 0 y.1) (lo + 1) (lo + 3) (lo + 5) (lo + 6) (lo + 7) (lo + 9) (.ref ea) xe))) := Fs.rf.p r3 (Nat.le_refl _)
        have F4 := (F13.sub (S' := fun b => b = ra ∨ lo ≤ b) (fun _ _ z => Or.inl z) (Nat.le_refl _) (Nat.le_refl _)).n S1 (fun b z => Or.inr (Or.inr z))
        have K : ∀ t, t ≠ 9 → t ≠ 1 → Kd t w w σ (pC σ2 lo (.inl (3, qFs (qF q 0 y.1) (lo + 1) (lo + 3) (lo + 5) (lo + 6) (lo + 7) (lo + 9) (.ref ea) xe))) := fun t t1 t2 b c hb => ⟨rfl, fun z => by
          rw [gC_ne (fun y => by rw [y] at z; omega)]
          exact F13.2.2.1 b (hw _ _ hb) (fun y => by have y : b = ra := y; rw [y] at z; omega)⟩
        have hXX : ExA (Zw w lo) (pC σ2 lo (.inl (3, qFs (qF q 0 y.1) (lo + 1) (lo + 3) (lo + 5) (lo + 6) (lo + 7) (lo + 9) (.ref ea) xe))) 25 ea y.1 := (X3.k (fun b hb => gC_ne (fun y => by have hb1 : σ.1 ≤ b := hb.1; omega))).mo (fun b hb => by
          have hb1 : σ.1 ≤ b := hb.1
          exact ⟨b1 b hb1, by omega⟩) (Nat.le_refl _)
        have h5' := h5.k (K 2 (by omega) (by omega))
        have s2 := F13.1.1
        have fin := hP' (.inl none, pC σ2 lo (.inl (3, qFs (qF q 0 y.1) (lo + 1) (lo + 3) (lo + 5) (lo + 6) (lo + 7) (lo + 9) (.ref ea) xe))) ⟨a', _, w, C 0, 0, rfl, rfl, by omega, E3.dc b3 hC (Nat.le_refl _), F4.sub (fun _ _ z => z) (by omega) (by omega), hd, ch, nd, cn, sd, cs, hx, mx, dx, sx, .ref ea, xe, ⟨gC_self, r2⟩, h1s.k (K 2 (by omega) (by omega)), h2.k (K 3 (by omega) (by omega)), h3.k (K 4 (by omega) (by omega)), h4.k (K 6 (by omega) (by omega)), ⟨(⟨⟨ea, 25, rfl, by omega, hXX⟩, hdep⟩ : LawC (Zw w lo) _ (.ref ea) 6 (some y.1)), h5'.2⟩, h6.k (K 7 (by omega) (by omega)), ⟨fun b hb => b1 b (by have hb : σ2.1 ≤ b := hb; omega), b2, b3, b4⟩, c1, c2, c3, (show 3 * qS q ≤ a' by omega)⟩
        simp (disch := omega) only [ec_cv0 dX2_whole_6 iN_1_338 cna_1_338, vcE_o ccp_1_338_1, ET_0 (thrP_c (o := 1) dX2_whole_6 rfl), ec_aret dX2_whole_9, ec_aretN dX2_whole_9, ec_aretA dX2_whole_9, ec_cv0 dX2_law_16 iN_1_305 cna_1_305, vcE_o ccp_1_305_1, ET_0 (thrP_c (o := 1) dX2_law_16 rfl), ec_aret dX2_law_19, ec_aretN dX2_law_19, ec_aretA dX2_law_19, ec_cv1 dX2_learn_25 iN_1_312 cna_1_312, vcE_o ccp_1_312_1, ET_0 (thrP_c (o := 1) dX2_learn_25 rfl), ec_put dX2_learn_28, pw_1_0_309_3, pn_1_0_309_3, ec_vret dX2_learn_31, cat1_i, cat1_r, cat1_u, catB_n, catB_i, catB_r, catB_l, catB_u, lg_0, lg_s, ldEI_i, ldEL_l, ldEA_r, ldEA_n, lin_0, lin_s, ls1_0, ls1_1, ls1_s, ls2_0, ls2_1, ls2_s, lcl_i, lcl_r, lcl_l, lcl_u, lcl_n, lent_i, lent_r, lent_l, lent_u, lent_0, lent_s, Option.toList_some, Option.toList_none, List.cons_append, List.nil_append, Nat.reduceAdd, true_and, vin_0, vin_s, aE_0, aE_s, EK_r, EK_t, List.set_cons_zero, List.set_cons_succ, va_rf_s, va_rf_n, pC_1, pC_21, aC_1, aC_21, gC_self, gC_new, eI_, eLg_, eV_, eInc_, eN_, eS_, eJ_, eCl_, nI_add, nI_mul, nI_subI, nI_clampI, inb_t, nI_lt0, nI_0le, nI_m1, nI_m1', nI_ofNat, bI_01, b01_0, b01_1, bI_eq0, bI_eq1, bb_01, true_or, or_true, false_or, or_false, eq_self, Nat.reduceAdd, Nat.reduceMul, Nat.reduceSub, Nat.reduceLT, Nat.reduceLeDiff, Nat.reduceEqDiff, ↓reduceIte, and_true, true_and, and_self, Nat.add_zero, Nat.zero_add, not_false_eq_true, not_true_eq_false, faV_n, faV_s, m1_lt0, m1_0le, m1_eq0, m1_le, le_m1, m1_lt, lt_m1, nI_100k, nI_100, upd_e, upd_n, pC_pC, gC_ne', gC_old', nI_lt_t, nI_lt_f, nI_le_t, nI_le_f, nI_eq_t, nI_eq_f, nI_eq0_t, nI_eq0_f, nI_0lt_t, nI_0lt_f, nI_le0_t, nI_le0_f, nI_eq1_t, nI_eq1_f, r3']
        exact fin
    simp (disch := omega) only [ec_aload_n (i := 0) dX2_learn_0 rfl, ec_get dX2_learn_1, gw_1_191_1, ec_get dX2_learn_4, gw_1_309_3, ec_ifnull (t := 16) dX2_learn_7 rfl, nuE_r, nuE_n, ec_aload_n (i := 0) dX2_learn_10 rfl, ec_iconst (v := nI 3) dX2_learn_11 rfl, ec_cv1 dX2_learn_12 iN_1_178 cna_1_178, vcE_o ccp_1_178_1, ec_athrow dX2_learn_15, ET_0 (thrP_a dX2_learn_15), ec_aload_n (i := 0) dX2_learn_16 rfl, ec_get dX2_learn_17, ec_aload_n (i := 0) dX2_learn_20 rfl, ec_aload_n (i := 0) dX2_learn_21 rfl, ec_get dX2_learn_22, gw_1_23_1, ec_cv1 dX2_learn_25 iN_1_312 cna_1_312, vcE_o ccp_1_312_1, ET_0 (thrP_c (o := 1) dX2_learn_25 rfl), ec_put dX2_learn_28, pw_1_0_309_3, pn_1_0_309_3, ec_vret dX2_learn_31, ec_aload_n (i := 0) dX2_law_0 rfl, ec_dup dX2_law_1, ec_get dX2_law_2, gw_1_156_1, ec_iconst (v := nI 1) dX2_law_5 rfl, ec_iadd dX2_law_6, ec_put dX2_law_7, pw_1_0_156_1, ec_aload_n (i := 0) dX2_law_10 rfl, ec_aload_n (i := 1) dX2_law_11 rfl, ec_put dX2_law_12, pw_1_0_100_1, ec_aload_n (i := 0) dX2_law_15 rfl, ec_cv0 dX2_law_16 iN_1_305 cna_1_305, vcE_o ccp_1_305_1, ET_0 (thrP_c (o := 1) dX2_law_16 rfl), ec_aload_n (i := 0) dX2_whole_0 rfl, ec_iconst (v := nI 0) dX2_whole_1 rfl, ec_put dX2_whole_2, pw_1_0_335_1, ec_aload_n (i := 0) dX2_whole_5 rfl, ec_cv0 dX2_whole_6 iN_1_338 cna_1_338, vcE_o ccp_1_338_1, ET_0 (thrP_c (o := 1) dX2_whole_6 rfl), cat1_i, cat1_r, cat1_u, catB_n, catB_i, catB_r, catB_l, catB_u, lg_0, lg_s, ldEI_i, ldEL_l, ldEA_r, ldEA_n, lin_0, lin_s, ls1_0, ls1_1, ls1_s, ls2_0, ls2_1, ls2_s, lcl_i, lcl_r, lcl_l, lcl_u, lcl_n, lent_i, lent_r, lent_l, lent_u, lent_0, lent_s, Option.toList_some, Option.toList_none, List.cons_append, List.nil_append, Nat.reduceAdd, true_and, vin_0, vin_s, aE_0, aE_s, EK_r, EK_t, List.set_cons_zero, List.set_cons_succ, va_rf_s, va_rf_n, pC_1, pC_21, aC_1, aC_21, gC_self, gC_new, eI_, eLg_, eV_, eInc_, eN_, eS_, eJ_, eCl_, nI_add, nI_mul, nI_subI, nI_clampI, inb_t, nI_lt0, nI_0le, nI_m1, nI_m1', nI_ofNat, bI_01, b01_0, b01_1, bI_eq0, bI_eq1, bb_01, true_or, or_true, false_or, or_false, eq_self, Nat.reduceAdd, Nat.reduceMul, Nat.reduceSub, Nat.reduceLT, Nat.reduceLeDiff, Nat.reduceEqDiff, ↓reduceIte, and_true, true_and, and_self, Nat.add_zero, Nat.zero_add, not_false_eq_true, not_true_eq_false, faV_n, faV_s, m1_lt0, m1_0le, m1_eq0, m1_le, le_m1, m1_lt, lt_m1, nI_100k, nI_100, upd_e, upd_n, pC_pC, gC_ne', gC_old', nI_lt_t, nI_lt_f, nI_le_t, nI_le_f, nI_eq_t, nI_eq_f, nI_eq0_t, nI_eq0_f, nI_0lt_t, nI_0lt_f, nI_le0_t, nI_le0_f, nI_eq1_t, nI_eq1_f, h1, r1']
    exact key
theorem c_feel (hZ : ZS zs) (hB : TkB all) (hw : HW σ) (hC : ∀ k, k < 10 → k ≠ 6 → C k < lo) (hE : RdE zs σ ra C all (.ref lo) (bI g) fa tp a dp) (hD : DrO zs w lo ra σ q a) (hn : a + 1 < all.length) (hP : ∀ r, StR zs all ra C tp lo σ a g (xLaw q 1 (all.drop a)) r → P r) : EC zs (Jc zs) (e + 40) cX2_feel none 1 0 0 [some (.ref ra)] [] σ P := by
  obtain ⟨⟨l0, -⟩, -⟩ := hE.x
  have h1 := hE.1
  unfold rdF at h1
  unfold xLaw at hP
  obtain ⟨hd, ch, nd, cn, sd, cs, hx, mx, dx, sx, xl, xe, ⟨r1, r2⟩, h1s, h2, h3, h4, h5, h6, ⟨b1, b2, b3, b4⟩, c1, c2, c3, c4⟩ := hD
  have hlw := hw _ _ r1
  have r1' := r1
  unfold qFs at r1'
  have hl5 := h5.2
  unfold qE at hl5
  cases hq : q.2.2.2 1 with
  | some F =>
    rw [hq] at hP hl5
    rw [if_pos (show (some F).isSome = true from rfl)] at hP
    obtain ⟨⟨ea, m, rfl, hm, hX⟩, -⟩ := hl5
    have wr := fun P => c_wrong (e := e + 38) (P := P) (k := 3) (by omega) hw hE
    simp (disch := omega) only [ec_aload_n (i := 0) dX2_feel_0 rfl, ec_get dX2_feel_1, gw_1_191_1, ec_get dX2_feel_4, gw_1_316_3, ec_ifnull (t := 16) dX2_feel_7 rfl, nuE_r, nuE_n, ec_aload_n (i := 0) dX2_feel_10 rfl, ec_iconst (v := nI 3) dX2_feel_11 rfl, ec_cv1 dX2_feel_12 iN_1_178 cna_1_178, vcE_o ccp_1_178_1, ec_athrow dX2_feel_15, ET_0 (thrP_a dX2_feel_15), ec_aload_n (i := 0) dX2_feel_16 rfl, ec_get dX2_feel_17, ec_aload_n (i := 0) dX2_feel_20 rfl, ec_aload_n (i := 0) dX2_feel_21 rfl, ec_get dX2_feel_22, gw_1_33_1, ec_cv1 dX2_feel_25 iN_1_312 cna_1_312, vcE_o ccp_1_312_1, ET_0 (thrP_c (o := 1) dX2_feel_25 rfl), ec_put dX2_feel_28, pw_1_0_316_3, pn_1_0_316_3, ec_vret dX2_feel_31, cat1_i, cat1_r, cat1_u, catB_n, catB_i, catB_r, catB_l, catB_u, lg_0, lg_s, ldEI_i, ldEL_l, ldEA_r, ldEA_n, lin_0, lin_s, ls1_0, ls1_1, ls1_s, ls2_0, ls2_1, ls2_s, lcl_i, lcl_r, lcl_l, lcl_u, lcl_n, lent_i, lent_r, lent_l, lent_u, lent_0, lent_s, Option.toList_some, Option.toList_none, List.cons_append, List.nil_append, Nat.reduceAdd, true_and, vin_0, vin_s, aE_0, aE_s, EK_r, EK_t, List.set_cons_zero, List.set_cons_succ, va_rf_s, va_rf_n, pC_1, pC_21, aC_1, aC_21, gC_self, gC_new, eI_, eLg_, eV_, eInc_, eN_, eS_, eJ_, eCl_, nI_add, nI_mul, nI_subI, nI_clampI, inb_t, nI_lt0, nI_0le, nI_m1, nI_m1', nI_ofNat, bI_01, b01_0, b01_1, bI_eq0, bI_eq1, bb_01, true_or, or_true, false_or, or_false, eq_self, Nat.reduceAdd, Nat.reduceMul, Nat.reduceSub, Nat.reduceLT, Nat.reduceLeDiff, Nat.reduceEqDiff, ↓reduceIte, and_true, true_and, and_self, Nat.add_zero, Nat.zero_add, not_false_eq_true, not_true_eq_false, faV_n, faV_s, m1_lt0, m1_0le, m1_eq0, m1_le, le_m1, m1_lt, lt_m1, nI_100k, nI_100, upd_e, upd_n, pC_pC, gC_ne', gC_old', nI_lt_t, nI_lt_f, nI_le_t, nI_le_f, nI_eq_t, nI_eq_f, nI_eq0_t, nI_eq0_f, nI_0lt_t, nI_0lt_f, nI_le0_t, nI_le0_f, nI_eq1_t, nI_eq1_f, h1, r1', wr]
    exact hP _ (ErR.tr (Fr.rf hw) (ErR.w (S := fun b => b = ra ∨ lo ≤ b) hw hE) (fun b z => Or.inr z) (by omega) (by omega))
  | none =>
    rw [hq] at hP hl5
    rw [if_neg (by decide), tl_drop] at hP
    have hl5 : xe = .null := hl5
    subst hl5
    have E1 : RdE zs (rdP σ ra C (.ref lo) (bI g) (C 1) tp (a + 1) 0) ra C all (.ref lo) (bI g) (C 1) tp (a + 1) 0 := hE.rp hn
    have w1 : HW (rdP σ ra C (.ref lo) (bI g) (C 1) tp (a + 1) 0) := hw.rdP hE
    have F1 : Fr (fun b => b = ra) 0 0 σ (rdP σ ra C (.ref lo) (bI g) (C 1) tp (a + 1) 0) := (hE.fs (S := fun b => b = ra) rfl).fr hw
    have hP' : ∀ r, StR zs all ra C tp lo σ a g (match pExp true (all.drop (a + 1)) with
      | .error k => .error k
      | .ok (x, t) => .ok (qF q 1 x.1, t)) r → P r := hP
    have key : EC zs (Jc zs) (e + 37) cX2_all (some (.object "KnowLocks$Expression")) 1 0 0 (some (.ref ra) :: [none, none, none, none]) [] (rdP σ ra C (.ref lo) (bI g) (C 1) tp (a + 1) 0) (EK zs (Jc zs) (e + 37 + 1) cX2_whole (some (.object "KnowLocks$Expression")) 1 0 6 [some (.ref ra)] [] (EK zs (Jc zs) (e + 38 + 1) cX2_law (some (.object "KnowLocks$Expression")) 1 0 16 [some (.ref ra), some (.ref (C 1))] [] (EK zs (Jc zs) (e + 39 + 1) cX2_feel none 1 0 25 [some (.ref ra)] [.ref lo] P))) := by
      refine c_expr (fl := true) hZ rfl _ _ _ w1 E1 (fun r hr => ?_)
      cases hx' : pExp true (all.drop (a + 1)) with
      | error k =>
        rw [hx'] at hr hP'
        obtain ⟨x', σ', rfl, he⟩ := ErR.tr (F1.sub (S' := fun b => b = ra ∨ lo ≤ b) (fun _ _ z => Or.inl z) (Nat.le_refl _) (Nat.le_refl _)) hr (fun b z => Or.inr (Or.inl z)) (show _ ≤ 8 * (all.length - a) by omega) (show _ ≤ 2100 * (all.length - a) by omega)
        simp (disch := omega) only [ec_cv0 dX2_whole_6 iN_1_338 cna_1_338, vcE_o ccp_1_338_1, ET_0 (thrP_c (o := 1) dX2_whole_6 rfl), ec_cv0 dX2_law_16 iN_1_305 cna_1_305, vcE_o ccp_1_305_1, ET_0 (thrP_c (o := 1) dX2_law_16 rfl), ec_cv1 dX2_feel_25 iN_1_312 cna_1_312, vcE_o ccp_1_312_1, ET_0 (thrP_c (o := 1) dX2_feel_25 rfl), cat1_i, cat1_r, cat1_u, catB_n, catB_i, catB_r, catB_l, catB_u, lg_0, lg_s, ldEI_i, ldEL_l, ldEA_r, ldEA_n, lin_0, lin_s, ls1_0, ls1_1, ls1_s, ls2_0, ls2_1, ls2_s, lcl_i, lcl_r, lcl_l, lcl_u, lcl_n, lent_i, lent_r, lent_l, lent_u, lent_0, lent_s, Option.toList_some, Option.toList_none, List.cons_append, List.nil_append, Nat.reduceAdd, true_and, vin_0, vin_s, aE_0, aE_s, EK_r, EK_t, List.set_cons_zero, List.set_cons_succ, va_rf_s, va_rf_n, pC_1, pC_21, aC_1, aC_21, gC_self, gC_new, eI_, eLg_, eV_, eInc_, eN_, eS_, eJ_, eCl_]
        exact hP' _ ⟨x', σ', rfl, he⟩
      | ok yt =>
        obtain ⟨y, t⟩ := yt
        rw [hx'] at hr hP'
        have hdep : LDep (nF true) y.1 := (t_exp hB.dr hx').2.2.dep fcC_inj
        obtain ⟨a', σ2, ea, rfl, rfl, ha, E3, F3, X3⟩ := hr
        have F13 := F1.tr F3
        have w2 := F3.2.2.2
        have r3 : gC σ2 lo = some (.inl (3, qFs q (lo + 1) (lo + 3) (lo + 5) (lo + 6) (lo + 7) (lo + 9) xl .null)) := F13.g hlw (fun z => by have z : lo = ra := z; omega) r1
        have r3' := r3
        unfold qFs at r3'
        have S1 : Fs (fun b => lo ≤ b) σ2 (pC σ2 lo (.inl (3, qFs (qF q 1 y.1) (lo + 1) (lo + 3) (lo + 5) (lo + 6) (lo + 7) (lo + 9) xl (.ref ea)))) := Fs.rf.p r3 (Nat.le_refl _)
        have F4 := (F13.sub (S' := fun b => b = ra ∨ lo ≤ b) (fun _ _ z => Or.inl z) (Nat.le_refl _) (Nat.le_refl _)).n S1 (fun b z => Or.inr (Or.inr z))
        have K : ∀ t, t ≠ 9 → t ≠ 1 → Kd t w w σ (pC σ2 lo (.inl (3, qFs (qF q 1 y.1) (lo + 1) (lo + 3) (lo + 5) (lo + 6) (lo + 7) (lo + 9) xl (.ref ea)))) := fun t t1 t2 b c hb => ⟨rfl, fun z => by
          rw [gC_ne (fun y => by rw [y] at z; omega)]
          exact F13.2.2.1 b (hw _ _ hb) (fun y => by have y : b = ra := y; rw [y] at z; omega)⟩
        have hXX : ExA (Zw w lo) (pC σ2 lo (.inl (3, qFs (qF q 1 y.1) (lo + 1) (lo + 3) (lo + 5) (lo + 6) (lo + 7) (lo + 9) xl (.ref ea)))) 25 ea y.1 := (X3.k (fun b hb => gC_ne (fun y => by have hb1 : σ.1 ≤ b := hb.1; omega))).mo (fun b hb => by
          have hb1 : σ.1 ≤ b := hb.1
          exact ⟨b1 b hb1, by omega⟩) (Nat.le_refl _)
        have h5' := h5.k (K 2 (by omega) (by omega))
        have s2 := F13.1.1
        have fin := hP' (.inl none, pC σ2 lo (.inl (3, qFs (qF q 1 y.1) (lo + 1) (lo + 3) (lo + 5) (lo + 6) (lo + 7) (lo + 9) xl (.ref ea)))) ⟨a', _, w, C 1, 0, rfl, rfl, by omega, E3.dc b3 hC (Nat.le_refl _), F4.sub (fun _ _ z => z) (by omega) (by omega), hd, ch, nd, cn, sd, cs, hx, mx, dx, sx, xl, .ref ea, ⟨gC_self, r2⟩, h1s.k (K 2 (by omega) (by omega)), h2.k (K 3 (by omega) (by omega)), h3.k (K 4 (by omega) (by omega)), h4.k (K 6 (by omega) (by omega)), ⟨h5'.1, (⟨⟨ea, 25, rfl, by omega, hXX⟩, hdep⟩ : LawC (Zw w lo) _ (.ref ea) 4 (some y.1))⟩, h6.k (K 7 (by omega) (by omega)), ⟨fun b hb => b1 b (by have hb : σ2.1 ≤ b := hb; omega), b2, b3, b4⟩, c1, c2, c3, (show 3 * qS q ≤ a' by omega)⟩
        simp (disch := omega) only [ec_cv0 dX2_whole_6 iN_1_338 cna_1_338, vcE_o ccp_1_338_1, ET_0 (thrP_c (o := 1) dX2_whole_6 rfl), ec_aret dX2_whole_9, ec_aretN dX2_whole_9, ec_aretA dX2_whole_9, ec_cv0 dX2_law_16 iN_1_305 cna_1_305, vcE_o ccp_1_305_1, ET_0 (thrP_c (o := 1) dX2_law_16 rfl), ec_aret dX2_law_19, ec_aretN dX2_law_19, ec_aretA dX2_law_19, ec_cv1 dX2_feel_25 iN_1_312 cna_1_312, vcE_o ccp_1_312_1, ET_0 (thrP_c (o := 1) dX2_feel_25 rfl), ec_put dX2_feel_28, pw_1_0_316_3, pn_1_0_316_3, ec_vret dX2_feel_31, cat1_i, cat1_r, cat1_u, catB_n, catB_i, catB_r, catB_l, catB_u, lg_0, lg_s, ldEI_i, ldEL_l, ldEA_r, ldEA_n, lin_0, lin_s, ls1_0, ls1_1, ls1_s, ls2_0, ls2_1, ls2_s, lcl_i, lcl_r, lcl_l, lcl_u, lcl_n, lent_i, lent_r, lent_l, lent_u, lent_0, lent_s, Option.toList_some, Option.toList_none, List.cons_append, List.nil_append, Nat.reduceAdd, true_and, vin_0, vin_s, aE_0, aE_s, EK_r, EK_t, List.set_cons_zero, List.set_cons_succ, va_rf_s, va_rf_n, pC_1, pC_21, aC_1, aC_21, gC_self, gC_new, eI_, eLg_, eV_, eInc_, eN_, eS_, eJ_, eCl_, nI_add, nI_mul, nI_subI, nI_clampI, inb_t, nI_lt0, nI_0le, nI_m1, nI_m1', nI_ofNat, bI_01, b01_0, b01_1, bI_eq0, bI_eq1, bb_01, true_or, or_true, false_or, or_false, eq_self, Nat.reduceAdd, Nat.reduceMul, Nat.reduceSub, Nat.reduceLT, Nat.reduceLeDiff, Nat.reduceEqDiff, ↓reduceIte, and_true, true_and, and_self, Nat.add_zero, Nat.zero_add, not_false_eq_true, not_true_eq_false, faV_n, faV_s, m1_lt0, m1_0le, m1_eq0, m1_le, le_m1, m1_lt, lt_m1, nI_100k, nI_100, upd_e, upd_n, pC_pC, gC_ne', gC_old', nI_lt_t, nI_lt_f, nI_le_t, nI_le_f, nI_eq_t, nI_eq_f, nI_eq0_t, nI_eq0_f, nI_0lt_t, nI_0lt_f, nI_le0_t, nI_le0_f, nI_eq1_t, nI_eq1_f, r3']
        exact fin
    simp (disch := omega) only [ec_aload_n (i := 0) dX2_feel_0 rfl, ec_get dX2_feel_1, gw_1_191_1, ec_get dX2_feel_4, gw_1_316_3, ec_ifnull (t := 16) dX2_feel_7 rfl, nuE_r, nuE_n, ec_aload_n (i := 0) dX2_feel_10 rfl, ec_iconst (v := nI 3) dX2_feel_11 rfl, ec_cv1 dX2_feel_12 iN_1_178 cna_1_178, vcE_o ccp_1_178_1, ec_athrow dX2_feel_15, ET_0 (thrP_a dX2_feel_15), ec_aload_n (i := 0) dX2_feel_16 rfl, ec_get dX2_feel_17, ec_aload_n (i := 0) dX2_feel_20 rfl, ec_aload_n (i := 0) dX2_feel_21 rfl, ec_get dX2_feel_22, gw_1_33_1, ec_cv1 dX2_feel_25 iN_1_312 cna_1_312, vcE_o ccp_1_312_1, ET_0 (thrP_c (o := 1) dX2_feel_25 rfl), ec_put dX2_feel_28, pw_1_0_316_3, pn_1_0_316_3, ec_vret dX2_feel_31, ec_aload_n (i := 0) dX2_law_0 rfl, ec_dup dX2_law_1, ec_get dX2_law_2, gw_1_156_1, ec_iconst (v := nI 1) dX2_law_5 rfl, ec_iadd dX2_law_6, ec_put dX2_law_7, pw_1_0_156_1, ec_aload_n (i := 0) dX2_law_10 rfl, ec_aload_n (i := 1) dX2_law_11 rfl, ec_put dX2_law_12, pw_1_0_100_1, ec_aload_n (i := 0) dX2_law_15 rfl, ec_cv0 dX2_law_16 iN_1_305 cna_1_305, vcE_o ccp_1_305_1, ET_0 (thrP_c (o := 1) dX2_law_16 rfl), ec_aload_n (i := 0) dX2_whole_0 rfl, ec_iconst (v := nI 0) dX2_whole_1 rfl, ec_put dX2_whole_2, pw_1_0_335_1, ec_aload_n (i := 0) dX2_whole_5 rfl, ec_cv0 dX2_whole_6 iN_1_338 cna_1_338, vcE_o ccp_1_338_1, ET_0 (thrP_c (o := 1) dX2_whole_6 rfl), cat1_i, cat1_r, cat1_u, catB_n, catB_i, catB_r, catB_l, catB_u, lg_0, lg_s, ldEI_i, ldEL_l, ldEA_r, ldEA_n, lin_0, lin_s, ls1_0, ls1_1, ls1_s, ls2_0, ls2_1, ls2_s, lcl_i, lcl_r, lcl_l, lcl_u, lcl_n, lent_i, lent_r, lent_l, lent_u, lent_0, lent_s, Option.toList_some, Option.toList_none, List.cons_append, List.nil_append, Nat.reduceAdd, true_and, vin_0, vin_s, aE_0, aE_s, EK_r, EK_t, List.set_cons_zero, List.set_cons_succ, va_rf_s, va_rf_n, pC_1, pC_21, aC_1, aC_21, gC_self, gC_new, eI_, eLg_, eV_, eInc_, eN_, eS_, eJ_, eCl_, nI_add, nI_mul, nI_subI, nI_clampI, inb_t, nI_lt0, nI_0le, nI_m1, nI_m1', nI_ofNat, bI_01, b01_0, b01_1, bI_eq0, bI_eq1, bb_01, true_or, or_true, false_or, or_false, eq_self, Nat.reduceAdd, Nat.reduceMul, Nat.reduceSub, Nat.reduceLT, Nat.reduceLeDiff, Nat.reduceEqDiff, ↓reduceIte, and_true, true_and, and_self, Nat.add_zero, Nat.zero_add, not_false_eq_true, not_true_eq_false, faV_n, faV_s, m1_lt0, m1_0le, m1_eq0, m1_le, le_m1, m1_lt, lt_m1, nI_100k, nI_100, upd_e, upd_n, pC_pC, gC_ne', gC_old', nI_lt_t, nI_lt_f, nI_le_t, nI_le_f, nI_eq_t, nI_eq_f, nI_eq0_t, nI_eq0_f, nI_0lt_t, nI_0lt_f, nI_le0_t, nI_le0_f, nI_eq1_t, nI_eq1_f, h1, r1']
    exact key
end
