set_option maxRecDepth 100000
/-! THE COMPONENT's reader: a hand's marks, the whole hand -/
section
variable {zs w : Nat → Nat} {e : Nat} {σ : CM} {P : CR → Prop} {ra lo : Nat} {C : Nat → Nat} {all : List Tk} {hg : Int32} {fa : Nat} {tp : Int32} {a dp : Nat} {q : QT} {g : Bool} {dr : Value}
theorem c_mk_lo {σ3 : CM} {nm : Int64} {kd : Nat} (hw3 : HW σ3) (hr3 : ra < σ3.1) (hC : ∀ k, k < 10 → k ≠ 6 → C k < σ3.1) : ∀ (n i : Nat) (m : Nat → Nat) (a : Nat) (σ : CM) (F : Nat → Int32), i + n = 4 → HW σ → RdE zs σ ra C all (.ref lo) (bI g) fa tp a dp → Fr (fun b => b = ra) 1 4 σ3 σ → gC σ σ3.1 = some (.inr (0, 4, .inl F)) → (∀ j, j < i → F j = nI (m j)) → (∀ σ' a' k, pMk n m i (all.drop a) = .error k → HW σ' → RdE zs σ' ra C all (.ref lo) (bI g) fa tp a' dp → Fr (fun b => b = ra) 1 4 σ3 σ' → P (.inr σ'.1, wrS zs σ' k)) → (∀ σ' m' F', pMk n m i (all.drop a) = .ok (m', all.drop (a + n)) → HW σ' → RdE zs σ' ra C all (.ref lo) (bI g) fa tp (a + n) dp → Fr (fun b => b = ra) 1 4 σ3 σ' → gC σ' σ3.1 = some (.inr (0, 4, .inl F')) → (∀ j, j < 4 → F' j = nI (m' j)) → EC zs (Jc zs) (e + 4) cX2_hand none 1 0 128 [some (.ref ra), some (.long nm), none, some (.int (nI kd)), some (.ref σ3.1), some (.int (nI 4))] [] σ' P) → EC zs (Jc zs) (e + 4) cX2_hand none 1 0 104 [some (.ref ra), some (.long nm), none, some (.int (nI kd)), some (.ref σ3.1), some (.int (nI i))] [] σ P
  | 0, i, m, a, σ, F, hi, hw, hE, hF, hg3, hm, hno, hok => by
    have hi4 : i = 4 := by omega
    subst hi4
    have fin := hok σ m F rfl hw hE hF hg3 hm
    rw [ec_iload dX2_hand_104]
    simp (disch := omega) only [ec_iconst (v := nI 4) dX2_hand_106 rfl, ec_icmp_ge (t := 128) dX2_hand_107 rfl, cat1_i, cat1_r, cat1_u, catB_n, catB_i, catB_r, catB_l, catB_u, lg_0, lg_s, ldEI_i, ldEL_l, ldEA_r, ldEA_n, lin_0, lin_s, ls1_0, ls1_1, ls1_s, ls2_0, ls2_1, ls2_s, lcl_i, lcl_r, lcl_l, lcl_u, lcl_n, lent_i, lent_r, lent_l, lent_u, lent_0, lent_s, Option.toList_some, Option.toList_none, List.cons_append, List.nil_append, Nat.reduceAdd, true_and, vin_0, vin_s, aE_0, aE_s, EK_r, EK_t, List.set_cons_zero, List.set_cons_succ, va_rf_s, va_rf_n, pC_1, pC_21, aC_1, aC_21, gC_self, gC_new, eI_, eLg_, eV_, eInc_, eN_, eS_, eJ_, eCl_, nI_add, nI_mul, nI_subI, nI_clampI, inb_t, nI_lt0, nI_0le, nI_m1, nI_m1', nI_ofNat, bI_01, b01_0, b01_1, bI_eq0, bI_eq1, bb_01, true_or, or_true, false_or, or_false, eq_self, Nat.reduceAdd, Nat.reduceMul, Nat.reduceSub, Nat.reduceLT, Nat.reduceLeDiff, Nat.reduceEqDiff, ↓reduceIte, and_true, true_and, and_self, Nat.add_zero, Nat.zero_add, not_false_eq_true, not_true_eq_false, faV_n, faV_s, m1_lt0, m1_0le, m1_eq0, m1_le, le_m1, m1_lt, lt_m1, nI_100k, nI_100, upd_e, upd_n, pC_pC, gC_ne', gC_old', nI_lt_t, nI_lt_f, nI_le_t, nI_le_f, nI_eq_t, nI_eq_f, nI_eq0_t, nI_eq0_f, nI_0lt_t, nI_0lt_f, nI_le0_t, nI_le0_f, nI_eq1_t, nI_eq1_f]
    exact fin
  | n + 1, i, m, a, σ, F, hi, hw, hE, hF, hg3, hm, hno, hok => by
    have h1 := hE.1
    unfold rdF at h1
    have nb := fun P => c_number (e := e + 1) (P := P) (lo := 0) (hi := 9) (by omega) (by omega) hw hE
    have hne : σ3.1 ≠ ra := by omega
    have hs : ∀ (X : Except Nat (Nat × List Tk)), pNum 0 9 (all.drop a) = X → pMk (n + 1) m i (all.drop a) = (match X with
      | .error k => .error k
      | .ok (v, t) => pMk n (upN m i v) (i + 1) t) := fun X hX => by rw [← hX]; rfl
    rw [ec_iload dX2_hand_104]
    cases hx : pNum 0 9 (all.drop a) with
    | error k =>
      have fin := hno σ a k (hs _ hx) hw hE hF
      simp (disch := omega) only [ec_iconst (v := nI 4) dX2_hand_106 rfl, ec_icmp_ge (t := 128) dX2_hand_107 rfl, ec_aload dX2_hand_110, ec_iload dX2_hand_112, ec_aload_n (i := 0) dX2_hand_114 rfl, ec_iconst (v := nI 0) dX2_hand_115 rfl, ec_bipush (v := nI 9) dX2_hand_116 rfl, ec_cv2 dX2_hand_118 iN_1_220 cna_1_220, vcE_o ccp_1_220_1, ET_0 (thrP_c (o := 1) dX2_hand_118 rfl), cat1_i, cat1_r, cat1_u, catB_n, catB_i, catB_r, catB_l, catB_u, lg_0, lg_s, ldEI_i, ldEL_l, ldEA_r, ldEA_n, lin_0, lin_s, ls1_0, ls1_1, ls1_s, ls2_0, ls2_1, ls2_s, lcl_i, lcl_r, lcl_l, lcl_u, lcl_n, lent_i, lent_r, lent_l, lent_u, lent_0, lent_s, Option.toList_some, Option.toList_none, List.cons_append, List.nil_append, Nat.reduceAdd, true_and, vin_0, vin_s, aE_0, aE_s, EK_r, EK_t, List.set_cons_zero, List.set_cons_succ, va_rf_s, va_rf_n, pC_1, pC_21, aC_1, aC_21, gC_self, gC_new, eI_, eLg_, eV_, eInc_, eN_, eS_, eJ_, eCl_, nI_add, nI_mul, nI_subI, nI_clampI, inb_t, nI_lt0, nI_0le, nI_m1, nI_m1', nI_ofNat, bI_01, b01_0, b01_1, bI_eq0, bI_eq1, bb_01, true_or, or_true, false_or, or_false, eq_self, Nat.reduceAdd, Nat.reduceMul, Nat.reduceSub, Nat.reduceLT, Nat.reduceLeDiff, Nat.reduceEqDiff, ↓reduceIte, and_true, true_and, and_self, Nat.add_zero, Nat.zero_add, not_false_eq_true, not_true_eq_false, faV_n, faV_s, m1_lt0, m1_0le, m1_eq0, m1_le, le_m1, m1_lt, lt_m1, nI_100k, nI_100, upd_e, upd_n, pC_pC, gC_ne', gC_old', nI_lt_t, nI_lt_f, nI_le_t, nI_le_f, nI_eq_t, nI_eq_f, nI_eq0_t, nI_eq0_f, nI_0lt_t, nI_0lt_f, nI_le0_t, nI_le0_f, nI_eq1_t, nI_eq1_f, h1, nb, hx, exE_er]
      exact fin
    | ok vt =>
      obtain ⟨v, t⟩ := vt
      obtain ⟨rfl, hv, hn⟩ := pNum_v hx hE
      have hs' := hs _ hx
      have hs' : pMk (n + 1) m i (all.drop a) = pMk n (upN m i v) (i + 1) (all.drop (a + 1)) := hs'
      rw [hs'] at hno hok
      have E1 : RdE zs (rdP σ ra C (.ref lo) (bI g) fa tp (a + 1) dp) ra C all (.ref lo) (bI g) fa tp (a + 1) dp := hE.rp hn
      have g1 : gC (rdP σ ra C (.ref lo) (bI g) fa tp (a + 1) dp) σ3.1 = some (.inr (0, 4, .inl F)) := by unfold rdP; rw [gC_ne hne]; exact hg3
      have S1 : Fs (fun b => b = ra) σ (rdP σ ra C (.ref lo) (bI g) fa tp (a + 1) dp) := Fs.rf.p hE.1 rfl
      have S2 : Fs (fun b => b = σ3.1) (rdP σ ra C (.ref lo) (bI g) fa tp (a + 1) dp) (pC (rdP σ ra C (.ref lo) (bI g) fa tp (a + 1) dp) σ3.1 (.inr (0, 4, .inl (upd F i (nI v))))) := Fs.rf.p g1 rfl
      have F2 := (hF.n S1 (fun b z => Or.inr z)).n S2 (fun b z => Or.inl (by have z : b = σ3.1 := z; omega))
      have E2 : RdE zs (pC (rdP σ ra C (.ref lo) (bI g) fa tp (a + 1) dp) σ3.1 (.inr (0, 4, .inl (upd F i (nI v))))) ra C all (.ref lo) (bI g) fa tp (a + 1) dp := E1.dc (lo := σ3.1) hr3 hC (Nat.le_refl _)
      have fin := c_mk_lo (nm := nm) (kd := kd) hw3 hr3 hC n (i + 1) (upN m i v) (a + 1) (pC (rdP σ ra C (.ref lo) (bI g) fa tp (a + 1) dp) σ3.1 (.inr (0, 4, .inl (upd F i (nI v))))) (upd F i (nI v)) (by omega) F2.2.2.2 E2 F2 gC_self (fun j hj => by
        by_cases hji : j = i
        · rw [hji, upN_s]; exact if_pos rfl
        · rw [upN_n hji]; exact (if_neg hji).trans (hm j (by omega))) hno (fun σ' m' F' h1 h2 h3 h4 h5 h6 => hok σ' m' F' (by rw [show a + (n + 1) = a + 1 + n by omega]; exact h1) h2 (by rw [show a + (n + 1) = a + 1 + n by omega]; exact h3) h4 h5 h6)
      simp (disch := omega) only [ec_iconst (v := nI 4) dX2_hand_106 rfl, ec_icmp_ge (t := 128) dX2_hand_107 rfl, ec_aload dX2_hand_110, ec_iload dX2_hand_112, ec_aload_n (i := 0) dX2_hand_114 rfl, ec_iconst (v := nI 0) dX2_hand_115 rfl, ec_bipush (v := nI 9) dX2_hand_116 rfl, ec_cv2 dX2_hand_118 iN_1_220 cna_1_220, vcE_o ccp_1_220_1, ET_0 (thrP_c (o := 1) dX2_hand_118 rfl), ec_iast dX2_hand_121, isE_0, ec_iinc (v := nI 1) dX2_hand_122 rfl, ec_goto (t := 104) dX2_hand_125 rfl, cat1_i, cat1_r, cat1_u, catB_n, catB_i, catB_r, catB_l, catB_u, lg_0, lg_s, ldEI_i, ldEL_l, ldEA_r, ldEA_n, lin_0, lin_s, ls1_0, ls1_1, ls1_s, ls2_0, ls2_1, ls2_s, lcl_i, lcl_r, lcl_l, lcl_u, lcl_n, lent_i, lent_r, lent_l, lent_u, lent_0, lent_s, Option.toList_some, Option.toList_none, List.cons_append, List.nil_append, Nat.reduceAdd, true_and, vin_0, vin_s, aE_0, aE_s, EK_r, EK_t, List.set_cons_zero, List.set_cons_succ, va_rf_s, va_rf_n, pC_1, pC_21, aC_1, aC_21, gC_self, gC_new, eI_, eLg_, eV_, eInc_, eN_, eS_, eJ_, eCl_, nI_add, nI_mul, nI_subI, nI_clampI, inb_t, nI_lt0, nI_0le, nI_m1, nI_m1', nI_ofNat, bI_01, b01_0, b01_1, bI_eq0, bI_eq1, bb_01, true_or, or_true, false_or, or_false, eq_self, Nat.reduceAdd, Nat.reduceMul, Nat.reduceSub, Nat.reduceLT, Nat.reduceLeDiff, Nat.reduceEqDiff, ↓reduceIte, and_true, true_and, and_self, Nat.add_zero, Nat.zero_add, not_false_eq_true, not_true_eq_false, faV_n, faV_s, m1_lt0, m1_0le, m1_eq0, m1_le, le_m1, m1_lt, lt_m1, nI_100k, nI_100, upd_e, upd_n, pC_pC, gC_ne', gC_old', nI_lt_t, nI_lt_f, nI_le_t, nI_le_f, nI_eq_t, nI_eq_f, nI_eq0_t, nI_eq0_f, nI_0lt_t, nI_0lt_f, nI_le0_t, nI_le0_f, nI_eq1_t, nI_eq1_f, h1, nb, hx, exE_ok, g1]
      exact fin
theorem pHd_v {d : Nat} (h : pHd q (all.drop a) = .ok d) (hE : RdE zs σ ra C all dr hg fa tp a dp) : d < qH q ∧ a + 1 < all.length := by
  unfold pHd at h
  split at h
  · rename_i h1
    refine ⟨?_, isN_nx hE h1⟩
    split at h
    · rename_i h2
      cases h
      exact fnd_lt h2
    · cases h
  · cases h
/-- behind the marks -/
theorem c_hd_fin {kd ma : Nat} {nm : Int64} {m : Nat → Nat} {l5 : Option Value} (hZ : ZS zs) (hw : HW σ) (hC : ∀ k, k < 10 → k ≠ 6 → C k < lo) (hE : RdE zs σ ra C all (.ref lo) (bI g) fa tp a dp) (h7 : qH q < 7) (hk : kd ≤ 4) (hD : DrO zs w lo ra σ q a) (hm : IA σ ma 4 m) (wm : w ma = 0) (lm : lo ≤ ma) (hP : ∀ r, StR zs all ra C tp lo σ a g (match pWN 382984 0 3 (all.drop a) with
        | .error k => .error k
        | .ok (sl, t) => (match pWN 10998956 0 9 t with
          | .error k => .error k
          | .ok (tr, t) => .ok (qAH q nm kd m sl tr, t))) r → P r) : EC zs (Jc zs) (e + 5) cX2_hand none 1 0 128 [some (.ref ra), some (.long nm), none, some (.int (nI kd)), some (.ref ma), l5] [] σ P := by
  have hl := hE.le
  have h1 := hE.1
  unfold rdF at h1
  have nb := fun P => c_number_2 (e := e) (P := P) (i := 21) (lo := 0) (hi := 3) (by omega) (by omega) (by omega) (by omega) hZ hw hE
  rw [show wdN 21 = 382984 from rfl] at nb
  obtain ⟨hd, ch, nd, cn, sd, cs, hx, mx, dx, sx, xl, xe, ⟨r1, r2⟩, h1s, h2, h3, h4, h5s, h6, ⟨b1, b2, b3, b4⟩, c1, c2, c3, c4⟩ := id hD
  have hll := hw _ _ r1
  have r1' := r1
  unfold qFs at r1'
  have S1 : ∀ z, Fs (fun b => b = ra ∨ lo ≤ b) σ (rdP σ ra C (.ref lo) (bI g) fa tp z dp) := fun z => Fs.rf.p hE.1 (Or.inl rfl)
  unfold pWN at hP
  cases hx1 : pWd 382984 (all.drop a) with
  | error k =>
    rw [hx1] at hP
    have fin := hP _ (ErR.tr (Fr.rf hw) (ErR.w (k := k) (S := fun b => b = ra ∨ lo ≤ b) hw hE) (fun b z => Or.inr z) (by omega) (by omega))
    simp (disch := omega) only [ec_aload_n (i := 0) dX2_hand_128 rfl, ec_ldcS dX2_hand_129 rfl scp_68, ec_iconst (v := nI 0) dX2_hand_131 rfl, ec_iconst (v := nI 3) dX2_hand_132 rfl, ec_cv3 dX2_hand_133 iN_1_260 cna_1_260, vcE_o ccp_1_260_1, ET_0 (thrP_c (o := 1) dX2_hand_133 rfl), cat1_i, cat1_r, cat1_u, catB_n, catB_i, catB_r, catB_l, catB_u, lg_0, lg_s, ldEI_i, ldEL_l, ldEA_r, ldEA_n, lin_0, lin_s, ls1_0, ls1_1, ls1_s, ls2_0, ls2_1, ls2_s, lcl_i, lcl_r, lcl_l, lcl_u, lcl_n, lent_i, lent_r, lent_l, lent_u, lent_0, lent_s, Option.toList_some, Option.toList_none, List.cons_append, List.nil_append, Nat.reduceAdd, true_and, vin_0, vin_s, aE_0, aE_s, EK_r, EK_t, List.set_cons_zero, List.set_cons_succ, va_rf_s, va_rf_n, pC_1, pC_21, aC_1, aC_21, gC_self, gC_new, eI_, eLg_, eV_, eInc_, eN_, eS_, eJ_, eCl_, nI_add, nI_mul, nI_subI, nI_clampI, inb_t, nI_lt0, nI_0le, nI_m1, nI_m1', nI_ofNat, bI_01, b01_0, b01_1, bI_eq0, bI_eq1, bb_01, true_or, or_true, false_or, or_false, eq_self, Nat.reduceAdd, Nat.reduceMul, Nat.reduceSub, Nat.reduceLT, Nat.reduceLeDiff, Nat.reduceEqDiff, ↓reduceIte, and_true, true_and, and_self, Nat.add_zero, Nat.zero_add, not_false_eq_true, not_true_eq_false, faV_n, faV_s, m1_lt0, m1_0le, m1_eq0, m1_le, le_m1, m1_lt, lt_m1, nI_100k, nI_100, upd_e, upd_n, pC_pC, gC_ne', gC_old', nI_lt_t, nI_lt_f, nI_le_t, nI_le_f, nI_eq_t, nI_eq_f, nI_eq0_t, nI_eq0_f, nI_0lt_t, nI_0lt_f, nI_le0_t, nI_le0_f, nI_eq1_t, nI_eq1_f, h1, nb, hx1, exE_er]
    exact fin
  | ok t1 =>
    obtain ⟨rfl, hn1⟩ := pWd_v hx1 hE
    rw [hx1] at hP
    have hP : ∀ r, StR zs all ra C tp lo σ a g (match pNum 0 3 (all.drop (a + 1)) with
        | .error k => .error k
        | .ok (sl, t) => (match pWN 10998956 0 9 t with
          | .error k => .error k
          | .ok (tr, t) => .ok (qAH q nm kd m sl tr, t))) r → P r := hP
    have E1 : RdE zs (rdP σ ra C (.ref lo) (bI g) fa tp (a + 1) dp) ra C all (.ref lo) (bI g) fa tp (a + 1) dp := hE.rp hn1
    cases hx2 : pNum 0 3 (all.drop (a + 1)) with
    | error k =>
      rw [hx2] at hP
      have fin := hP _ (ErR.tr ((S1 _).fr hw) (ErR.w (k := k) (S := fun b => b = ra ∨ lo ≤ b) ((S1 _).hw hw) E1) (fun b z => Or.inr z) (by omega) (by omega))
      simp (disch := omega) only [ec_aload_n (i := 0) dX2_hand_128 rfl, ec_ldcS dX2_hand_129 rfl scp_68, ec_iconst (v := nI 0) dX2_hand_131 rfl, ec_iconst (v := nI 3) dX2_hand_132 rfl, ec_cv3 dX2_hand_133 iN_1_260 cna_1_260, vcE_o ccp_1_260_1, ET_0 (thrP_c (o := 1) dX2_hand_133 rfl), cat1_i, cat1_r, cat1_u, catB_n, catB_i, catB_r, catB_l, catB_u, lg_0, lg_s, ldEI_i, ldEL_l, ldEA_r, ldEA_n, lin_0, lin_s, ls1_0, ls1_1, ls1_s, ls2_0, ls2_1, ls2_s, lcl_i, lcl_r, lcl_l, lcl_u, lcl_n, lent_i, lent_r, lent_l, lent_u, lent_0, lent_s, Option.toList_some, Option.toList_none, List.cons_append, List.nil_append, Nat.reduceAdd, true_and, vin_0, vin_s, aE_0, aE_s, EK_r, EK_t, List.set_cons_zero, List.set_cons_succ, va_rf_s, va_rf_n, pC_1, pC_21, aC_1, aC_21, gC_self, gC_new, eI_, eLg_, eV_, eInc_, eN_, eS_, eJ_, eCl_, nI_add, nI_mul, nI_subI, nI_clampI, inb_t, nI_lt0, nI_0le, nI_m1, nI_m1', nI_ofNat, bI_01, b01_0, b01_1, bI_eq0, bI_eq1, bb_01, true_or, or_true, false_or, or_false, eq_self, Nat.reduceAdd, Nat.reduceMul, Nat.reduceSub, Nat.reduceLT, Nat.reduceLeDiff, Nat.reduceEqDiff, ↓reduceIte, and_true, true_and, and_self, Nat.add_zero, Nat.zero_add, not_false_eq_true, not_true_eq_false, faV_n, faV_s, m1_lt0, m1_0le, m1_eq0, m1_le, le_m1, m1_lt, lt_m1, nI_100k, nI_100, upd_e, upd_n, pC_pC, gC_ne', gC_old', nI_lt_t, nI_lt_f, nI_le_t, nI_le_f, nI_eq_t, nI_eq_f, nI_eq0_t, nI_eq0_f, nI_0lt_t, nI_0lt_f, nI_le0_t, nI_le0_f, nI_eq1_t, nI_eq1_f, h1, nb, hx1, hx2, exE_ok, exE_er]
      exact fin
    | ok vt =>
      obtain ⟨sl, t2⟩ := vt
      obtain ⟨rfl, hsl, hn2⟩ := pNum_v hx2 E1
      rw [hx2] at hP
      have hP : ∀ r, StR zs all ra C tp lo σ a g (match pWN 10998956 0 9 (all.drop (a + 2)) with
          | .error k => .error k
          | .ok (tr, t) => .ok (qAH q nm kd m sl tr, t)) r → P r := hP
      have E2 : RdE zs (rdP σ ra C (.ref lo) (bI g) fa tp (a + 2) dp) ra C all (.ref lo) (bI g) fa tp (a + 2) dp := hE.rp hn2
      have w2 := (S1 (a + 2)).hw hw
      have nb2 := fun P => c_number_2 (e := e) (P := P) (i := 3) (lo := 0) (hi := 9) (by omega) (by omega) (by omega) (by omega) hZ w2 E2
      rw [show wdN 3 = 10998956 from rfl] at nb2
      have h2' : gC (rdP σ ra C (.ref lo) (bI g) fa tp (a + 2) dp) ra = some (.inl (1, rdF C (.ref lo) (bI g) fa tp (nI (a + 2)) (nI dp))) := gC_self
      unfold rdF at h2'
      have r2' : ∀ z, gC (rdP σ ra C (.ref lo) (bI g) fa tp z dp) lo = some (.inl (3, qFs q (lo + 1) (lo + 3) (lo + 5) (lo + 6) (lo + 7) (lo + 9) xl xe)) := fun z => by unfold rdP; rw [gC_ne (by omega)]; exact r1
      unfold qFs at r2'
      unfold pWN at hP
      cases hx3 : pWd 10998956 (all.drop (a + 2)) with
      | error k =>
        rw [hx3] at hP
        have fin := hP _ (ErR.tr ((S1 _).fr hw) (ErR.w (k := k) (S := fun b => b = ra ∨ lo ≤ b) w2 E2) (fun b z => Or.inr z) (by omega) (by omega))
        simp (disch := omega) only [ec_aload_n (i := 0) dX2_hand_128 rfl, ec_ldcS dX2_hand_129 rfl scp_68, ec_iconst (v := nI 0) dX2_hand_131 rfl, ec_iconst (v := nI 3) dX2_hand_132 rfl, ec_cv3 dX2_hand_133 iN_1_260 cna_1_260, vcE_o ccp_1_260_1, ET_0 (thrP_c (o := 1) dX2_hand_133 rfl), ec_istore dX2_hand_136, ec_aload_n (i := 0) dX2_hand_138 rfl, ec_get dX2_hand_139, gw_1_191_1, ec_get dX2_hand_142, gw_1_235_3, ec_iload_n (i := 3) dX2_hand_145 rfl, ec_lload_n (i := 1) dX2_hand_146 rfl, ec_aload dX2_hand_147, ec_iload dX2_hand_149, ec_aload_n (i := 0) dX2_hand_151 rfl, ec_ldcS dX2_hand_152 rfl scp_17, ec_iconst (v := nI 0) dX2_hand_154 rfl, ec_bipush (v := nI 9) dX2_hand_155 rfl, ec_cv3 dX2_hand_157 iN_1_260 cna_1_260, ET_0 (thrP_c (o := 1) dX2_hand_157 rfl), cat1_i, cat1_r, cat1_u, catB_n, catB_i, catB_r, catB_l, catB_u, lg_0, lg_s, ldEI_i, ldEL_l, ldEA_r, ldEA_n, lin_0, lin_s, ls1_0, ls1_1, ls1_s, ls2_0, ls2_1, ls2_s, lcl_i, lcl_r, lcl_l, lcl_u, lcl_n, lent_i, lent_r, lent_l, lent_u, lent_0, lent_s, Option.toList_some, Option.toList_none, List.cons_append, List.nil_append, Nat.reduceAdd, true_and, vin_0, vin_s, aE_0, aE_s, EK_r, EK_t, List.set_cons_zero, List.set_cons_succ, va_rf_s, va_rf_n, pC_1, pC_21, aC_1, aC_21, gC_self, gC_new, eI_, eLg_, eV_, eInc_, eN_, eS_, eJ_, eCl_, nI_add, nI_mul, nI_subI, nI_clampI, inb_t, nI_lt0, nI_0le, nI_m1, nI_m1', nI_ofNat, bI_01, b01_0, b01_1, bI_eq0, bI_eq1, bb_01, true_or, or_true, false_or, or_false, eq_self, Nat.reduceAdd, Nat.reduceMul, Nat.reduceSub, Nat.reduceLT, Nat.reduceLeDiff, Nat.reduceEqDiff, ↓reduceIte, and_true, true_and, and_self, Nat.add_zero, Nat.zero_add, not_false_eq_true, not_true_eq_false, faV_n, faV_s, m1_lt0, m1_0le, m1_eq0, m1_le, le_m1, m1_lt, lt_m1, nI_100k, nI_100, upd_e, upd_n, pC_pC, gC_ne', gC_old', nI_lt_t, nI_lt_f, nI_le_t, nI_le_f, nI_eq_t, nI_eq_f, nI_eq0_t, nI_eq0_f, nI_0lt_t, nI_0lt_f, nI_le0_t, nI_le0_f, nI_eq1_t, nI_eq1_f, h1, nb, nb2, h2', r2', hx1, hx2, hx3, exE_ok, exE_er, rdP_pp]
        exact fin
      | ok t3 =>
        obtain ⟨rfl, hn3⟩ := pWd_v hx3 E2
        rw [hx3] at hP
        have hP : ∀ r, StR zs all ra C tp lo σ a g (match pNum 0 9 (all.drop (a + 3)) with
          | .error k => .error k
          | .ok (tr, t) => .ok (qAH q nm kd m sl tr, t)) r → P r := hP
        have E3 : RdE zs (rdP σ ra C (.ref lo) (bI g) fa tp (a + 3) dp) ra C all (.ref lo) (bI g) fa tp (a + 3) dp := hE.rp hn3
        cases hx4 : pNum 0 9 (all.drop (a + 3)) with
        | error k =>
          rw [hx4] at hP
          have fin := hP _ (ErR.tr ((S1 _).fr hw) (ErR.w (k := k) (S := fun b => b = ra ∨ lo ≤ b) ((S1 _).hw hw) E3) (fun b z => Or.inr z) (by omega) (by omega))
          simp (disch := omega) only [ec_aload_n (i := 0) dX2_hand_128 rfl, ec_ldcS dX2_hand_129 rfl scp_68, ec_iconst (v := nI 0) dX2_hand_131 rfl, ec_iconst (v := nI 3) dX2_hand_132 rfl, ec_cv3 dX2_hand_133 iN_1_260 cna_1_260, vcE_o ccp_1_260_1, ET_0 (thrP_c (o := 1) dX2_hand_133 rfl), ec_istore dX2_hand_136, ec_aload_n (i := 0) dX2_hand_138 rfl, ec_get dX2_hand_139, gw_1_191_1, ec_get dX2_hand_142, gw_1_235_3, ec_iload_n (i := 3) dX2_hand_145 rfl, ec_lload_n (i := 1) dX2_hand_146 rfl, ec_aload dX2_hand_147, ec_iload dX2_hand_149, ec_aload_n (i := 0) dX2_hand_151 rfl, ec_ldcS dX2_hand_152 rfl scp_17, ec_iconst (v := nI 0) dX2_hand_154 rfl, ec_bipush (v := nI 9) dX2_hand_155 rfl, ec_cv3 dX2_hand_157 iN_1_260 cna_1_260, ET_0 (thrP_c (o := 1) dX2_hand_157 rfl), cat1_i, cat1_r, cat1_u, catB_n, catB_i, catB_r, catB_l, catB_u, lg_0, lg_s, ldEI_i, ldEL_l, ldEA_r, ldEA_n, lin_0, lin_s, ls1_0, ls1_1, ls1_s, ls2_0, ls2_1, ls2_s, lcl_i, lcl_r, lcl_l, lcl_u, lcl_n, lent_i, lent_r, lent_l, lent_u, lent_0, lent_s, Option.toList_some, Option.toList_none, List.cons_append, List.nil_append, Nat.reduceAdd, true_and, vin_0, vin_s, aE_0, aE_s, EK_r, EK_t, List.set_cons_zero, List.set_cons_succ, va_rf_s, va_rf_n, pC_1, pC_21, aC_1, aC_21, gC_self, gC_new, eI_, eLg_, eV_, eInc_, eN_, eS_, eJ_, eCl_, nI_add, nI_mul, nI_subI, nI_clampI, inb_t, nI_lt0, nI_0le, nI_m1, nI_m1', nI_ofNat, bI_01, b01_0, b01_1, bI_eq0, bI_eq1, bb_01, true_or, or_true, false_or, or_false, eq_self, Nat.reduceAdd, Nat.reduceMul, Nat.reduceSub, Nat.reduceLT, Nat.reduceLeDiff, Nat.reduceEqDiff, ↓reduceIte, and_true, true_and, and_self, Nat.add_zero, Nat.zero_add, not_false_eq_true, not_true_eq_false, faV_n, faV_s, m1_lt0, m1_0le, m1_eq0, m1_le, le_m1, m1_lt, lt_m1, nI_100k, nI_100, upd_e, upd_n, pC_pC, gC_ne', gC_old', nI_lt_t, nI_lt_f, nI_le_t, nI_le_f, nI_eq_t, nI_eq_f, nI_eq0_t, nI_eq0_f, nI_0lt_t, nI_0lt_f, nI_le0_t, nI_le0_f, nI_eq1_t, nI_eq1_f, h1, nb, nb2, h2', r2', hx1, hx2, hx3, hx4, exE_ok, exE_er, rdP_pp]
          exact fin
        | ok vt4 =>
          obtain ⟨tr, t4⟩ := vt4
          obtain ⟨rfl, htr, hn4⟩ := pNum_v hx4 E3
          rw [hx4] at hP
          have E4 : RdE zs (rdP σ ra C (.ref lo) (bI g) fa tp (a + 4) dp) ra C all (.ref lo) (bI g) fa tp (a + 4) dp := hE.rp hn4
          have w4 := (S1 (a + 4)).hw hw
          have K4 : ∀ b c, gC σ b = some c → w b ≠ 9 → gC (rdP σ ra C (.ref lo) (bI g) fa tp (a + 4) dp) b = gC σ b := fun b c hb h9 => gC_ne (fun y => by rw [y] at h9; exact h9 b2)
          have D4 := hD.k (a' := a + 4) K4 (Nat.le_refl _) (by omega)
          have hm4 : IA (rdP σ ra C (.ref lo) (bI g) fa tp (a + 4) dp) ma 4 m := by
            obtain ⟨F, x1, x2⟩ := hm
            exact ⟨F, (K4 _ _ x1 (by omega)).trans x1, x2⟩
          have hn := fun P => c_hand_new (zs := zs) (e := e + 1) (σ := rdP σ ra C (.ref lo) (bI g) fa tp (a + 4) dp) (P := P) (nm := nm) (ma := ma) (sl := nI sl) (tr := nI tr) hk
          obtain ⟨mc, ff, L1, -⟩ := id h1s.1
          have hl7 := hw _ _ L1
          have L4 : ∀ X, gC (aC (rdP σ ra C (.ref lo) (bI g) fa tp (a + 4) dp) 4 X) (lo + 1) = some (.inl (36, [.int mc, .ref hd, .int (nI (qH q))])) := fun X => by rw [gC_old' (σ := rdP σ ra C (.ref lo) (bI g) fa tp (a + 4) dp) hl7]; unfold rdP; rw [gC_ne (by omega)]; exact L1
          have key : EC zs (Jc zs) (e + 4) cJ2_add (some .boolean) 36 0 0 [some (.ref (lo + 1)), some (.ref σ.1)] [] (aC (rdP σ ra C (.ref lo) (bI g) fa tp (a + 4) dp) 4 (.inl (12 + kd, [.long nm, .ref ma, .int (nI sl), .int (nI tr)]))) (EK zs (Jc zs) (e + 4 + 1) cX2_hand none 1 0 163 [some (.ref ra), some (.long nm), none, some (.int (nI kd)), some (.ref ma), some (.int (nI sl))] [] P) := by
            refine c_hd_ad (σ := rdP σ ra C (.ref lo) (bI g) fa tp (a + 4) dp) w4 hC E4 h7 hk D4 hm4 wm lm (fun σ' w' F' E' D' => ?_)
            have fin := hP (.inl none, σ') ⟨a + 4, σ', w', fa, dp, rfl, rfl, by omega, E', (((S1 (a + 4)).fr hw).tn F' (fun b z => Or.inr (Or.inr z))).sub (fun _ _ z => z) (by omega) (by omega), D'⟩
            simp (disch := omega) only [ec_cv1 dX2_hand_163 iN_1_266 cna_1_266, vcE_o ccp_1_266_36, ec_pop dX2_hand_166, ec_vret dX2_hand_167, cat1_i, cat1_r, cat1_u, catB_n, catB_i, catB_r, catB_l, catB_u, lg_0, lg_s, ldEI_i, ldEL_l, ldEA_r, ldEA_n, lin_0, lin_s, ls1_0, ls1_1, ls1_s, ls2_0, ls2_1, ls2_s, lcl_i, lcl_r, lcl_l, lcl_u, lcl_n, lent_i, lent_r, lent_l, lent_u, lent_0, lent_s, Option.toList_some, Option.toList_none, List.cons_append, List.nil_append, Nat.reduceAdd, true_and, vin_0, vin_s, aE_0, aE_s, EK_r, EK_t, List.set_cons_zero, List.set_cons_succ, va_rf_s, va_rf_n, pC_1, pC_21, aC_1, aC_21, gC_self, gC_new, eI_, eLg_, eV_, eInc_, eN_, eS_, eJ_, eCl_, nI_add, nI_mul, nI_subI, nI_clampI, inb_t, nI_lt0, nI_0le, nI_m1, nI_m1', nI_ofNat, bI_01, b01_0, b01_1, bI_eq0, bI_eq1, bb_01, true_or, or_true, false_or, or_false, eq_self, Nat.reduceAdd, Nat.reduceMul, Nat.reduceSub, Nat.reduceLT, Nat.reduceLeDiff, Nat.reduceEqDiff, ↓reduceIte, and_true, true_and, and_self, Nat.add_zero, Nat.zero_add, not_false_eq_true, not_true_eq_false, faV_n, faV_s, m1_lt0, m1_0le, m1_eq0, m1_le, le_m1, m1_lt, lt_m1, nI_100k, nI_100, upd_e, upd_n, pC_pC, gC_ne', gC_old', nI_lt_t, nI_lt_f, nI_le_t, nI_le_f, nI_eq_t, nI_eq_f, nI_eq0_t, nI_eq0_f, nI_0lt_t, nI_0lt_f, nI_le0_t, nI_le0_f, nI_eq1_t, nI_eq1_f]
            exact fin
          simp (disch := omega) only [ec_aload_n (i := 0) dX2_hand_128 rfl, ec_ldcS dX2_hand_129 rfl scp_68, ec_iconst (v := nI 0) dX2_hand_131 rfl, ec_iconst (v := nI 3) dX2_hand_132 rfl, ec_cv3 dX2_hand_133 iN_1_260 cna_1_260, vcE_o ccp_1_260_1, ET_0 (thrP_c (o := 1) dX2_hand_133 rfl), ec_istore dX2_hand_136, ec_aload_n (i := 0) dX2_hand_138 rfl, ec_get dX2_hand_139, gw_1_191_1, ec_get dX2_hand_142, gw_1_235_3, ec_iload_n (i := 3) dX2_hand_145 rfl, ec_lload_n (i := 1) dX2_hand_146 rfl, ec_aload dX2_hand_147, ec_iload dX2_hand_149, ec_aload_n (i := 0) dX2_hand_151 rfl, ec_ldcS dX2_hand_152 rfl scp_17, ec_iconst (v := nI 0) dX2_hand_154 rfl, ec_bipush (v := nI 9) dX2_hand_155 rfl, ec_cv3 dX2_hand_157 iN_1_260 cna_1_260, ET_0 (thrP_c (o := 1) dX2_hand_157 rfl), ec_cs5 dX2_hand_160 iN_1_263 ccp_1_263_99, ec_cv1 dX2_hand_163 iN_1_266 cna_1_266, vcE_o ccp_1_266_36, cat1_i, cat1_r, cat1_u, catB_n, catB_i, catB_r, catB_l, catB_u, lg_0, lg_s, ldEI_i, ldEL_l, ldEA_r, ldEA_n, lin_0, lin_s, ls1_0, ls1_1, ls1_s, ls2_0, ls2_1, ls2_s, lcl_i, lcl_r, lcl_l, lcl_u, lcl_n, lent_i, lent_r, lent_l, lent_u, lent_0, lent_s, Option.toList_some, Option.toList_none, List.cons_append, List.nil_append, Nat.reduceAdd, true_and, vin_0, vin_s, aE_0, aE_s, EK_r, EK_t, List.set_cons_zero, List.set_cons_succ, va_rf_s, va_rf_n, pC_1, pC_21, aC_1, aC_21, gC_self, gC_new, eI_, eLg_, eV_, eInc_, eN_, eS_, eJ_, eCl_, nI_add, nI_mul, nI_subI, nI_clampI, inb_t, nI_lt0, nI_0le, nI_m1, nI_m1', nI_ofNat, bI_01, b01_0, b01_1, bI_eq0, bI_eq1, bb_01, true_or, or_true, false_or, or_false, eq_self, Nat.reduceAdd, Nat.reduceMul, Nat.reduceSub, Nat.reduceLT, Nat.reduceLeDiff, Nat.reduceEqDiff, ↓reduceIte, and_true, true_and, and_self, Nat.add_zero, Nat.zero_add, not_false_eq_true, not_true_eq_false, faV_n, faV_s, m1_lt0, m1_0le, m1_eq0, m1_le, le_m1, m1_lt, lt_m1, nI_100k, nI_100, upd_e, upd_n, pC_pC, gC_ne', gC_old', nI_lt_t, nI_lt_f, nI_le_t, nI_le_f, nI_eq_t, nI_eq_f, nI_eq0_t, nI_eq0_f, nI_0lt_t, nI_0lt_f, nI_le0_t, nI_le0_f, nI_eq1_t, nI_eq1_f, h1, nb, nb2, h2', r2', hx1, hx2, hx3, hx4, exE_ok, rdP_pp, hn, L4]
          exact key
end
