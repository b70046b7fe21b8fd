set_option maxRecDepth 100000
/-! THE COMPONENT's CONSTRUCTOR -/
/-- its tags -/
def OW4 (x b : Nat) : Nat := if b < x then 0 else if b = x then 2 else if b < x + 12 then 3 else if b < x + 23 then 40 else if b = x + 33 then 1 else if b < x + 34 then 0 else 39
def OWf (x d b : Nat) : Nat := if b < x + 34 then OW4 x b else if b < d then 39 else if b = d then 0 else if b = d + 1 then 4 else if b < d + 10 then 6 else if b < d + 21 then 8 else if b < d + 27 then 6 else if b = d + 27 then 5 else 39
/-- what it begins with -/
def a00 : Ab := ((qP, fhS qP, []), (0, fun _ _ => 0), (fun _ => none), (0, fun _ => 0))
/-- its ghosts -/
def G00 (zs : Nat → Nat) (x d : Nat) (L : Nat → Nat) : Gh := (fun k => match k with
  | 0 => 40
  | 1 => x + 12
  | 2 => x + 23
  | 3 => x + 33
  | 4 => d
  | 5 => zs 101
  | 6 => 0
  | 7 => x + 1 + 1
  | 10 => muN (fun _ => none) 30
  | 11 => 41
  | _ => 0, fun k => match k with
  | 0 => OWf x d
  | 1 => tlK 40 qP
  | 2 => L
  | 3 => fun j => match j with
    | 0 => x + 1
    | 1 => d + 1
    | 2 => d + 2
    | 3 => d + 5
    | 4 => d + 10
    | 5 => d + 21
    | 6 => d + 24
    | _ => d + 27
  | 8 => fun j => x + 1 + 1 + j
  | _ => fun _ => 0, (0, 0, 0), (.null, 0), fun _ => none)
theorem qP_t : TQ qP := fun h hh => absurd hh (Nat.not_lt_zero h)
section
variable {zs : Nat → Nat} {e : Nat} {σ σ' : CM} {P : CR → Prop}
theorem NightB.k {n0 : Nat} {lf kf : Nat → Option Nat} (h : NightB σ n0 lf kf) (hk : ∀ b, n0 ≤ b → b < n0 + 11 → gC σ' b = gC σ b) : NightB σ' n0 lf kf := by
  obtain ⟨h1, h2, ⟨F, h3⟩, h4, h5, G, h6⟩ := h
  exact ⟨(hk _ (by omega) (by omega)).trans h1, (hk _ (by omega) (by omega)).trans h2, ⟨F, (hk _ (by omega) (by omega)).trans h3⟩, (hk _ (by omega) (by omega)).trans h4, fun j hj => by obtain ⟨F, h⟩ := h5 j hj; exact ⟨F, (hk _ (by omega) (by omega)).trans h⟩, G, (hk _ (by omega) (by omega)).trans h6⟩
set_option maxHeartbeats 1000000 in
theorem c_kInit (hw : HW σ) (hn : NoS zs σ) (hL : LgC zs σ) (hzl : ∀ i, i < 256 → zs (200 + i) < σ.1) (hz : gC σ (zs 101) = some (.inr (4, 0, .inr (.inr (.inr (.inr (fun _ => none))))))) (hP : ∀ σ' G, CI zs σ' σ.1 G a00 → Fr (fun _ => False) 160 20000 σ σ' → G.m0 = muN (fun _ => none) 30 → P (.inl none, σ')) : EC zs (Jc zs) (e + 6) cX1_init none 0 9 0 [some (.ref σ.1)] [] (aC σ 13 (.inl (0, [.null, .null, .null, .null, .null, .int 0, .int 0, .null, .null, .null, .null, .long 0, .null]))) P := by
  have F0 : Fr (fun _ => False) 1 13 σ (aC σ 13 (.inl (0, [.null, .null, .null, .null, .null, .int 0, .int 0, .null, .null, .null, .null, .long 0, .null]))) := Fr.nc hw
  have m0 : (aC σ 13 (.inl (0, [.null, .null, .null, .null, .null, .int 0, .int 0, .null, .null, .null, .null, .long 0, .null]))).1 = σ.1 + 1 := rfl
  have g0 : gC (aC σ 13 (.inl (0, [.null, .null, .null, .null, .null, .int 0, .int 0, .null, .null, .null, .null, .long 0, .null]))) σ.1 = some (.inl (0, [.null, .null, .null, .null, .null, .int 0, .int 0, .null, .null, .null, .null, .long 0, .null])) := gC_new
  have n0 : NoS zs (aC σ 13 (.inl (0, [.null, .null, .null, .null, .null, .int 0, .int 0, .null, .null, .null, .null, .long 0, .null]))) := fun i hi => ⟨by rw [m0]; have := (hn i hi).1; omega, by rw [gC_old' (hn i hi).1]; exact (hn i hi).2⟩
  generalize aC σ 13 (.inl (0, [.null, .null, .null, .null, .null, .int 0, .int 0, .null, .null, .null, .null, .long 0, .null])) = s0 at F0 m0 g0 n0 ⊢
  have hzl' : zs 101 < σ.1 := hw _ _ hz
  have x0 : ∀ {s : CM} {c m : Nat} {t : CM}, Fr (fun _ => False) c m s t → ∀ {b : Nat} {y : Cl}, b < s.1 → gC s b = some y → gC t b = some y := fun F b y hb h => F.g hb (fun z => z) h
  simp (disch := omega) only [ec_aload_n (i := 0) dX1_init_0 rfl, ec_j11 dX1_init_1 iT_0_50, J_1, ec_aload_n (i := 0) dX1_init_4 rfl, ec_new dX1_init_5 ncp_0_53 cSz_1 cDf_1, ec_dup dX1_init_8, ec_ci0 dX1_init_9 iN_0_55 ccp_0_55_99, cat1_i, cat1_r, cat1_u, catB_n, catB_i, catB_r, catB_l, catB_u, lg_0, lg_s, ldEI_i, ldEL_l, ldEA_r, ldEA_n, lin_0, lin_s, ls1_0, ls1_1, ls1_s, ls2_0, ls2_1, ls2_s, lcl_i, lcl_r, lcl_l, lcl_u, lcl_n, lent_i, lent_r, lent_l, lent_u, lent_0, lent_s, Option.toList_some, Option.toList_none, List.cons_append, List.nil_append, Nat.reduceAdd, true_and, vin_0, vin_s, aE_0, aE_s, EK_r, EK_t, List.set_cons_zero, List.set_cons_succ, va_rf_s, va_rf_n, pC_1, pC_21, aC_1, aC_21, gC_self, gC_new, eI_, eLg_, eV_, eInc_, eN_, eS_, eJ_, eCl_, nI_add, nI_mul, nI_subI, nI_clampI, inb_t, nI_lt0, nI_0le, nI_m1, nI_m1', nI_ofNat, bI_01, b01_0, b01_1, bI_eq0, bI_eq1, bb_01, true_or, or_true, false_or, or_false, eq_self, Nat.reduceAdd, Nat.reduceMul, Nat.reduceSub, Nat.reduceLT, Nat.reduceLeDiff, Nat.reduceEqDiff, ↓reduceIte, and_true, true_and, and_self, Nat.add_zero, Nat.zero_add, not_false_eq_true, not_true_eq_false, faV_n, faV_s, m1_lt0, m1_0le, m1_eq0, m1_le, le_m1, m1_lt, lt_m1, nI_100k, nI_100, upd_e, upd_n, pC_pC, gC_ne', gC_old', nI_lt_t, nI_lt_f, nI_le_t, nI_le_f, nI_eq_t, nI_eq_f, nI_eq0_t, nI_eq0_f, nI_0lt_t, nI_0lt_f, nI_le0_t, nI_le0_f, nI_eq1_t, nI_eq1_f, g0]
  refine c_rInit (σ := s0) (e := e + 4) F0.2.2.2 n0 (fun s1 F1 m1 T1 K1 C1 => ?_)
  have g1 := x0 F1 (by omega) g0
  have m1' : s1.1 = σ.1 + 12 := by omega
  simp (disch := omega) only [ec_put dX1_init_12, pw_0_9_56_0, pn_0_9_56_0, ec_aload_n (i := 0) dX1_init_15 rfl, ec_new dX1_init_16 ncp_0_60 cSz_2 cDf_2, ec_dup dX1_init_19, ec_ci0 dX1_init_20 iN_0_62 ccp_0_62_99, cat1_i, cat1_r, cat1_u, catB_n, catB_i, catB_r, catB_l, catB_u, lg_0, lg_s, ldEI_i, ldEL_l, ldEA_r, ldEA_n, lin_0, lin_s, ls1_0, ls1_1, ls1_s, ls2_0, ls2_1, ls2_s, lcl_i, lcl_r, lcl_l, lcl_u, lcl_n, lent_i, lent_r, lent_l, lent_u, lent_0, lent_s, Option.toList_some, Option.toList_none, List.cons_append, List.nil_append, Nat.reduceAdd, true_and, vin_0, vin_s, aE_0, aE_s, EK_r, EK_t, List.set_cons_zero, List.set_cons_succ, va_rf_s, va_rf_n, pC_1, pC_21, aC_1, aC_21, gC_self, gC_new, eI_, eLg_, eV_, eInc_, eN_, eS_, eJ_, eCl_, nI_add, nI_mul, nI_subI, nI_clampI, inb_t, nI_lt0, nI_0le, nI_m1, nI_m1', nI_ofNat, bI_01, b01_0, b01_1, bI_eq0, bI_eq1, bb_01, true_or, or_true, false_or, or_false, eq_self, Nat.reduceAdd, Nat.reduceMul, Nat.reduceSub, Nat.reduceLT, Nat.reduceLeDiff, Nat.reduceEqDiff, ↓reduceIte, and_true, true_and, and_self, Nat.add_zero, Nat.zero_add, not_false_eq_true, not_true_eq_false, faV_n, faV_s, m1_lt0, m1_0le, m1_eq0, m1_le, le_m1, m1_lt, lt_m1, nI_100k, nI_100, upd_e, upd_n, pC_pC, gC_ne', gC_old', nI_lt_t, nI_lt_f, nI_le_t, nI_le_f, nI_eq_t, nI_eq_f, nI_eq0_t, nI_eq0_f, nI_0lt_t, nI_0lt_f, nI_le0_t, nI_le0_f, nI_eq1_t, nI_eq1_f, g1]
  try rw [m0] at m1
  try rw [m0] at T1
  try rw [m0] at K1
  try rw [m0] at C1
  try rw [m0]
  have S2 : Fs (fun b => b = σ.1) s1 (pC s1 σ.1 (.inl (0, [.ref (σ.1 + 1), .null, .null, .null, .null, .int 0, .int 0, .null, .null, .null, .null, .long 0, .null]))) := Fs.rf.p g1 rfl
  have w2 := S2.hw F1.2.2.2
  have g2 : gC (pC s1 σ.1 (.inl (0, [.ref (σ.1 + 1), .null, .null, .null, .null, .int 0, .int 0, .null, .null, .null, .null, .long 0, .null]))) σ.1 = some (.inl (0, [.ref (σ.1 + 1), .null, .null, .null, .null, .int 0, .int 0, .null, .null, .null, .null, .long 0, .null])) := gC_self
  have m2 : (pC s1 σ.1 (.inl (0, [.ref (σ.1 + 1), .null, .null, .null, .null, .int 0, .int 0, .null, .null, .null, .null, .long 0, .null]))).1 = s1.1 := rfl
  have l2 : (pC s1 σ.1 (.inl (0, [.ref (σ.1 + 1), .null, .null, .null, .null, .int 0, .int 0, .null, .null, .null, .null, .long 0, .null]))).2.1 = s1.2.1 := rfl
  generalize pC s1 σ.1 (.inl (0, [.ref (σ.1 + 1), .null, .null, .null, .null, .int 0, .int 0, .null, .null, .null, .null, .long 0, .null])) = s2 at S2 w2 g2 m2 l2 ⊢
  rw [← m2]
  refine c_ninit (σ := s2) (e := e + 5) w2 (fun s3 N3 => ?_)
  obtain ⟨F3, m3, k3, B3⟩ := N3
  have m2' : s2.1 = σ.1 + 12 := by omega
  rw [m2'] at m3 k3 B3
  have g3 := x0 F3 (by omega) g2
  simp (disch := omega) only [ec_new dX1_init_23 ncp_0_63 cSz_3 cDf_3, ec_dup dX1_init_26, ec_ci0 dX1_init_27 iN_0_65 ccp_0_65_99, cat1_i, cat1_r, cat1_u, catB_n, catB_i, catB_r, catB_l, catB_u, lg_0, lg_s, ldEI_i, ldEL_l, ldEA_r, ldEA_n, lin_0, lin_s, ls1_0, ls1_1, ls1_s, ls2_0, ls2_1, ls2_s, lcl_i, lcl_r, lcl_l, lcl_u, lcl_n, lent_i, lent_r, lent_l, lent_u, lent_0, lent_s, Option.toList_some, Option.toList_none, List.cons_append, List.nil_append, Nat.reduceAdd, true_and, vin_0, vin_s, aE_0, aE_s, EK_r, EK_t, List.set_cons_zero, List.set_cons_succ, va_rf_s, va_rf_n, pC_1, pC_21, aC_1, aC_21, gC_self, gC_new, eI_, eLg_, eV_, eInc_, eN_, eS_, eJ_, eCl_, nI_add, nI_mul, nI_subI, nI_clampI, inb_t, nI_lt0, nI_0le, nI_m1, nI_m1', nI_ofNat, bI_01, b01_0, b01_1, bI_eq0, bI_eq1, bb_01, true_or, or_true, false_or, or_false, eq_self, Nat.reduceAdd, Nat.reduceMul, Nat.reduceSub, Nat.reduceLT, Nat.reduceLeDiff, Nat.reduceEqDiff, ↓reduceIte, and_true, true_and, and_self, Nat.add_zero, Nat.zero_add, not_false_eq_true, not_true_eq_false, faV_n, faV_s, m1_lt0, m1_0le, m1_eq0, m1_le, le_m1, m1_lt, lt_m1, nI_100k, nI_100, upd_e, upd_n, pC_pC, gC_ne', gC_old', nI_lt_t, nI_lt_f, nI_le_t, nI_le_f, nI_eq_t, nI_eq_f, nI_eq0_t, nI_eq0_f, nI_0lt_t, nI_0lt_f, nI_le0_t, nI_le0_f, nI_eq1_t, nI_eq1_f]
  refine c_qInit (σ := s3) (ra := σ.1) (a := 0) (e := e + 2) F3.2.2.2 (by omega) (fun s4 F4 D4 => ?_)
  have w4 := F4.2.2.2
  have g4 := x0 F4 (by omega) g3
  have k4 := x0 F4 (by omega) k3
  have B4 : NightB s4 (σ.1 + 12) (fun _ => none) (fun _ => none) := B3.k (fun b h1 h2 => F4.2.2.1 b (by omega) (fun z => z))
  have m3' : s3.1 = σ.1 + 23 := by omega
  rw [m3'] at D4
  have m4 : s4.1 = σ.1 + 34 := by
    obtain ⟨hd, ch, nd, cn, sd, cs, hx, mx, dx, sx, xl, xe, -, -, -, -, -, -, ⟨f1, f2, f3, Φ, f4⟩, -⟩ := id D4
    have := w4 _ _ f4
    have := F4.1.2
    omega
  have o4 : ∀ b, OW4 σ.1 b < 41 := fun b => by unfold OW4; (repeat' split) <;> omega
  have hQC : QC (OW4 σ.1) s4 (σ.1 + 23) (σ.1 + 33) qP := D4.qc w4 (fun b h1 h2 h3 => by unfold OW4; rw [if_neg (by omega), if_neg (by omega), if_neg (by omega), if_neg (by omega), if_neg (by omega), if_pos (by omega)]) (by unfold OW4; rw [if_neg (by omega), if_neg (by omega), if_neg (by omega), if_neg (by omega), if_pos (by omega)]) (fun i hi => by unfold OW4; rw [if_pos (hzl i hi)])
  have hFX : FX (OW4 σ.1) 40 s4 (σ.1 + 12) [.null, .int 0, .int 0, .ref (σ.1 + 12 + 1), .ref (σ.1 + 12 + 2), .ref (σ.1 + 12 + 3), .ref (σ.1 + 12 + 4), .ref (σ.1 + 12 + 10)] (fun _ => none) (fun _ => none) := ⟨k4, B4, fun b h1 h2 => by unfold OW4; rw [if_neg (by omega), if_neg (by omega), if_neg (by omega), if_pos (by omega)], by omega, fun i hi => Or.inl rfl⟩
  rw [m3', m2']
  simp (disch := omega) only [ec_cv1 dX1_init_30 iN_0_66 cna_0_66, vcE_o ccp_0_66_2, cat1_i, cat1_r, cat1_u, catB_n, catB_i, catB_r, catB_l, catB_u, lg_0, lg_s, ldEI_i, ldEL_l, ldEA_r, ldEA_n, lin_0, lin_s, ls1_0, ls1_1, ls1_s, ls2_0, ls2_1, ls2_s, lcl_i, lcl_r, lcl_l, lcl_u, lcl_n, lent_i, lent_r, lent_l, lent_u, lent_0, lent_s, Option.toList_some, Option.toList_none, List.cons_append, List.nil_append, Nat.reduceAdd, true_and, vin_0, vin_s, aE_0, aE_s, EK_r, EK_t, List.set_cons_zero, List.set_cons_succ, va_rf_s, va_rf_n, pC_1, pC_21, aC_1, aC_21, gC_self, gC_new, eI_, eLg_, eV_, eInc_, eN_, eS_, eJ_, eCl_, nI_add, nI_mul, nI_subI, nI_clampI, inb_t, nI_lt0, nI_0le, nI_m1, nI_m1', nI_ofNat, bI_01, b01_0, b01_1, bI_eq0, bI_eq1, bb_01, true_or, or_true, false_or, or_false, eq_self, Nat.reduceAdd, Nat.reduceMul, Nat.reduceSub, Nat.reduceLT, Nat.reduceLeDiff, Nat.reduceEqDiff, ↓reduceIte, and_true, true_and, and_self, Nat.add_zero, Nat.zero_add, not_false_eq_true, not_true_eq_false, faV_n, faV_s, m1_lt0, m1_0le, m1_eq0, m1_le, le_m1, m1_lt, lt_m1, nI_100k, nI_100, upd_e, upd_n, pC_pC, gC_ne', gC_old', nI_lt_t, nI_lt_f, nI_le_t, nI_le_f, nI_eq_t, nI_eq_f, nI_eq0_t, nI_eq0_f, nI_0lt_t, nI_0lt_f, nI_le0_t, nI_le0_f, nI_eq1_t, nI_eq1_f, k4]
  refine c_begins (q := qP) (e := e) QOK_P qP_t rfl hFX hQC w4 (fun s5 ow5 L5 Bg => ?_)
  obtain ⟨eo5, F5, N5, lf5, kf5, X5, -, hc1, hc2⟩ := Bg
  have m45 := F5.1.1
  have g5 : gC s5 σ.1 = some (.inl (0, [.ref (σ.1 + 1), .null, .null, .null, .null, .int 0, .int 0, .null, .null, .null, .null, .long 0, .null])) := F5.g (by omega) (fun z => by
    have := z.1
    unfold OW4 at this
    rw [if_neg (by omega), if_pos rfl] at this
    omega) g4
  simp (disch := omega) only [ec_put dX1_init_33, pw_0_9_70_0, pn_0_9_70_0, ec_aload_n (i := 0) dX1_init_36 rfl, ec_new dX1_init_37 ncp_0_74 cSz_36 cDf_36, ec_dup dX1_init_40, ec_ci0 dX1_init_41 iN_0_76 ccp_0_76_99, cat1_i, cat1_r, cat1_u, catB_n, catB_i, catB_r, catB_l, catB_u, lg_0, lg_s, ldEI_i, ldEL_l, ldEA_r, ldEA_n, lin_0, lin_s, ls1_0, ls1_1, ls1_s, ls2_0, ls2_1, ls2_s, lcl_i, lcl_r, lcl_l, lcl_u, lcl_n, lent_i, lent_r, lent_l, lent_u, lent_0, lent_s, Option.toList_some, Option.toList_none, List.cons_append, List.nil_append, Nat.reduceAdd, true_and, vin_0, vin_s, aE_0, aE_s, EK_r, EK_t, List.set_cons_zero, List.set_cons_succ, va_rf_s, va_rf_n, pC_1, pC_21, aC_1, aC_21, gC_self, gC_new, eI_, eLg_, eV_, eInc_, eN_, eS_, eJ_, eCl_, nI_add, nI_mul, nI_subI, nI_clampI, inb_t, nI_lt0, nI_0le, nI_m1, nI_m1', nI_ofNat, bI_01, b01_0, b01_1, bI_eq0, bI_eq1, bb_01, true_or, or_true, false_or, or_false, eq_self, Nat.reduceAdd, Nat.reduceMul, Nat.reduceSub, Nat.reduceLT, Nat.reduceLeDiff, Nat.reduceEqDiff, ↓reduceIte, and_true, true_and, and_self, Nat.add_zero, Nat.zero_add, not_false_eq_true, not_true_eq_false, faV_n, faV_s, m1_lt0, m1_0le, m1_eq0, m1_le, le_m1, m1_lt, lt_m1, nI_100k, nI_100, upd_e, upd_n, pC_pC, gC_ne', gC_old', nI_lt_t, nI_lt_f, nI_le_t, nI_le_f, nI_eq_t, nI_eq_f, nI_eq0_t, nI_eq0_f, nI_0lt_t, nI_0lt_f, nI_le0_t, nI_le0_f, nI_eq1_t, nI_eq1_f, g5]
  have S6 : Fs (fun b => b = σ.1) s5 (pC s5 σ.1 (.inl (0, [.ref (σ.1 + 1), .ref (σ.1 + 12), .null, .null, .null, .int 0, .int 0, .null, .null, .null, .null, .long 0, .null]))) := Fs.rf.p g5 rfl
  have w6 := S6.hw F5.2.2.2
  have g6 : gC (pC s5 σ.1 (.inl (0, [.ref (σ.1 + 1), .ref (σ.1 + 12), .null, .null, .null, .int 0, .int 0, .null, .null, .null, .null, .long 0, .null]))) σ.1 = some (.inl (0, [.ref (σ.1 + 1), .ref (σ.1 + 12), .null, .null, .null, .int 0, .int 0, .null, .null, .null, .null, .long 0, .null])) := gC_self
  have m6 : (pC s5 σ.1 (.inl (0, [.ref (σ.1 + 1), .ref (σ.1 + 12), .null, .null, .null, .int 0, .int 0, .null, .null, .null, .null, .long 0, .null]))).1 = s5.1 := rfl
  have l6 : (pC s5 σ.1 (.inl (0, [.ref (σ.1 + 1), .ref (σ.1 + 12), .null, .null, .null, .int 0, .int 0, .null, .null, .null, .null, .long 0, .null]))).2.1 = s5.2.1 := rfl
  generalize pC s5 σ.1 (.inl (0, [.ref (σ.1 + 1), .ref (σ.1 + 12), .null, .null, .null, .int 0, .int 0, .null, .null, .null, .null, .long 0, .null])) = s6 at S6 w6 g6 m6 l6 ⊢
  rw [← m6]
  have z5 : gC s5 (zs 101) = some (.inr (4, 0, .inr (.inr (.inr (.inr (fun _ => none)))))) := F5.g (by omega) (fun z => by
    have := z.1
    unfold OW4 at this
    rw [if_pos hzl'] at this
    omega) (x0 F4 (by omega) (x0 F3 (by omega) (S2.g (fun z => by have z : zs 101 = σ.1 := z; omega) (x0 F1 (by omega) (x0 F0 (by omega) hz)))))
  have z6 := S6.g (fun z => by have z : zs 101 = σ.1 := z; omega) z5
  refine c_new0 (σ := s6) (e := e + 3) w6 z6 (fun s7 F7 m7 A7 => ?_)
  have g7 := x0 F7 (by omega) g6
  have z7 := x0 F7 (by omega) z6
  simp (disch := omega) only [ec_put dX1_init_44, pw_0_9_77_0, pn_0_9_77_0, ec_aload_n (i := 0) dX1_init_47 rfl, ec_new dX1_init_48 ncp_0_74 cSz_36 cDf_36, ec_dup dX1_init_51, ec_ci0 dX1_init_52 iN_0_76 ccp_0_76_99, cat1_i, cat1_r, cat1_u, catB_n, catB_i, catB_r, catB_l, catB_u, lg_0, lg_s, ldEI_i, ldEL_l, ldEA_r, ldEA_n, lin_0, lin_s, ls1_0, ls1_1, ls1_s, ls2_0, ls2_1, ls2_s, lcl_i, lcl_r, lcl_l, lcl_u, lcl_n, lent_i, lent_r, lent_l, lent_u, lent_0, lent_s, Option.toList_some, Option.toList_none, List.cons_append, List.nil_append, Nat.reduceAdd, true_and, vin_0, vin_s, aE_0, aE_s, EK_r, EK_t, List.set_cons_zero, List.set_cons_succ, va_rf_s, va_rf_n, pC_1, pC_21, aC_1, aC_21, gC_self, gC_new, eI_, eLg_, eV_, eInc_, eN_, eS_, eJ_, eCl_, nI_add, nI_mul, nI_subI, nI_clampI, inb_t, nI_lt0, nI_0le, nI_m1, nI_m1', nI_ofNat, bI_01, b01_0, b01_1, bI_eq0, bI_eq1, bb_01, true_or, or_true, false_or, or_false, eq_self, Nat.reduceAdd, Nat.reduceMul, Nat.reduceSub, Nat.reduceLT, Nat.reduceLeDiff, Nat.reduceEqDiff, ↓reduceIte, and_true, true_and, and_self, Nat.add_zero, Nat.zero_add, not_false_eq_true, not_true_eq_false, faV_n, faV_s, m1_lt0, m1_0le, m1_eq0, m1_le, le_m1, m1_lt, lt_m1, nI_100k, nI_100, upd_e, upd_n, pC_pC, gC_ne', gC_old', nI_lt_t, nI_lt_f, nI_le_t, nI_le_f, nI_eq_t, nI_eq_f, nI_eq0_t, nI_eq0_f, nI_0lt_t, nI_0lt_f, nI_le0_t, nI_le0_f, nI_eq1_t, nI_eq1_f, g7]
  try rw [m6] at m7
  try rw [m6] at A7
  try rw [m6]
  have S8 : Fs (fun b => b = σ.1) s7 (pC s7 σ.1 (.inl (0, [.ref (σ.1 + 1), .ref (σ.1 + 12), .ref s5.1, .null, .null, .int 0, .int 0, .null, .null, .null, .null, .long 0, .null]))) := Fs.rf.p g7 rfl
  have w8 := S8.hw F7.2.2.2
  have g8 : gC (pC s7 σ.1 (.inl (0, [.ref (σ.1 + 1), .ref (σ.1 + 12), .ref s5.1, .null, .null, .int 0, .int 0, .null, .null, .null, .null, .long 0, .null]))) σ.1 = some (.inl (0, [.ref (σ.1 + 1), .ref (σ.1 + 12), .ref s5.1, .null, .null, .int 0, .int 0, .null, .null, .null, .null, .long 0, .null])) := gC_self
  have m8 : (pC s7 σ.1 (.inl (0, [.ref (σ.1 + 1), .ref (σ.1 + 12), .ref s5.1, .null, .null, .int 0, .int 0, .null, .null, .null, .null, .long 0, .null]))).1 = s7.1 := rfl
  have l8 : (pC s7 σ.1 (.inl (0, [.ref (σ.1 + 1), .ref (σ.1 + 12), .ref s5.1, .null, .null, .int 0, .int 0, .null, .null, .null, .null, .long 0, .null]))).2.1 = s7.2.1 := rfl
  generalize pC s7 σ.1 (.inl (0, [.ref (σ.1 + 1), .ref (σ.1 + 12), .ref s5.1, .null, .null, .int 0, .int 0, .null, .null, .null, .null, .long 0, .null])) = s8 at S8 w8 g8 m8 l8 ⊢
  rw [← m8]
  have z8 := S8.g (fun z => by have z : zs 101 = σ.1 := z; omega) z7
  refine c_new0 (σ := s8) (e := e + 3) w8 z8 (fun s9 F9 m9 A9 => ?_)
  have g9 := x0 F9 (by omega) g8
  have t8 : s8.1 = s5.1 + 1 := by omega
  simp (disch := omega) only [ec_put dX1_init_55, pw_0_9_81_0, pn_0_9_81_0, ec_aload_n (i := 0) dX1_init_58 rfl, ec_new dX1_init_59 ncp_0_84 cSz_31 cDf_31, ec_dup dX1_init_62, ec_aload_n (i := 0) dX1_init_63 rfl, ec_ci1 dX1_init_64 iN_0_86 ccp_0_86_99, cat1_i, cat1_r, cat1_u, catB_n, catB_i, catB_r, catB_l, catB_u, lg_0, lg_s, ldEI_i, ldEL_l, ldEA_r, ldEA_n, lin_0, lin_s, ls1_0, ls1_1, ls1_s, ls2_0, ls2_1, ls2_s, lcl_i, lcl_r, lcl_l, lcl_u, lcl_n, lent_i, lent_r, lent_l, lent_u, lent_0, lent_s, Option.toList_some, Option.toList_none, List.cons_append, List.nil_append, Nat.reduceAdd, true_and, vin_0, vin_s, aE_0, aE_s, EK_r, EK_t, List.set_cons_zero, List.set_cons_succ, va_rf_s, va_rf_n, pC_1, pC_21, aC_1, aC_21, gC_self, gC_new, eI_, eLg_, eV_, eInc_, eN_, eS_, eJ_, eCl_, nI_add, nI_mul, nI_subI, nI_clampI, inb_t, nI_lt0, nI_0le, nI_m1, nI_m1', nI_ofNat, bI_01, b01_0, b01_1, bI_eq0, bI_eq1, bb_01, true_or, or_true, false_or, or_false, eq_self, Nat.reduceAdd, Nat.reduceMul, Nat.reduceSub, Nat.reduceLT, Nat.reduceLeDiff, Nat.reduceEqDiff, ↓reduceIte, and_true, true_and, and_self, Nat.add_zero, Nat.zero_add, not_false_eq_true, not_true_eq_false, faV_n, faV_s, m1_lt0, m1_0le, m1_eq0, m1_le, le_m1, m1_lt, lt_m1, nI_100k, nI_100, upd_e, upd_n, pC_pC, gC_ne', gC_old', nI_lt_t, nI_lt_f, nI_le_t, nI_le_f, nI_eq_t, nI_eq_f, nI_eq0_t, nI_eq0_f, nI_0lt_t, nI_0lt_f, nI_le0_t, nI_le0_f, nI_eq1_t, nI_eq1_f, g9]
  try rw [t8] at m9
  try rw [t8] at A9
  try rw [t8]
  have S10 : Fs (fun b => b = σ.1) s9 (pC s9 σ.1 (.inl (0, [.ref (σ.1 + 1), .ref (σ.1 + 12), .ref s5.1, .ref (s5.1 + 1), .null, .int 0, .int 0, .null, .null, .null, .null, .long 0, .null]))) := Fs.rf.p g9 rfl
  have w10 := S10.hw F9.2.2.2
  have g10 : gC (pC s9 σ.1 (.inl (0, [.ref (σ.1 + 1), .ref (σ.1 + 12), .ref s5.1, .ref (s5.1 + 1), .null, .int 0, .int 0, .null, .null, .null, .null, .long 0, .null]))) σ.1 = some (.inl (0, [.ref (σ.1 + 1), .ref (σ.1 + 12), .ref s5.1, .ref (s5.1 + 1), .null, .int 0, .int 0, .null, .null, .null, .null, .long 0, .null])) := gC_self
  have m10 : (pC s9 σ.1 (.inl (0, [.ref (σ.1 + 1), .ref (σ.1 + 12), .ref s5.1, .ref (s5.1 + 1), .null, .int 0, .int 0, .null, .null, .null, .null, .long 0, .null]))).1 = s9.1 := rfl
  have l10 : (pC s9 σ.1 (.inl (0, [.ref (σ.1 + 1), .ref (σ.1 + 12), .ref s5.1, .ref (s5.1 + 1), .null, .int 0, .int 0, .null, .null, .null, .null, .long 0, .null]))).2.1 = s9.2.1 := rfl
  generalize pC s9 σ.1 (.inl (0, [.ref (σ.1 + 1), .ref (σ.1 + 12), .ref s5.1, .ref (s5.1 + 1), .null, .int 0, .int 0, .null, .null, .null, .null, .long 0, .null])) = s10 at S10 w10 g10 m10 l10 ⊢
  rw [← m10]
  refine c_bInit (σ := s10) (x0 := σ.1) (e := e + 3) w10 (fun s11 F11 m11 b1 b2 b3 => ?_)
  have g11 := x0 F11 (by omega) g10
  have t10 : s10.1 = s5.1 + 2 := by omega
  simp (disch := omega) only [ec_put dX1_init_67, pw_0_9_89_0, pn_0_9_89_0, ec_aload_n (i := 0) dX1_init_70 rfl, ec_new dX1_init_71 ncp_0_93 cSz_33 cDf_33, ec_dup dX1_init_74, ec_aload_n (i := 0) dX1_init_75 rfl, ec_ci1 dX1_init_76 iN_0_95 ccp_0_95_99, cat1_i, cat1_r, cat1_u, catB_n, catB_i, catB_r, catB_l, catB_u, lg_0, lg_s, ldEI_i, ldEL_l, ldEA_r, ldEA_n, lin_0, lin_s, ls1_0, ls1_1, ls1_s, ls2_0, ls2_1, ls2_s, lcl_i, lcl_r, lcl_l, lcl_u, lcl_n, lent_i, lent_r, lent_l, lent_u, lent_0, lent_s, Option.toList_some, Option.toList_none, List.cons_append, List.nil_append, Nat.reduceAdd, true_and, vin_0, vin_s, aE_0, aE_s, EK_r, EK_t, List.set_cons_zero, List.set_cons_succ, va_rf_s, va_rf_n, pC_1, pC_21, aC_1, aC_21, gC_self, gC_new, eI_, eLg_, eV_, eInc_, eN_, eS_, eJ_, eCl_, nI_add, nI_mul, nI_subI, nI_clampI, inb_t, nI_lt0, nI_0le, nI_m1, nI_m1', nI_ofNat, bI_01, b01_0, b01_1, bI_eq0, bI_eq1, bb_01, true_or, or_true, false_or, or_false, eq_self, Nat.reduceAdd, Nat.reduceMul, Nat.reduceSub, Nat.reduceLT, Nat.reduceLeDiff, Nat.reduceEqDiff, ↓reduceIte, and_true, true_and, and_self, Nat.add_zero, Nat.zero_add, not_false_eq_true, not_true_eq_false, faV_n, faV_s, m1_lt0, m1_0le, m1_eq0, m1_le, le_m1, m1_lt, lt_m1, nI_100k, nI_100, upd_e, upd_n, pC_pC, gC_ne', gC_old', nI_lt_t, nI_lt_f, nI_le_t, nI_le_f, nI_eq_t, nI_eq_f, nI_eq0_t, nI_eq0_f, nI_0lt_t, nI_0lt_f, nI_le0_t, nI_le0_f, nI_eq1_t, nI_eq1_f, g11]
  try rw [t10] at m11
  try rw [t10] at b1
  try rw [t10] at b2
  try rw [t10] at b3
  try rw [t10]
  have S12 : Fs (fun b => b = σ.1) s11 (pC s11 σ.1 (.inl (0, [.ref (σ.1 + 1), .ref (σ.1 + 12), .ref s5.1, .ref (s5.1 + 1), .ref (s5.1 + 2), .int 0, .int 0, .null, .null, .null, .null, .long 0, .null]))) := Fs.rf.p g11 rfl
  have w12 := S12.hw F11.2.2.2
  have g12 : gC (pC s11 σ.1 (.inl (0, [.ref (σ.1 + 1), .ref (σ.1 + 12), .ref s5.1, .ref (s5.1 + 1), .ref (s5.1 + 2), .int 0, .int 0, .null, .null, .null, .null, .long 0, .null]))) σ.1 = some (.inl (0, [.ref (σ.1 + 1), .ref (σ.1 + 12), .ref s5.1, .ref (s5.1 + 1), .ref (s5.1 + 2), .int 0, .int 0, .null, .null, .null, .null, .long 0, .null])) := gC_self
  have m12 : (pC s11 σ.1 (.inl (0, [.ref (σ.1 + 1), .ref (σ.1 + 12), .ref s5.1, .ref (s5.1 + 1), .ref (s5.1 + 2), .int 0, .int 0, .null, .null, .null, .null, .long 0, .null]))).1 = s11.1 := rfl
  have l12 : (pC s11 σ.1 (.inl (0, [.ref (σ.1 + 1), .ref (σ.1 + 12), .ref s5.1, .ref (s5.1 + 1), .ref (s5.1 + 2), .int 0, .int 0, .null, .null, .null, .null, .long 0, .null]))).2.1 = s11.2.1 := rfl
  generalize pC s11 σ.1 (.inl (0, [.ref (σ.1 + 1), .ref (σ.1 + 12), .ref s5.1, .ref (s5.1 + 1), .ref (s5.1 + 2), .int 0, .int 0, .null, .null, .null, .null, .long 0, .null])) = s12 at S12 w12 g12 m12 l12 ⊢
  rw [← m12]
  refine c_eInit (σ := s12) (x0 := σ.1) (e := e + 4) w12 (fun s13 FF F13 m13 e1 e2 e3 e4 e5 e6 => ?_)
  have g13 := x0 F13 (by omega) g12
  have t12 : s12.1 = s5.1 + 5 := by omega
  simp (disch := omega) only [ec_put dX1_init_79, pw_0_9_96_0, pn_0_9_96_0, ec_aload_n (i := 0) dX1_init_82 rfl, ec_new dX1_init_83 ncp_0_60 cSz_2 cDf_2, ec_dup dX1_init_86, ec_ci0 dX1_init_87 iN_0_62 ccp_0_62_99, cat1_i, cat1_r, cat1_u, catB_n, catB_i, catB_r, catB_l, catB_u, lg_0, lg_s, ldEI_i, ldEL_l, ldEA_r, ldEA_n, lin_0, lin_s, ls1_0, ls1_1, ls1_s, ls2_0, ls2_1, ls2_s, lcl_i, lcl_r, lcl_l, lcl_u, lcl_n, lent_i, lent_r, lent_l, lent_u, lent_0, lent_s, Option.toList_some, Option.toList_none, List.cons_append, List.nil_append, Nat.reduceAdd, true_and, vin_0, vin_s, aE_0, aE_s, EK_r, EK_t, List.set_cons_zero, List.set_cons_succ, va_rf_s, va_rf_n, pC_1, pC_21, aC_1, aC_21, gC_self, gC_new, eI_, eLg_, eV_, eInc_, eN_, eS_, eJ_, eCl_, nI_add, nI_mul, nI_subI, nI_clampI, inb_t, nI_lt0, nI_0le, nI_m1, nI_m1', nI_ofNat, bI_01, b01_0, b01_1, bI_eq0, bI_eq1, bb_01, true_or, or_true, false_or, or_false, eq_self, Nat.reduceAdd, Nat.reduceMul, Nat.reduceSub, Nat.reduceLT, Nat.reduceLeDiff, Nat.reduceEqDiff, ↓reduceIte, and_true, true_and, and_self, Nat.add_zero, Nat.zero_add, not_false_eq_true, not_true_eq_false, faV_n, faV_s, m1_lt0, m1_0le, m1_eq0, m1_le, le_m1, m1_lt, lt_m1, nI_100k, nI_100, upd_e, upd_n, pC_pC, gC_ne', gC_old', nI_lt_t, nI_lt_f, nI_le_t, nI_le_f, nI_eq_t, nI_eq_f, nI_eq0_t, nI_eq0_f, nI_0lt_t, nI_0lt_f, nI_le0_t, nI_le0_f, nI_eq1_t, nI_eq1_f, g13]
  try rw [t12] at m13
  try rw [t12] at e1
  try rw [t12] at e2
  try rw [t12] at e3
  try rw [t12] at e4
  try rw [t12] at e5
  try rw [t12] at e6
  try rw [t12]
  have S14 : Fs (fun b => b = σ.1) s13 (pC s13 σ.1 (.inl (0, [.ref (σ.1 + 1), .ref (σ.1 + 12), .ref s5.1, .ref (s5.1 + 1), .ref (s5.1 + 2), .int 0, .int 0, .ref (s5.1 + 5), .null, .null, .null, .long 0, .null]))) := Fs.rf.p g13 rfl
  have w14 := S14.hw F13.2.2.2
  have g14 : gC (pC s13 σ.1 (.inl (0, [.ref (σ.1 + 1), .ref (σ.1 + 12), .ref s5.1, .ref (s5.1 + 1), .ref (s5.1 + 2), .int 0, .int 0, .ref (s5.1 + 5), .null, .null, .null, .long 0, .null]))) σ.1 = some (.inl (0, [.ref (σ.1 + 1), .ref (σ.1 + 12), .ref s5.1, .ref (s5.1 + 1), .ref (s5.1 + 2), .int 0, .int 0, .ref (s5.1 + 5), .null, .null, .null, .long 0, .null])) := gC_self
  have m14 : (pC s13 σ.1 (.inl (0, [.ref (σ.1 + 1), .ref (σ.1 + 12), .ref s5.1, .ref (s5.1 + 1), .ref (s5.1 + 2), .int 0, .int 0, .ref (s5.1 + 5), .null, .null, .null, .long 0, .null]))).1 = s13.1 := rfl
  have l14 : (pC s13 σ.1 (.inl (0, [.ref (σ.1 + 1), .ref (σ.1 + 12), .ref s5.1, .ref (s5.1 + 1), .ref (s5.1 + 2), .int 0, .int 0, .ref (s5.1 + 5), .null, .null, .null, .long 0, .null]))).2.1 = s13.2.1 := rfl
  generalize pC s13 σ.1 (.inl (0, [.ref (σ.1 + 1), .ref (σ.1 + 12), .ref s5.1, .ref (s5.1 + 1), .ref (s5.1 + 2), .int 0, .int 0, .ref (s5.1 + 5), .null, .null, .null, .long 0, .null])) = s14 at S14 w14 g14 m14 l14 ⊢
  rw [← m14]
  refine c_ninit (σ := s14) (e := e + 5) w14 (fun s15 N15 => ?_)
  obtain ⟨F15, m15, k15, B15⟩ := N15
  have g15 := x0 F15 (by omega) g14
  have t14 : s14.1 = s5.1 + 10 := by omega
  simp (disch := omega) only [ec_put dX1_init_90, pw_0_9_100_0, pn_0_9_100_0, ec_aload_n (i := 0) dX1_init_93 rfl, ec_new dX1_init_94 ncp_0_103 cSz_32 cDf_32, ec_dup dX1_init_97, ec_aload_n (i := 0) dX1_init_98 rfl, ec_ci1 dX1_init_99 iN_0_105 ccp_0_105_99, cat1_i, cat1_r, cat1_u, catB_n, catB_i, catB_r, catB_l, catB_u, lg_0, lg_s, ldEI_i, ldEL_l, ldEA_r, ldEA_n, lin_0, lin_s, ls1_0, ls1_1, ls1_s, ls2_0, ls2_1, ls2_s, lcl_i, lcl_r, lcl_l, lcl_u, lcl_n, lent_i, lent_r, lent_l, lent_u, lent_0, lent_s, Option.toList_some, Option.toList_none, List.cons_append, List.nil_append, Nat.reduceAdd, true_and, vin_0, vin_s, aE_0, aE_s, EK_r, EK_t, List.set_cons_zero, List.set_cons_succ, va_rf_s, va_rf_n, pC_1, pC_21, aC_1, aC_21, gC_self, gC_new, eI_, eLg_, eV_, eInc_, eN_, eS_, eJ_, eCl_, nI_add, nI_mul, nI_subI, nI_clampI, inb_t, nI_lt0, nI_0le, nI_m1, nI_m1', nI_ofNat, bI_01, b01_0, b01_1, bI_eq0, bI_eq1, bb_01, true_or, or_true, false_or, or_false, eq_self, Nat.reduceAdd, Nat.reduceMul, Nat.reduceSub, Nat.reduceLT, Nat.reduceLeDiff, Nat.reduceEqDiff, ↓reduceIte, and_true, true_and, and_self, Nat.add_zero, Nat.zero_add, not_false_eq_true, not_true_eq_false, faV_n, faV_s, m1_lt0, m1_0le, m1_eq0, m1_le, le_m1, m1_lt, lt_m1, nI_100k, nI_100, upd_e, upd_n, pC_pC, gC_ne', gC_old', nI_lt_t, nI_lt_f, nI_le_t, nI_le_f, nI_eq_t, nI_eq_f, nI_eq0_t, nI_eq0_f, nI_0lt_t, nI_0lt_f, nI_le0_t, nI_le0_f, nI_eq1_t, nI_eq1_f, g15]
  try rw [t14] at m15
  try rw [t14] at k15
  try rw [t14] at B15
  try rw [t14]
  have S16 : Fs (fun b => b = σ.1) s15 (pC s15 σ.1 (.inl (0, [.ref (σ.1 + 1), .ref (σ.1 + 12), .ref s5.1, .ref (s5.1 + 1), .ref (s5.1 + 2), .int 0, .int 0, .ref (s5.1 + 5), .ref (s5.1 + 10), .null, .null, .long 0, .null]))) := Fs.rf.p g15 rfl
  have w16 := S16.hw F15.2.2.2
  have g16 : gC (pC s15 σ.1 (.inl (0, [.ref (σ.1 + 1), .ref (σ.1 + 12), .ref s5.1, .ref (s5.1 + 1), .ref (s5.1 + 2), .int 0, .int 0, .ref (s5.1 + 5), .ref (s5.1 + 10), .null, .null, .long 0, .null]))) σ.1 = some (.inl (0, [.ref (σ.1 + 1), .ref (σ.1 + 12), .ref s5.1, .ref (s5.1 + 1), .ref (s5.1 + 2), .int 0, .int 0, .ref (s5.1 + 5), .ref (s5.1 + 10), .null, .null, .long 0, .null])) := gC_self
  have m16 : (pC s15 σ.1 (.inl (0, [.ref (σ.1 + 1), .ref (σ.1 + 12), .ref s5.1, .ref (s5.1 + 1), .ref (s5.1 + 2), .int 0, .int 0, .ref (s5.1 + 5), .ref (s5.1 + 10), .null, .null, .long 0, .null]))).1 = s15.1 := rfl
  have l16 : (pC s15 σ.1 (.inl (0, [.ref (σ.1 + 1), .ref (σ.1 + 12), .ref s5.1, .ref (s5.1 + 1), .ref (s5.1 + 2), .int 0, .int 0, .ref (s5.1 + 5), .ref (s5.1 + 10), .null, .null, .long 0, .null]))).2.1 = s15.2.1 := rfl
  generalize pC s15 σ.1 (.inl (0, [.ref (σ.1 + 1), .ref (σ.1 + 12), .ref s5.1, .ref (s5.1 + 1), .ref (s5.1 + 2), .int 0, .int 0, .ref (s5.1 + 5), .ref (s5.1 + 10), .null, .null, .long 0, .null])) = s16 at S16 w16 g16 m16 l16 ⊢
  rw [← m16]
  refine c_tInit (σ := s16) (x0 := σ.1) (e := e + 3) w16 (fun s17 F17 m17 t1 t2 t3 => ?_)
  have g17 := x0 F17 (by omega) g16
  have t16 : s16.1 = s5.1 + 21 := by omega
  simp (disch := omega) only [ec_put dX1_init_102, pw_0_9_106_0, pn_0_9_106_0, ec_aload_n (i := 0) dX1_init_105 rfl, ec_new dX1_init_106 ncp_0_110 cSz_34 cDf_34, ec_dup dX1_init_109, ec_aload_n (i := 0) dX1_init_110 rfl, ec_ci1 dX1_init_111 iN_0_112 ccp_0_112_99, cat1_i, cat1_r, cat1_u, catB_n, catB_i, catB_r, catB_l, catB_u, lg_0, lg_s, ldEI_i, ldEL_l, ldEA_r, ldEA_n, lin_0, lin_s, ls1_0, ls1_1, ls1_s, ls2_0, ls2_1, ls2_s, lcl_i, lcl_r, lcl_l, lcl_u, lcl_n, lent_i, lent_r, lent_l, lent_u, lent_0, lent_s, Option.toList_some, Option.toList_none, List.cons_append, List.nil_append, Nat.reduceAdd, true_and, vin_0, vin_s, aE_0, aE_s, EK_r, EK_t, List.set_cons_zero, List.set_cons_succ, va_rf_s, va_rf_n, pC_1, pC_21, aC_1, aC_21, gC_self, gC_new, eI_, eLg_, eV_, eInc_, eN_, eS_, eJ_, eCl_, nI_add, nI_mul, nI_subI, nI_clampI, inb_t, nI_lt0, nI_0le, nI_m1, nI_m1', nI_ofNat, bI_01, b01_0, b01_1, bI_eq0, bI_eq1, bb_01, true_or, or_true, false_or, or_false, eq_self, Nat.reduceAdd, Nat.reduceMul, Nat.reduceSub, Nat.reduceLT, Nat.reduceLeDiff, Nat.reduceEqDiff, ↓reduceIte, and_true, true_and, and_self, Nat.add_zero, Nat.zero_add, not_false_eq_true, not_true_eq_false, faV_n, faV_s, m1_lt0, m1_0le, m1_eq0, m1_le, le_m1, m1_lt, lt_m1, nI_100k, nI_100, upd_e, upd_n, pC_pC, gC_ne', gC_old', nI_lt_t, nI_lt_f, nI_le_t, nI_le_f, nI_eq_t, nI_eq_f, nI_eq0_t, nI_eq0_f, nI_0lt_t, nI_0lt_f, nI_le0_t, nI_le0_f, nI_eq1_t, nI_eq1_f, g17]
  try rw [t16] at m17
  try rw [t16] at t1
  try rw [t16] at t2
  try rw [t16] at t3
  try rw [t16]
  have S18 : Fs (fun b => b = σ.1) s17 (pC s17 σ.1 (.inl (0, [.ref (σ.1 + 1), .ref (σ.1 + 12), .ref s5.1, .ref (s5.1 + 1), .ref (s5.1 + 2), .int 0, .int 0, .ref (s5.1 + 5), .ref (s5.1 + 10), .ref (s5.1 + 21), .null, .long 0, .null]))) := Fs.rf.p g17 rfl
  have w18 := S18.hw F17.2.2.2
  have g18 : gC (pC s17 σ.1 (.inl (0, [.ref (σ.1 + 1), .ref (σ.1 + 12), .ref s5.1, .ref (s5.1 + 1), .ref (s5.1 + 2), .int 0, .int 0, .ref (s5.1 + 5), .ref (s5.1 + 10), .ref (s5.1 + 21), .null, .long 0, .null]))) σ.1 = some (.inl (0, [.ref (σ.1 + 1), .ref (σ.1 + 12), .ref s5.1, .ref (s5.1 + 1), .ref (s5.1 + 2), .int 0, .int 0, .ref (s5.1 + 5), .ref (s5.1 + 10), .ref (s5.1 + 21), .null, .long 0, .null])) := gC_self
  have m18 : (pC s17 σ.1 (.inl (0, [.ref (σ.1 + 1), .ref (σ.1 + 12), .ref s5.1, .ref (s5.1 + 1), .ref (s5.1 + 2), .int 0, .int 0, .ref (s5.1 + 5), .ref (s5.1 + 10), .ref (s5.1 + 21), .null, .long 0, .null]))).1 = s17.1 := rfl
  have l18 : (pC s17 σ.1 (.inl (0, [.ref (σ.1 + 1), .ref (σ.1 + 12), .ref s5.1, .ref (s5.1 + 1), .ref (s5.1 + 2), .int 0, .int 0, .ref (s5.1 + 5), .ref (s5.1 + 10), .ref (s5.1 + 21), .null, .long 0, .null]))).2.1 = s17.2.1 := rfl
  generalize pC s17 σ.1 (.inl (0, [.ref (σ.1 + 1), .ref (σ.1 + 12), .ref s5.1, .ref (s5.1 + 1), .ref (s5.1 + 2), .int 0, .int 0, .ref (s5.1 + 5), .ref (s5.1 + 10), .ref (s5.1 + 21), .null, .long 0, .null])) = s18 at S18 w18 g18 m18 l18 ⊢
  rw [← m18]
  refine c_gInit (σ := s18) (x0 := σ.1) (e := e + 4) w18 (fun s19 F19 m19 y1 y2 y3 => ?_)
  have g19 := x0 F19 (by omega) g18
  have t18 : s18.1 = s5.1 + 24 := by omega
  simp (disch := omega) only [ec_put dX1_init_114, pw_0_9_113_0, pn_0_9_113_0, ec_aload_n (i := 0) dX1_init_117 rfl, ec_iconst (v := nI 4) dX1_init_118 rfl, ec_anew dX1_init_119 acp_0_117, cat1_i, cat1_r, cat1_u, catB_n, catB_i, catB_r, catB_l, catB_u, lg_0, lg_s, ldEI_i, ldEL_l, ldEA_r, ldEA_n, lin_0, lin_s, ls1_0, ls1_1, ls1_s, ls2_0, ls2_1, ls2_s, lcl_i, lcl_r, lcl_l, lcl_u, lcl_n, lent_i, lent_r, lent_l, lent_u, lent_0, lent_s, Option.toList_some, Option.toList_none, List.cons_append, List.nil_append, Nat.reduceAdd, true_and, vin_0, vin_s, aE_0, aE_s, EK_r, EK_t, List.set_cons_zero, List.set_cons_succ, va_rf_s, va_rf_n, pC_1, pC_21, aC_1, aC_21, gC_self, gC_new, eI_, eLg_, eV_, eInc_, eN_, eS_, eJ_, eCl_, nI_add, nI_mul, nI_subI, nI_clampI, inb_t, nI_lt0, nI_0le, nI_m1, nI_m1', nI_ofNat, bI_01, b01_0, b01_1, bI_eq0, bI_eq1, bb_01, true_or, or_true, false_or, or_false, eq_self, Nat.reduceAdd, Nat.reduceMul, Nat.reduceSub, Nat.reduceLT, Nat.reduceLeDiff, Nat.reduceEqDiff, ↓reduceIte, and_true, true_and, and_self, Nat.add_zero, Nat.zero_add, not_false_eq_true, not_true_eq_false, faV_n, faV_s, m1_lt0, m1_0le, m1_eq0, m1_le, le_m1, m1_lt, lt_m1, nI_100k, nI_100, upd_e, upd_n, pC_pC, gC_ne', gC_old', nI_lt_t, nI_lt_f, nI_le_t, nI_le_f, nI_eq_t, nI_eq_f, nI_eq0_t, nI_eq0_f, nI_0lt_t, nI_0lt_f, nI_le0_t, nI_le0_f, nI_eq1_t, nI_eq1_f, g19]
  try rw [t18] at m19
  try rw [t18] at y1
  try rw [t18] at y2
  try rw [t18] at y3
  try rw [t18]
  have S20 : Fs (fun b => b = σ.1) s19 (pC s19 σ.1 (.inl (0, [.ref (σ.1 + 1), .ref (σ.1 + 12), .ref s5.1, .ref (s5.1 + 1), .ref (s5.1 + 2), .int 0, .int 0, .ref (s5.1 + 5), .ref (s5.1 + 10), .ref (s5.1 + 21), .ref (s5.1 + 24), .long 0, .null]))) := Fs.rf.p g19 rfl
  have w20 := S20.hw F19.2.2.2
  have g20 : gC (pC s19 σ.1 (.inl (0, [.ref (σ.1 + 1), .ref (σ.1 + 12), .ref s5.1, .ref (s5.1 + 1), .ref (s5.1 + 2), .int 0, .int 0, .ref (s5.1 + 5), .ref (s5.1 + 10), .ref (s5.1 + 21), .ref (s5.1 + 24), .long 0, .null]))) σ.1 = some (.inl (0, [.ref (σ.1 + 1), .ref (σ.1 + 12), .ref s5.1, .ref (s5.1 + 1), .ref (s5.1 + 2), .int 0, .int 0, .ref (s5.1 + 5), .ref (s5.1 + 10), .ref (s5.1 + 21), .ref (s5.1 + 24), .long 0, .null])) := gC_self
  have m20 : (pC s19 σ.1 (.inl (0, [.ref (σ.1 + 1), .ref (σ.1 + 12), .ref s5.1, .ref (s5.1 + 1), .ref (s5.1 + 2), .int 0, .int 0, .ref (s5.1 + 5), .ref (s5.1 + 10), .ref (s5.1 + 21), .ref (s5.1 + 24), .long 0, .null]))).1 = s19.1 := rfl
  have l20 : (pC s19 σ.1 (.inl (0, [.ref (σ.1 + 1), .ref (σ.1 + 12), .ref s5.1, .ref (s5.1 + 1), .ref (s5.1 + 2), .int 0, .int 0, .ref (s5.1 + 5), .ref (s5.1 + 10), .ref (s5.1 + 21), .ref (s5.1 + 24), .long 0, .null]))).2.1 = s19.2.1 := rfl
  generalize pC s19 σ.1 (.inl (0, [.ref (σ.1 + 1), .ref (σ.1 + 12), .ref s5.1, .ref (s5.1 + 1), .ref (s5.1 + 2), .int 0, .int 0, .ref (s5.1 + 5), .ref (s5.1 + 10), .ref (s5.1 + 21), .ref (s5.1 + 24), .long 0, .null])) = s20 at S20 w20 g20 m20 l20 ⊢
  rw [← m20]
  have t20 : s20.1 = s5.1 + 27 := by omega
  simp (disch := omega) only [ec_put dX1_init_122, pw_0_9_119_0, ec_vret dX1_init_125, cat1_i, cat1_r, cat1_u, catB_n, catB_i, catB_r, catB_l, catB_u, lg_0, lg_s, ldEI_i, ldEL_l, ldEA_r, ldEA_n, lin_0, lin_s, ls1_0, ls1_1, ls1_s, ls2_0, ls2_1, ls2_s, lcl_i, lcl_r, lcl_l, lcl_u, lcl_n, lent_i, lent_r, lent_l, lent_u, lent_0, lent_s, Option.toList_some, Option.toList_none, List.cons_append, List.nil_append, Nat.reduceAdd, true_and, vin_0, vin_s, aE_0, aE_s, EK_r, EK_t, List.set_cons_zero, List.set_cons_succ, va_rf_s, va_rf_n, pC_1, pC_21, aC_1, aC_21, gC_self, gC_new, eI_, eLg_, eV_, eInc_, eN_, eS_, eJ_, eCl_, nI_add, nI_mul, nI_subI, nI_clampI, inb_t, nI_lt0, nI_0le, nI_m1, nI_m1', nI_ofNat, bI_01, b01_0, b01_1, bI_eq0, bI_eq1, bb_01, true_or, or_true, false_or, or_false, eq_self, Nat.reduceAdd, Nat.reduceMul, Nat.reduceSub, Nat.reduceLT, Nat.reduceLeDiff, Nat.reduceEqDiff, ↓reduceIte, and_true, true_and, and_self, Nat.add_zero, Nat.zero_add, not_false_eq_true, not_true_eq_false, faV_n, faV_s, m1_lt0, m1_0le, m1_eq0, m1_le, le_m1, m1_lt, lt_m1, nI_100k, nI_100, upd_e, upd_n, pC_pC, gC_ne', gC_old', nI_lt_t, nI_lt_f, nI_le_t, nI_le_f, nI_eq_t, nI_eq_f, nI_eq0_t, nI_eq0_f, nI_0lt_t, nI_0lt_f, nI_le0_t, nI_le0_f, nI_eq1_t, nI_eq1_f, g20, gC_oldn]
  rw [t20]
  obtain ⟨F21, m21, g21, a21⟩ := fr_na (k := 4) (c0 := .inr (6, 4, .inr (.inr (.inr (.inr (fun _ => none)))))) (c2 := .inl (0, [.ref (σ.1 + 1), .ref (σ.1 + 12), .ref s5.1, .ref (s5.1 + 1), .ref (s5.1 + 2), .int 0, .int 0, .ref (s5.1 + 5), .ref (s5.1 + 10), .ref (s5.1 + 21), .ref (s5.1 + 24), .long 0, .ref (s5.1 + 27)])) w20 g20
  have w21 := F21.2.2.2
  generalize pC (aC s20 4 (.inr (6, 4, .inr (.inr (.inr (.inr (fun _ => none))))))) σ.1 (.inl (0, [.ref (σ.1 + 1), .ref (σ.1 + 12), .ref s5.1, .ref (s5.1 + 1), .ref (s5.1 + 2), .int 0, .int 0, .ref (s5.1 + 5), .ref (s5.1 + 10), .ref (s5.1 + 21), .ref (s5.1 + 24), .long 0, .ref (s5.1 + 27)])) = s21 at F21 m21 g21 a21 w21 ⊢
  rw [t20] at a21 m21
  -- what is kept
  have K19 : ∀ b, b ≠ σ.1 → b < s5.1 + 27 → gC s21 b = gC s19 b := fun b h1 h2 => by rw [F21.2.2.1 b (by omega) h1, S20.2.2.1 b h1]
  have K17 : ∀ b, b ≠ σ.1 → b < s5.1 + 24 → gC s21 b = gC s17 b := fun b h1 h2 => by rw [K19 b h1 (by omega), F19.2.2.1 b (by omega) (fun z => z), S18.2.2.1 b h1]
  have K15 : ∀ b, b ≠ σ.1 → b < s5.1 + 21 → gC s21 b = gC s15 b := fun b h1 h2 => by rw [K17 b h1 (by omega), F17.2.2.1 b (by omega) (fun z => z), S16.2.2.1 b h1]
  have K13 : ∀ b, b ≠ σ.1 → b < s5.1 + 10 → gC s21 b = gC s13 b := fun b h1 h2 => by rw [K15 b h1 (by omega), F15.2.2.1 b (by omega) (fun z => z), S14.2.2.1 b h1]
  have K11 : ∀ b, b ≠ σ.1 → b < s5.1 + 5 → gC s21 b = gC s11 b := fun b h1 h2 => by rw [K13 b h1 (by omega), F13.2.2.1 b (by omega) (fun z => z), S12.2.2.1 b h1]
  have K9 : ∀ b, b ≠ σ.1 → b < s5.1 + 2 → gC s21 b = gC s9 b := fun b h1 h2 => by rw [K11 b h1 (by omega), F11.2.2.1 b (by omega) (fun z => z), S10.2.2.1 b h1]
  have K7 : ∀ b, b ≠ σ.1 → b < s5.1 + 1 → gC s21 b = gC s7 b := fun b h1 h2 => by rw [K9 b h1 (by omega), F9.2.2.1 b (by omega) (fun z => z), S8.2.2.1 b h1]
  have K5 : ∀ b, b ≠ σ.1 → b < s5.1 → gC s21 b = gC s5 b := fun b h1 h2 => by rw [K7 b h1 (by omega), F7.2.2.1 b (by omega) (fun z => z), S6.2.2.1 b h1]
  have K4 : ∀ b, b ≠ σ.1 → b < σ.1 + 12 → gC s21 b = gC s1 b := fun b h1 h2 => by
    rw [K5 b h1 (by omega), F5.2.2.1 b (by omega) (fun z => by
      have := z.1
      unfold OW4 at this
      (repeat' split at this) <;> omega), F4.2.2.1 b (by omega) (fun z => z), F3.2.2.1 b (by omega) (fun z => z), S2.2.2.1 b h1]
  have K0 : ∀ b, b < σ.1 → gC s21 b = gC σ b := fun b h1 => by rw [K4 b (by omega) (by omega), F1.2.2.1 b (by omega) (fun z => z), F0.2.2.1 b h1 (fun z => z)]
  -- all of it
  have F21a : Fr (fun b => b = σ.1) 28 5200 s5 s21 := by
    have q7 := F7.2.1
    have q9 := F9.2.1
    have q11 := F11.2.1
    have q13 := F13.2.1
    have q15 := F15.2.1
    have q17 := F17.2.1
    have q19 := F19.2.1
    have q21 := F21.2.1
    exact ⟨⟨by omega, by omega⟩, ⟨by omega, by omega⟩, fun b hb hs => K5 b hs hb, w21⟩
  have F0a : Fr (fun _ => False) 160 20000 σ s21 := by
    have q0 := F0.2.1
    have q1 := F1.2.1
    have q3 := F3.2.1
    have q4 := F4.2.1
    have q5 := F5.2.1
    have q21 := F21a.2.1
    have p5 := F5.1
    exact ⟨⟨by omega, by omega⟩, ⟨by omega, by omega⟩, fun b hb _ => K0 b hb, w21⟩
  have of : ∀ b, b < σ.1 + 34 → OWf σ.1 s5.1 b = OW4 σ.1 b := fun b hb => if_pos hb
  have og : ∀ b, s5.1 ≤ b → OWf σ.1 s5.1 b = if b = s5.1 then 0 else if b = s5.1 + 1 then 4 else if b < s5.1 + 10 then 6 else if b < s5.1 + 21 then 8 else if b < s5.1 + 27 then 6 else if b = s5.1 + 27 then 5 else 39 := fun b hb => by
    unfold OWf
    rw [if_neg (by omega), if_neg (by omega)]
  have ox : OWf σ.1 s5.1 σ.1 = 2 := by rw [of _ (by omega)]; unfold OW4; rw [if_neg (by omega), if_pos rfl]
  have o3 : ∀ b, σ.1 < b → b < σ.1 + 12 → OWf σ.1 s5.1 b = 3 := fun b h1 h2 => by rw [of _ (by omega)]; unfold OW4; rw [if_neg (by omega), if_neg (by omega), if_pos h2]
  have oo : ∀ b, b < σ.1 → OWf σ.1 s5.1 b = 0 := fun b h1 => by rw [of _ (by omega)]; unfold OW4; rw [if_pos h1]
  have od : OWf σ.1 s5.1 s5.1 = 0 := by rw [og _ (Nat.le_refl _), if_pos rfl]
  have o6 : ∀ b, s5.1 + 2 ≤ b → b < s5.1 + 10 → OWf σ.1 s5.1 b = 6 := fun b h1 h2 => by rw [og _ (by omega), if_neg (by omega), if_neg (by omega), if_pos h2]
  have o6' : ∀ b, s5.1 + 21 ≤ b → b < s5.1 + 27 → OWf σ.1 s5.1 b = 6 := fun b h1 h2 => by rw [og _ (by omega), if_neg (by omega), if_neg (by omega), if_neg (by omega), if_neg (by omega), if_pos h2]
  have NI : NightAt (OWf σ.1 s5.1) 40 (tlK 40 qP) s21 (σ.1 + 12) (σ.1 + 23) (σ.1 + 33) qP (fhS qP) L5 := by
    have hq5 : QC (OWf σ.1 s5.1) s5 (σ.1 + 23) (σ.1 + 33) qP := (hQC.own w4 (fun b hb => of b (by omega))).fr w4 F5 (fun b hb hs => by
      rw [of b (by omega)]
      have := hs.1
      omega)
    have n5 : NightAt (OWf σ.1 s5.1) 40 (tlK 40 qP) s5 (σ.1 + 12) (σ.1 + 23) (σ.1 + 33) qP (fhS qP) L5 := ⟨N5.1, hq5, fun d hd => absurd hd (Nat.not_lt_zero d), ⟨by omega, fun d hd => absurd hd (Nat.not_lt_zero d), fun d d' hd => absurd hd (Nat.not_lt_zero d)⟩, fun b h1 h2 => by rw [of b (by omega)]; unfold OW4; rw [if_neg (by omega), if_neg (by omega), if_neg (by omega), if_pos (by omega)], fun d hd => absurd hd (Nat.not_lt_zero d)⟩
    exact n5.fr F5.2.2.2 F21a (fun b hb hs => by
      have hs : b = σ.1 := hs
      rw [hs, ox]
      exact ⟨by omega, by omega, by omega, fun d hd => absurd hd (Nat.not_lt_zero d)⟩)
  have A7' : ALm s21 s5.1 (zs 101) 0 0 (fun _ => 0) := by
    obtain ⟨mc, f, h1, h2, h3, h4, h5⟩ := A7
    exact ⟨mc, f, (K7 _ (by omega) (by omega)).trans h1, (K7 _ (by omega) (by omega)).trans h2, h3, fun i hi => absurd hi (Nat.not_lt_zero i), h5⟩
  have A9' : ALm s21 (s5.1 + 1) (zs 101) 0 0 (fun _ => 0) := by
    obtain ⟨mc, f, h1, h2, h3, h4, h5⟩ := A9
    exact ⟨mc, f, (K9 _ (by omega) (by omega)).trans h1, (K9 _ (by omega) (by omega)).trans h2, h3, fun i hi => absurd hi (Nat.not_lt_zero i), h5⟩
  have sa : ∀ {b : Nat} {ix : List Nat}, σ.1 < b → b < σ.1 + 12 → StA zs s1 b ix → StA zs s21 b ix := fun h1 h2 h => by
    obtain ⟨f, h3, h4⟩ := h
    exact ⟨f, (K4 _ (by omega) h2).trans h3, h4⟩
  refine hP s21 (G00 zs σ.1 s5.1 L5) ⟨⟨w21, fun b => ?_, fun b hb => ?_, fun b hb => ?_, by show 39 < 41; omega, by show 39 < 40; omega, fun d hd => absurd hd (Nat.not_lt_zero d)⟩, ⟨g21, ox⟩, NI, ⟨fun _ => 0, A7'.z od (oo _ hzl'), fun i hi => absurd hi (Nat.not_lt_zero i)⟩, ?_, ⟨⟨A9', by show 0 ≤ 16; omega, by show 0 ≤ 42; omega, fun _ => rfl⟩, ⟨?_, fun h => absurd h (Nat.lt_irrefl 0)⟩, fun i hi => absurd hi (Nat.not_lt_zero i)⟩, ⟨⟨a21, ?_⟩, fun k hk => ⟨rfl, fun qm sm Lm h => by cases h⟩⟩, ?_, ?_⟩ F0a rfl
  · show OWf σ.1 s5.1 b < 41
    unfold OWf
    have := o4 b
    (repeat' split) <;> omega
  · have hb : OWf σ.1 s5.1 b = 1 := hb
    show b = σ.1 + 33
    unfold OWf OW4 at hb
    (repeat' split at hb) <;> omega
  · have hb : s21.1 ≤ b := hb
    show OWf σ.1 s5.1 b = 39
    rw [og b (by omega)]
    repeat rw [if_neg (by omega)]
  · obtain ⟨r1, F, r2, r3⟩ := T1
    obtain ⟨k0, k1, k2, k3', k4', k5⟩ := K1
    obtain ⟨Fa, Va, Ga, ⟨c7, c8, c9⟩, c10⟩ := C1
    refine ⟨⟨(K4 _ (by omega) (by omega)).trans r1, F, (K4 _ (by omega) (by omega)).trans r2, r3⟩, ⟨sa (by omega) (by omega) k0, sa (by omega) (by omega) k1, sa (by omega) (by omega) k2, sa (by omega) (by omega) k3', sa (by omega) (by omega) k4', sa (by omega) (by omega) k5⟩, ⟨Fa, Va, Ga, ⟨(K4 _ (by omega) (by omega)).trans c7, (K4 _ (by omega) (by omega)).trans c8, (K4 _ (by omega) (by omega)).trans c9⟩, c10⟩, by show σ.1 + 1 + 1 + 7 ≠ σ.1 + 1 + 1 + 9; omega, o3 _ (by show σ.1 < σ.1 + 1; omega) (by show σ.1 + 1 < σ.1 + 12; omega), fun k hk => o3 _ (by show σ.1 < σ.1 + 1 + 1 + k; omega) (by show σ.1 + 1 + 1 + k < σ.1 + 12; omega)⟩
  · show OWf σ.1 s5.1 (s5.1 + 1) = 4
    rw [og _ (by omega), if_neg (by omega), if_pos rfl]
  · show OWf σ.1 s5.1 (s5.1 + 27) = 5
    rw [og _ (by omega), if_neg (by omega), if_neg (by omega), if_neg (by omega), if_neg (by omega), if_neg (by omega), if_pos rfl]
  · refine ⟨⟨s5.1 + 3, s5.1 + 4, s5.1 + 22, s5.1 + 23, ⟨_, _, (K11 _ (by omega) (by omega)).trans b1, ⟨_, (K11 _ (by omega) (by omega)).trans b3⟩, (K11 _ (by omega) (by omega)).trans b2, o6 _ (by omega) (by omega), o6 _ (by omega) (by omega), o6 _ (by omega) (by omega)⟩, ⟨_, (K17 _ (by omega) (by omega)).trans t1, ⟨_, (K17 _ (by omega) (by omega)).trans t3⟩, (K17 _ (by omega) (by omega)).trans t2, o6' _ (by omega) (by omega), o6' _ (by omega) (by omega), o6' _ (by omega) (by omega)⟩, by omega, by omega⟩, ⟨s5.1 + 6, s5.1 + 9, .null, 0, 0, FF, s5.1 + 7, s5.1 + 8, _, _, _, (K13 _ (by omega) (by omega)).trans e1, (K13 _ (by omega) (by omega)).trans e2, ⟨e3.1, e3.2, by omega⟩, ⟨(K13 _ (by omega) (by omega)).trans e4, (K13 _ (by omega) (by omega)).trans e5, (K13 _ (by omega) (by omega)).trans e6⟩, o6 _ (by omega) (by omega), o6 _ (by omega) (by omega), o6 _ (by omega) (by omega), o6 _ (by omega) (by omega), o6 _ (by omega) (by omega)⟩, ⟨.null, .int 0, .int 0, fun _ => none, fun _ => none, ⟨(K15 _ (by omega) (by omega)).trans k15, B15.k (fun b h1 h2 => K15 b (by omega) (by omega)), fun b h1 h2 => ?_, by omega, fun i hi => Or.inl rfl⟩, rfl⟩, ⟨s5.1 + 25, s5.1 + 26, _, _, (K19 _ (by omega) (by omega)).trans y1, (K19 _ (by omega) (by omega)).trans y2, (K19 _ (by omega) (by omega)).trans y3, o6' _ (by omega) (by omega), o6' _ (by omega) (by omega), o6' _ (by omega) (by omega)⟩⟩
    rw [og _ (by omega), if_neg (by omega), if_neg (by omega), if_neg (by omega), if_pos (by omega)]
  · refine ⟨fun v h1 h2 => ?_, fun i hi => oo _ (hzl i hi), (K0 _ hzl').trans hz, oo _ hzl'⟩
    have := hL v h1 h2
    exact (K0 _ (hw _ _ this)).trans this
end
