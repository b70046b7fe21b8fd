set_option maxRecDepth 100000
/-! THE COMPONENT's public calls: best: how far slips are felt -/
theorem nr_up0 {r f : Nat → Nat} {n : Nat} : ∀ k, nrS (upN r 0 n) f k = nrS r f k
  | 0 => rfl
  | k + 1 => by
    unfold nrS
    rw [nr_up0 k, upN_n (by omega), upN_n (by omega), upN_n (by omega), upN_n (by omega)]
theorem fa_up0 {kd n : Nat} {r f : Nat → Nat} : faS kd (upN r 0 n) f = faS kd r f := by
  unfold faS
  rw [nr_up0, upN_n (by omega), upN_n (by omega), upN_n (by omega), upN_n (by omega), upN_n (by omega), upN_n (by omega), upN_n (by omega), upN_n (by omega), upN_n (by omega), upN_n (by omega)]
/-- slips of a hand of which a door with a near opens -/
def cNr (q : QT) (s : Nat → Nat) (d h near : Nat) (x : Nat) : Nat := if slB x (qSl q h) = true then (opS (qDk q d) (qK q h) (upN (rowOf s d) 0 near) (fnS q s h (dgt x))).toNat else 0
theorem cNr_cn {q : QT} {s : Nat → Nat} {d h near : Nat} (hs : qSl q h ≤ 3) : smN (cNr q s d h near) 2401 = cnT q s d h near := by
  have := sl_count hs (fun g => (opS (qDk q d) (qK q h) (upN (rowOf s d) 0 near) (fnS q s h g)).toNat) (fun f g e => by rw [op_cg (fn_cg e)])
  unfold cnT
  rw [cR_sm]
  exact this
theorem cNr_5 {q : QT} {s : Nat → Nat} {d h near : Nat} (h5 : qDk q d = 5) : ∀ n, smN (cNr q s d h near) n = 0
  | 0 => rfl
  | n + 1 => by
    unfold smN
    rw [cNr_5 h5 n]
    unfold cNr opS
    rw [h5]
    split <;> rfl
theorem cNr_2 {q : QT} {s : Nat → Nat} {d h near : Nat} (h5 : qDk q d ≠ 5) (h2 : qK q h = 2) : ∀ n, smN (cNr q s d h near) n = smN (cA q h) n
  | 0 => rfl
  | n + 1 => by
    unfold smN
    rw [cNr_2 h5 h2 n]
    unfold cNr opS cA
    rw [h2]
    split
    · rw [decide_eq_false h5]; rfl
    · rfl
def uF (v : Int32) : Option Nat := if v = -1 then none else some (ix v)
theorem uF_fa {x : Option Nat} (h : ∀ y, x = some y → y < 2 ^ 31) : uF (faV x) = x := by
  unfold uF
  cases x with
  | none => rfl
  | some y =>
    have hy := h y rfl
    show (if nI y = -1 then none else some (ix (nI y))) = some y
    rw [if_neg (fun z => by
      have : ¬ (nI y < 0) := fun z => by rw [nI_lt0 hy] at z; exact z
      rw [z] at this
      exact this (by decide)), show ix (nI y) = y from nI_clamp hy]
/-- how far they are, one behind the other -/
def FaA (q : QT) (s : Nat → Nat) (d h : Nat) (F : Nat → Int32) (n : Nat) : Prop := ∀ x, x < n → slB x (qSl q h) = true → F (smN (cA q h) x) = faV (faS (qDk q d) (rowOf s d) (fnS q s h (dgt x)))
theorem smN_mono {f : Nat → Nat} {n : Nat} : ∀ m, n ≤ m → smN f n ≤ smN f m
  | 0, h => by rw [show n = 0 by omega]; exact Nat.le_refl _
  | m + 1, h => by
    rcases Nat.lt_or_ge n (m + 1) with h' | h'
    · have := smN_mono (f := f) m (show n ≤ m by omega)
      show smN f n ≤ smN f m + f m
      omega
    · rw [show n = m + 1 by omega]; exact Nat.le_refl _
theorem cA_x {q : QT} {h : Nat} : ∀ n i, i < smN (cA q h) n → ∃ x, x < n ∧ slB x (qSl q h) = true ∧ smN (cA q h) x = i
  | 0, i, hi => absurd hi (Nat.not_lt_zero _)
  | n + 1, i, hi => by
    rcases Nat.lt_or_ge i (smN (cA q h) n) with h' | h'
    · obtain ⟨x, a, b⟩ := cA_x n i h'
      exact ⟨x, by omega, b⟩
    · have e : smN (cA q h) (n + 1) = smN (cA q h) n + cA q h n := rfl
      rw [e] at hi
      have hc : slB n (qSl q h) = true := by
        cases hb : slB n (qSl q h) with
        | true => rfl
        | false =>
          have h0 : cA q h n = 0 := by unfold cA; rw [hb]; rfl
          omega
      have h1 : cA q h n = 1 := if_pos hc
      exact ⟨n, by omega, hc, by omega⟩
/-- counted one behind the other: counted over the slips -/
theorem cA_sm {q : QT} {h : Nat} {g f : Nat → Nat} : ∀ n, (∀ x, x < n → slB x (qSl q h) = true → g (smN (cA q h) x) = f x) → smN g (smN (cA q h) n) = smN (fun x => if slB x (qSl q h) = true then f x else 0) n
  | 0, _ => rfl
  | n + 1, hg => by
    have e : smN (cA q h) (n + 1) = smN (cA q h) n + cA q h n := rfl
    rw [e]
    have ih := cA_sm (g := g) (f := f) n (fun x hx => hg x (by omega))
    show _ = smN (fun x => if slB x (qSl q h) = true then f x else 0) n + (if slB n (qSl q h) = true then f n else 0)
    rw [← ih]
    cases hb : slB n (qSl q h) with
    | false =>
      have h1 : cA q h n = 0 := by unfold cA; rw [hb]; rfl
      rw [h1]; rfl
    | true =>
      have h1 : cA q h n = 1 := if_pos hb
      rw [h1]
      show smN g (smN (cA q h) n) + g (smN (cA q h) n) = _
      rw [hg n (by omega) hb]; rfl
section
variable {zs : Nat → Nat} {e : Nat} {σ : CM} {P : CR → Prop} {ow tl : Nat → Nat} {t n0 qa fx : Nat} {q : QT} {s L : Nat → Nat} {x0 hl : Nat} {op al : Int32} {gg : Int64} {A : Nat → Nat} {B : Nat} {er fa mn fw : Nat} {ff : Nat → Option Nat} {ab be : Int32}
/-- a lock's mind says how far -/
theorem c_mfar {d h x : Nat} (hr : RO B (rowOf s d)) (hB : B ≤ 5899000) (hk5 : qDk q d ≤ 5) {a fe : Nat} (hM : MindAt σ a (qDk q d) (rowOf s d)) (hF : IA σ fe 4 (fnS q s h (dgt x))) (hP : EC zs (Jc zs) (e + 2) cX16_lays none 33 0 52 [some (.ref er), some (.int (nI fw)), some (.int (nI h)), some (.int (nI x))] [.int (faV (faS (qDk q d) (rowOf s d) (fnS q s h (dgt x)))), .int (nI fw), .ref er] σ P) : EC zs (Jc zs) (e + 2) cX16_lays none 33 0 49 [some (.ref er), some (.int (nI fw)), some (.int (nI h)), some (.int (nI x))] [.ref fe, .ref a, .int (nI fw), .ref er] σ P := by
  have f9 : ∀ k, k < 4 → fnS q s h (dgt x) k ≤ 9 := fun k _ => ftS_le
  have c0 : qDk q d = 0 ∨ qDk q d = 1 ∨ qDk q d = 2 ∨ qDk q d = 3 ∨ qDk q d = 4 ∨ qDk q d = 5 := by omega
  generalize qDk q d = kd at *
  rcases c0 with z | z | z | z | z | z <;> rw [z] at hM hP
  · have hmc := (hM.m (by omega)).1
    simp (disch := omega) only [ec_cv1 dX16_lays_49 iN_33_68 cna_33_68, vcE_o ccp_33_68_6, vcE_o ccp_33_68_7, vcE_o ccp_33_68_8, vcE_o ccp_33_68_9, vcE_o ccp_33_68_10, vcE_o ccp_33_68_11, cat1_i, cat1_r, cat1_u, catB_n, catB_i, catB_r, catB_l, catB_u, lg_0, lg_s, ldEI_i, ldEL_l, ldEA_r, ldEA_n, lin_0, lin_s, ls1_0, ls1_1, ls1_s, ls2_0, ls2_1, ls2_s, lcl_i, lcl_r, lcl_l, lcl_u, lcl_n, lent_i, lent_r, lent_l, lent_u, lent_0, lent_s, Option.toList_some, Option.toList_none, List.cons_append, List.nil_append, Nat.reduceAdd, true_and, vin_0, vin_s, aE_0, aE_s, EK_r, EK_t, List.set_cons_zero, List.set_cons_succ, va_rf_s, va_rf_n, pC_1, pC_21, aC_1, aC_21, gC_self, gC_new, eI_, eLg_, eV_, eInc_, eN_, eS_, eJ_, eCl_, nI_add, nI_mul, nI_subI, nI_clampI, inb_t, nI_lt0, nI_0le, nI_m1, nI_m1', nI_ofNat, bI_01, b01_0, b01_1, bI_eq0, bI_eq1, bb_01, true_or, or_true, false_or, or_false, eq_self, Nat.reduceAdd, Nat.reduceMul, Nat.reduceSub, Nat.reduceLT, Nat.reduceLeDiff, Nat.reduceEqDiff, ↓reduceIte, and_true, true_and, and_self, Nat.add_zero, Nat.zero_add, not_false_eq_true, not_true_eq_false, faV_n, faV_s, m1_lt0, m1_0le, m1_eq0, m1_le, le_m1, m1_lt, lt_m1, nI_100k, nI_100, upd_e, upd_n, pC_pC, gC_ne', gC_old', nI_lt_t, nI_lt_f, nI_le_t, nI_le_f, nI_eq_t, nI_eq_f, nI_eq0_t, nI_eq0_f, nI_0lt_t, nI_0lt_f, nI_le0_t, nI_le0_f, nI_eq1_t, nI_eq1_f, hmc, mnC, c_far_m (by omega) hM hF f9 hr (show B ≤ 5900000 by omega)]
    exact hP
  · have hmc := hM.n.1
    simp (disch := omega) only [ec_cv1 dX16_lays_49 iN_33_68 cna_33_68, vcE_o ccp_33_68_6, vcE_o ccp_33_68_7, vcE_o ccp_33_68_8, vcE_o ccp_33_68_9, vcE_o ccp_33_68_10, vcE_o ccp_33_68_11, cat1_i, cat1_r, cat1_u, catB_n, catB_i, catB_r, catB_l, catB_u, lg_0, lg_s, ldEI_i, ldEL_l, ldEA_r, ldEA_n, lin_0, lin_s, ls1_0, ls1_1, ls1_s, ls2_0, ls2_1, ls2_s, lcl_i, lcl_r, lcl_l, lcl_u, lcl_n, lent_i, lent_r, lent_l, lent_u, lent_0, lent_s, Option.toList_some, Option.toList_none, List.cons_append, List.nil_append, Nat.reduceAdd, true_and, vin_0, vin_s, aE_0, aE_s, EK_r, EK_t, List.set_cons_zero, List.set_cons_succ, va_rf_s, va_rf_n, pC_1, pC_21, aC_1, aC_21, gC_self, gC_new, eI_, eLg_, eV_, eInc_, eN_, eS_, eJ_, eCl_, nI_add, nI_mul, nI_subI, nI_clampI, inb_t, nI_lt0, nI_0le, nI_m1, nI_m1', nI_ofNat, bI_01, b01_0, b01_1, bI_eq0, bI_eq1, bb_01, true_or, or_true, false_or, or_false, eq_self, Nat.reduceAdd, Nat.reduceMul, Nat.reduceSub, Nat.reduceLT, Nat.reduceLeDiff, Nat.reduceEqDiff, ↓reduceIte, and_true, true_and, and_self, Nat.add_zero, Nat.zero_add, not_false_eq_true, not_true_eq_false, faV_n, faV_s, m1_lt0, m1_0le, m1_eq0, m1_le, le_m1, m1_lt, lt_m1, nI_100k, nI_100, upd_e, upd_n, pC_pC, gC_ne', gC_old', nI_lt_t, nI_lt_f, nI_le_t, nI_le_f, nI_eq_t, nI_eq_f, nI_eq0_t, nI_eq0_f, nI_0lt_t, nI_0lt_f, nI_le0_t, nI_le0_f, nI_eq1_t, nI_eq1_f, hmc, mnC, c_far_1 hM hF f9 hr]
    exact hP
  · have hmc := hM.c.1
    simp (disch := omega) only [ec_cv1 dX16_lays_49 iN_33_68 cna_33_68, vcE_o ccp_33_68_6, vcE_o ccp_33_68_7, vcE_o ccp_33_68_8, vcE_o ccp_33_68_9, vcE_o ccp_33_68_10, vcE_o ccp_33_68_11, cat1_i, cat1_r, cat1_u, catB_n, catB_i, catB_r, catB_l, catB_u, lg_0, lg_s, ldEI_i, ldEL_l, ldEA_r, ldEA_n, lin_0, lin_s, ls1_0, ls1_1, ls1_s, ls2_0, ls2_1, ls2_s, lcl_i, lcl_r, lcl_l, lcl_u, lcl_n, lent_i, lent_r, lent_l, lent_u, lent_0, lent_s, Option.toList_some, Option.toList_none, List.cons_append, List.nil_append, Nat.reduceAdd, true_and, vin_0, vin_s, aE_0, aE_s, EK_r, EK_t, List.set_cons_zero, List.set_cons_succ, va_rf_s, va_rf_n, pC_1, pC_21, aC_1, aC_21, gC_self, gC_new, eI_, eLg_, eV_, eInc_, eN_, eS_, eJ_, eCl_, nI_add, nI_mul, nI_subI, nI_clampI, inb_t, nI_lt0, nI_0le, nI_m1, nI_m1', nI_ofNat, bI_01, b01_0, b01_1, bI_eq0, bI_eq1, bb_01, true_or, or_true, false_or, or_false, eq_self, Nat.reduceAdd, Nat.reduceMul, Nat.reduceSub, Nat.reduceLT, Nat.reduceLeDiff, Nat.reduceEqDiff, ↓reduceIte, and_true, true_and, and_self, Nat.add_zero, Nat.zero_add, not_false_eq_true, not_true_eq_false, faV_n, faV_s, m1_lt0, m1_0le, m1_eq0, m1_le, le_m1, m1_lt, lt_m1, nI_100k, nI_100, upd_e, upd_n, pC_pC, gC_ne', gC_old', nI_lt_t, nI_lt_f, nI_le_t, nI_le_f, nI_eq_t, nI_eq_f, nI_eq0_t, nI_eq0_f, nI_0lt_t, nI_0lt_f, nI_le0_t, nI_le0_f, nI_eq1_t, nI_eq1_f, hmc, mnC, c_far_2 hM hF f9]
    exact hP
  · have hmc := (hM.m (by omega)).1
    simp (disch := omega) only [ec_cv1 dX16_lays_49 iN_33_68 cna_33_68, vcE_o ccp_33_68_6, vcE_o ccp_33_68_7, vcE_o ccp_33_68_8, vcE_o ccp_33_68_9, vcE_o ccp_33_68_10, vcE_o ccp_33_68_11, cat1_i, cat1_r, cat1_u, catB_n, catB_i, catB_r, catB_l, catB_u, lg_0, lg_s, ldEI_i, ldEL_l, ldEA_r, ldEA_n, lin_0, lin_s, ls1_0, ls1_1, ls1_s, ls2_0, ls2_1, ls2_s, lcl_i, lcl_r, lcl_l, lcl_u, lcl_n, lent_i, lent_r, lent_l, lent_u, lent_0, lent_s, Option.toList_some, Option.toList_none, List.cons_append, List.nil_append, Nat.reduceAdd, true_and, vin_0, vin_s, aE_0, aE_s, EK_r, EK_t, List.set_cons_zero, List.set_cons_succ, va_rf_s, va_rf_n, pC_1, pC_21, aC_1, aC_21, gC_self, gC_new, eI_, eLg_, eV_, eInc_, eN_, eS_, eJ_, eCl_, nI_add, nI_mul, nI_subI, nI_clampI, inb_t, nI_lt0, nI_0le, nI_m1, nI_m1', nI_ofNat, bI_01, b01_0, b01_1, bI_eq0, bI_eq1, bb_01, true_or, or_true, false_or, or_false, eq_self, Nat.reduceAdd, Nat.reduceMul, Nat.reduceSub, Nat.reduceLT, Nat.reduceLeDiff, Nat.reduceEqDiff, ↓reduceIte, and_true, true_and, and_self, Nat.add_zero, Nat.zero_add, not_false_eq_true, not_true_eq_false, faV_n, faV_s, m1_lt0, m1_0le, m1_eq0, m1_le, le_m1, m1_lt, lt_m1, nI_100k, nI_100, upd_e, upd_n, pC_pC, gC_ne', gC_old', nI_lt_t, nI_lt_f, nI_le_t, nI_le_f, nI_eq_t, nI_eq_f, nI_eq0_t, nI_eq0_f, nI_0lt_t, nI_0lt_f, nI_le0_t, nI_le0_f, nI_eq1_t, nI_eq1_f, hmc, mnC, c_far_m (by omega) hM hF f9 hr (show B ≤ 5900000 by omega)]
    exact hP
  · have hmc := (hM.m (by omega)).1
    simp (disch := omega) only [ec_cv1 dX16_lays_49 iN_33_68 cna_33_68, vcE_o ccp_33_68_6, vcE_o ccp_33_68_7, vcE_o ccp_33_68_8, vcE_o ccp_33_68_9, vcE_o ccp_33_68_10, vcE_o ccp_33_68_11, cat1_i, cat1_r, cat1_u, catB_n, catB_i, catB_r, catB_l, catB_u, lg_0, lg_s, ldEI_i, ldEL_l, ldEA_r, ldEA_n, lin_0, lin_s, ls1_0, ls1_1, ls1_s, ls2_0, ls2_1, ls2_s, lcl_i, lcl_r, lcl_l, lcl_u, lcl_n, lent_i, lent_r, lent_l, lent_u, lent_0, lent_s, Option.toList_some, Option.toList_none, List.cons_append, List.nil_append, Nat.reduceAdd, true_and, vin_0, vin_s, aE_0, aE_s, EK_r, EK_t, List.set_cons_zero, List.set_cons_succ, va_rf_s, va_rf_n, pC_1, pC_21, aC_1, aC_21, gC_self, gC_new, eI_, eLg_, eV_, eInc_, eN_, eS_, eJ_, eCl_, nI_add, nI_mul, nI_subI, nI_clampI, inb_t, nI_lt0, nI_0le, nI_m1, nI_m1', nI_ofNat, bI_01, b01_0, b01_1, bI_eq0, bI_eq1, bb_01, true_or, or_true, false_or, or_false, eq_self, Nat.reduceAdd, Nat.reduceMul, Nat.reduceSub, Nat.reduceLT, Nat.reduceLeDiff, Nat.reduceEqDiff, ↓reduceIte, and_true, true_and, and_self, Nat.add_zero, Nat.zero_add, not_false_eq_true, not_true_eq_false, faV_n, faV_s, m1_lt0, m1_0le, m1_eq0, m1_le, le_m1, m1_lt, lt_m1, nI_100k, nI_100, upd_e, upd_n, pC_pC, gC_ne', gC_old', nI_lt_t, nI_lt_f, nI_le_t, nI_le_f, nI_eq_t, nI_eq_f, nI_eq0_t, nI_eq0_f, nI_0lt_t, nI_0lt_f, nI_le0_t, nI_le0_f, nI_eq1_t, nI_eq1_f, hmc, mnC, c_far_m (by omega) hM hF f9 hr (show B ≤ 5900000 by omega)]
    exact hP
  · have hmc := hM.b
    simp (disch := omega) only [ec_cv1 dX16_lays_49 iN_33_68 cna_33_68, vcE_o ccp_33_68_6, vcE_o ccp_33_68_7, vcE_o ccp_33_68_8, vcE_o ccp_33_68_9, vcE_o ccp_33_68_10, vcE_o ccp_33_68_11, cat1_i, cat1_r, cat1_u, catB_n, catB_i, catB_r, catB_l, catB_u, lg_0, lg_s, ldEI_i, ldEL_l, ldEA_r, ldEA_n, lin_0, lin_s, ls1_0, ls1_1, ls1_s, ls2_0, ls2_1, ls2_s, lcl_i, lcl_r, lcl_l, lcl_u, lcl_n, lent_i, lent_r, lent_l, lent_u, lent_0, lent_s, Option.toList_some, Option.toList_none, List.cons_append, List.nil_append, Nat.reduceAdd, true_and, vin_0, vin_s, aE_0, aE_s, EK_r, EK_t, List.set_cons_zero, List.set_cons_succ, va_rf_s, va_rf_n, pC_1, pC_21, aC_1, aC_21, gC_self, gC_new, eI_, eLg_, eV_, eInc_, eN_, eS_, eJ_, eCl_, nI_add, nI_mul, nI_subI, nI_clampI, inb_t, nI_lt0, nI_0le, nI_m1, nI_m1', nI_ofNat, bI_01, b01_0, b01_1, bI_eq0, bI_eq1, bb_01, true_or, or_true, false_or, or_false, eq_self, Nat.reduceAdd, Nat.reduceMul, Nat.reduceSub, Nat.reduceLT, Nat.reduceLeDiff, Nat.reduceEqDiff, ↓reduceIte, and_true, true_and, and_self, Nat.add_zero, Nat.zero_add, not_false_eq_true, not_true_eq_false, faV_n, faV_s, m1_lt0, m1_0le, m1_eq0, m1_le, le_m1, m1_lt, lt_m1, nI_100k, nI_100, upd_e, upd_n, pC_pC, gC_ne', gC_old', nI_lt_t, nI_lt_f, nI_le_t, nI_le_f, nI_eq_t, nI_eq_f, nI_eq0_t, nI_eq0_f, nI_0lt_t, nI_0lt_f, nI_le0_t, nI_le0_f, nI_eq1_t, nI_eq1_f, hmc, mnC, c_far_5 (r := rowOf s d) (f := fnS q s h (dgt x))]
    exact hP
end
