set_option maxRecDepth 100000
/-! THE COMPONENT's reader: the tape is cut into tokens -/
/-! plain: tokens one by one -/
theorem skS_0 {T : Nat → Nat} {n k : Nat} (hk : k < n) (h : ¬ (T k = 32 ∨ T k = 10)) : skS T n (n - k) k = k := by
  rw [show n - k = (n - k - 1) + 1 by omega, skS_s, if_neg h]
theorem tpK_sp {T : Nat → Nat} {n k : Nat} (hk : k < n) (h : T k = 32 ∨ T k = 10) : tpK T n k = tpK T n (k + 1) := by
  unfold tpK
  rw [show n - k = (n - (k + 1)) + 1 by omega, skS_s, if_pos h]
theorem tls_sp {T : Nat → Nat} {n k : Nat} (hk : k < n) (h : T k = 32 ∨ T k = 10) : tls T n k = tls T n (k + 1) := by
  rw [tls_u (by omega), tls_u (show k + 1 ≤ n by omega), tpK_sp hk h]
theorem tls_tk {T : Nat → Nat} {n k : Nat} (hk : k < n) (h : ¬ (T k = 32 ∨ T k = 10)) : tls T n k = (tbK T n k).1 :: tls T n (tbK T n k).2 := by
  have e : tpK T n k = tbK T n k := by unfold tpK; rw [skS_0 hk h]
  rw [tls_u (by omega), e]
  have := (tbK_end (T := T) (n := n) (b := k) (by omega)).1
  rcases this with ⟨h1, h2⟩ | ⟨h1, h2⟩
  · exfalso
    unfold tbK at h1
    rw [if_neg (by omega)] at h1
    split at h1
    · have h1 : (if 8 < _ then 4 else 1) = 0 := h1
      split at h1 <;> cases h1
    · split at h1
      · have h1 : (if 4 < _ then 4 else 2) = 0 := h1
        split at h1 <;> cases h1
      · have h1 : (if sgN (T k) = true then 3 else 4) = 0 := h1
        split at h1 <;> cases h1
  · rw [if_neg h1]
theorem tls_en {T : Nat → Nat} {n : Nat} : tls T n n = [(0, 0, n)] := by
  rw [tls_u (Nat.le_refl _)]
  have : tpK T n n = ((0, 0, n), n) := by
    unfold tpK
    rw [Nat.sub_self]
    show tbK T n n = _
    unfold tbK
    rw [if_pos (Nat.le_refl _)]
  rw [this]
  rfl
theorem vlS_mx {T : Nat → Nat} {b M c o : Nat} : ∀ {m : Nat}, M ≤ m → vlS T b M c o m = vlS T b M c o M
  | 0, h => by rw [show M = 0 by omega]
  | m + 1, h => by
    by_cases hm : M = m + 1
    · rw [hm]
    · rw [vlS_s, if_neg (by omega), vlS_mx (by omega)]
/-- the token's value is small -/
theorem tbK_ok {T : Nat → Nat} {n k : Nat} (hk : k < n) (hT : ∀ j, j < n → T j ≤ 126) : (tbK T n k).1.1 ≤ 4 ∧ (tbK T n k).1.2.1 < 2 ^ 62 ∧ (tbK T n k).1.2.2 = k := by
  unfold tbK
  rw [if_neg (by omega)]
  split
  · refine ⟨?_, ?_, rfl⟩
    · show (if 8 < _ then 4 else 1) ≤ 4
      split <;> omega
    · show vlS T k 8 27 96 (rnS T 97 122 (n - k) k - k) < 2 ^ 62
      by_cases hm : rnS T 97 122 (n - k) k - k ≤ 8
      · exact vlW_le hm (fun j hj => rnS_in (f := n - k) (by omega))
      · rw [vlS_mx (by omega)]
        exact vlW_le (Nat.le_refl _) (fun j hj => rnS_in (f := n - k) (by omega))
  · split
    · refine ⟨?_, ?_, rfl⟩
      · show (if 4 < _ then 4 else 2) ≤ 4
        split <;> omega
      · show vlS T k 4 10 48 (rnS T 48 57 (n - k) k - k) < 2 ^ 62
        have : vlS T k 4 10 48 (rnS T 48 57 (n - k) k - k) ≤ 9999 := by
          by_cases hm : rnS T 48 57 (n - k) k - k ≤ 4
          · exact vlS_le hm (fun j hj => rnS_in (f := n - k) (by omega))
          · rw [vlS_mx (by omega)]
            exact vlS_le (Nat.le_refl _) (fun j hj => rnS_in (f := n - k) (by omega))
        omega
    · refine ⟨?_, ?_, rfl⟩
      · show (if sgN (T k) = true then 3 else 4) ≤ 4
        split <;> omega
      · show T k < 2 ^ 62
        have := hT k hk
        omega
/-! the arrays while they fill -/
def CuA (σ : CM) (C : Nat → Nat) (pre : List Tk) : Prop := ∃ F V G, (gC σ (C 7) = some (.inr (0, 1001, .inl F)) ∧ gC σ (C 8) = some (.inr (2, 1001, .inr (.inl V))) ∧ gC σ (C 9) = some (.inr (0, 1001, .inl G))) ∧ ∀ i, i < pre.length → (F i = nI (tk pre i).1 ∧ V i = lN (tk pre i).2.1 ∧ G i = nI (tk pre i).2.2) ∧ (tk pre i).1 ≠ 0 ∧ (tk pre i).1 ≤ 4 ∧ (tk pre i).2.1 < 2 ^ 62 ∧ (tk pre i).2.2 ≤ 1000
theorem tk_l {pre : List Tk} {x : Tk} {i : Nat} (h : i < pre.length) : tk (pre ++ [x]) i = tk pre i := by
  unfold tk
  rw [List.getD_eq_getElem?_getD, List.getD_eq_getElem?_getD, List.getElem?_append_left h]
theorem tk_e {pre : List Tk} {x : Tk} : tk (pre ++ [x]) pre.length = x := by
  unfold tk
  rw [List.getD_eq_getElem?_getD, List.getElem?_append_right (Nat.le_refl _), Nat.sub_self]
  rfl
section
variable {zs : Nat → Nat} {e : Nat} {σ : CM} {P : CR → Prop} {ra : Nat} {C : Nat → Nat} {T : Nat → Nat} {n : Nat}
theorem c_isLet {t : Nat} (h : t ≤ 126) : EC zs (Jc zs) (e + 1) cX2_isLetter (some .boolean) 1 0 0 [some (.int (nI t))] [] σ P ↔ P (.inl (some (.int (bI (decide (97 ≤ t ∧ t ≤ 122))))), σ) := by
  have ev : decide (nI 97 ≤ nI t ∧ nI t ≤ nI 122) = decide (97 ≤ t ∧ t ≤ 122) := decide_eq_decide.mpr ⟨fun z => ⟨(nI_leI (by omega) (by omega)).mp z.1, (nI_leI (by omega) (by omega)).mp z.2⟩, fun z => ⟨(nI_leI (by omega) (by omega)).mpr z.1, (nI_leI (by omega) (by omega)).mpr z.2⟩⟩
  simp only [ec_iload_n (i := 0) dX2_isLetter_0 rfl, ec_bipush (v := nI 97) dX2_isLetter_1 rfl, ec_bipush (v := nI 122) dX2_isLetter_3 rfl, ec_cs3 dX2_isLetter_5 iN_1_119 ccp_1_119_99, ec_iret dX2_isLetter_8, ec_zret dX2_isLetter_8, cat1_i, cat1_r, cat1_u, catB_n, catB_i, catB_r, catB_l, catB_u, lg_0, lg_s, ldEI_i, ldEL_l, ldEA_r, ldEA_n, lin_0, lin_s, ls1_0, ls1_1, ls1_s, ls2_0, ls2_1, ls2_s, lcl_i, lcl_r, lcl_l, lcl_u, lcl_n, lent_i, lent_r, lent_l, lent_u, lent_0, lent_s, Option.toList_some, Option.toList_none, List.cons_append, List.nil_append, Nat.reduceAdd, true_and, vin_0, vin_s, aE_0, aE_s, EK_r, EK_t, List.set_cons_zero, List.set_cons_succ, va_rf_s, va_rf_n, pC_1, pC_21, aC_1, aC_21, gC_self, gC_new, eI_, eLg_, eV_, eInc_, eN_, eS_, eJ_, eCl_, c_within, ev, bI_01, true_and]
theorem c_isDig {t : Nat} (h : t ≤ 126) : EC zs (Jc zs) (e + 1) cX2_isDigit (some .boolean) 1 0 0 [some (.int (nI t))] [] σ P ↔ P (.inl (some (.int (bI (decide (48 ≤ t ∧ t ≤ 57))))), σ) := by
  have ev : decide (nI 48 ≤ nI t ∧ nI t ≤ nI 57) = decide (48 ≤ t ∧ t ≤ 57) := decide_eq_decide.mpr ⟨fun z => ⟨(nI_leI (by omega) (by omega)).mp z.1, (nI_leI (by omega) (by omega)).mp z.2⟩, fun z => ⟨(nI_leI (by omega) (by omega)).mpr z.1, (nI_leI (by omega) (by omega)).mpr z.2⟩⟩
  simp only [ec_iload_n (i := 0) dX2_isDigit_0 rfl, ec_bipush (v := nI 48) dX2_isDigit_1 rfl, ec_bipush (v := nI 57) dX2_isDigit_3 rfl, ec_cs3 dX2_isDigit_5 iN_1_119 ccp_1_119_99, ec_iret dX2_isDigit_8, ec_zret dX2_isDigit_8, cat1_i, cat1_r, cat1_u, catB_n, catB_i, catB_r, catB_l, catB_u, lg_0, lg_s, ldEI_i, ldEL_l, ldEA_r, ldEA_n, lin_0, lin_s, ls1_0, ls1_1, ls1_s, ls2_0, ls2_1, ls2_s, lcl_i, lcl_r, lcl_l, lcl_u, lcl_n, lent_i, lent_r, lent_l, lent_u, lent_0, lent_s, Option.toList_some, Option.toList_none, List.cons_append, List.nil_append, Nat.reduceAdd, true_and, vin_0, vin_s, aE_0, aE_s, EK_r, EK_t, List.set_cons_zero, List.set_cons_succ, va_rf_s, va_rf_n, pC_1, pC_21, aC_1, aC_21, gC_self, gC_new, eI_, eLg_, eV_, eInc_, eN_, eS_, eJ_, eCl_, c_within, ev, bI_01, true_and]
end
