set_option maxRecDepth 100000
/-! NEW NIGHTS -/
theorem gC_mC {σ : CM} {N M b : Nat} : gC (mC σ N M) b = if b = σ.1 then some (.inr (8, N, .inr (.inr (.inr (.inr (fun j => if j < N then some (σ.1 + 1 + j) else none)))))) else if σ.1 < b ∧ b < σ.1 + (1 + N) then some (.inr (0, M, .inl (fun _ => 0))) else gC σ b := rfl
theorem mC_1 {σ : CM} {N M : Nat} : (mC σ N M).1 = σ.1 + (1 + N) := rfl
theorem mC_21 {σ : CM} {N M : Nat} : (mC σ N M).2.1 = σ.2.1 + (N + N * M) := rfl
theorem gC_mo {σ : CM} {N M b : Nat} (h : b < σ.1) : gC (mC σ N M) b = gC σ b := by rw [gC_mC, if_neg (by omega), if_neg (by omega)]
theorem gC_mn {σ : CM} {N M b : Nat} (h : σ.1 < b) (h2 : b < σ.1 + (1 + N)) : gC (mC σ N M) b = some (.inr (0, M, .inl (fun _ => 0))) := by rw [gC_mC, if_neg (by omega), if_pos ⟨h, h2⟩]
theorem gC_ms {σ : CM} {N M : Nat} : gC (mC σ N M) σ.1 = some (.inr (8, N, .inr (.inr (.inr (.inr (fun j => if j < N then some (σ.1 + 1 + j) else none)))))) := by rw [gC_mC, if_pos rfl]
theorem HW.mC {σ : CM} {N M : Nat} (h : HW σ) : HW (mC σ N M) := fun b c hb => by
  show b < σ.1 + (1 + N)
  rw [gC_mC] at hb
  split at hb
  · omega
  · split at hb
    · omega
    · have := h b c hb; omega
theorem gC_newn {σ : CM} {k b : Nat} {c : Cl} (h : b = σ.1) : gC (aC σ k c) b = some c := by subst h; exact gC_new
/-- a new night stands at σ.1 -/
def NNew (σ σ' : CM) : Prop := Fr (fun _ => False) 11 77 σ σ' ∧ σ'.1 = σ.1 + 11 ∧ gC σ' σ.1 = some (.inl (2, [.null, .int 0, .int 0, .ref (σ.1 + 1), .ref (σ.1 + 2), .ref (σ.1 + 3), .ref (σ.1 + 4), .ref (σ.1 + 10)])) ∧ NightB σ' σ.1 (fun _ => none) (fun _ => none)
section
variable {zs : Nat → Nat} {e : Nat} {σ : CM} {P : CR → Prop}
theorem c_ninit (hw : HW σ) (hP : ∀ σ', NNew σ σ' → P (.inl none, σ')) : EC zs (Jc zs) e cX3_init none 2 9 0 [some (.ref σ.1)] [] (aC σ 8 (.inl (2, [.null, .int 0, .int 0, .null, .null, .null, .null, .null]))) P := by
  simp (disch := first | (simp only [aC_1, pC_1, mC_1]; done) | (simp only [aC_1, pC_1, mC_1]; omega) | omega) only [ec_aload_n (i := 0) dX3_init_0 rfl, ec_j11 dX3_init_1 iT_2_3, J_1, ec_aload_n (i := 0) dX3_init_4 rfl, ec_iconst (v := nI 5) dX3_init_5 rfl, ec_anew dX3_init_6 acp_2_9, ec_put dX3_init_9, pw_2_9_11_2, ec_aload_n (i := 0) dX3_init_12 rfl, ec_bipush (v := nI 30) dX3_init_13 rfl, ec_anew dX3_init_15 acp_2_9, ec_put dX3_init_18, pw_2_9_17_2, ec_aload_n (i := 0) dX3_init_21 rfl, ec_iconst (v := nI 4) dX3_init_22 rfl, ec_newaI dX3_init_23, ec_put dX3_init_25, pw_2_9_20_2, ec_aload_n (i := 0) dX3_init_28 rfl, ec_iconst (v := nI 5) dX3_init_29 rfl, ec_iconst (v := nI 4) dX3_init_30 rfl, ec_mul (o := 2) dX3_init_31 rfl, ec_put dX3_init_35, pw_2_9_26_2, ec_aload_n (i := 0) dX3_init_38 rfl, ec_iconst (v := nI 5) dX3_init_39 rfl, ec_newaZ dX3_init_40, ec_put dX3_init_42, pw_2_9_29_2, ec_vret dX3_init_45, cat1_i, cat1_r, cat1_u, catB_n, catB_i, catB_r, catB_l, catB_u, lg_0, lg_s, ldEI_i, ldEL_l, ldEA_r, ldEA_n, lin_0, lin_s, ls1_0, ls1_1, ls1_s, ls2_0, ls2_1, ls2_s, lcl_i, lcl_r, lcl_l, lcl_u, lcl_n, lent_i, lent_r, lent_l, lent_u, lent_0, lent_s, Option.toList_some, Option.toList_none, List.cons_append, List.nil_append, Nat.reduceAdd, true_and, vin_0, vin_s, aE_0, aE_s, EK_r, EK_t, List.set_cons_zero, List.set_cons_succ, va_rf_s, va_rf_n, pC_1, pC_21, aC_1, aC_21, gC_self, gC_new, eI_, eLg_, eV_, eInc_, eN_, eS_, eJ_, eCl_, nI_add, nI_mul, nI_subI, nI_clampI, inb_t, nI_lt0, nI_0le, nI_m1, nI_m1', nI_ofNat, bI_01, b01_0, b01_1, bI_eq0, bI_eq1, bb_01, true_or, or_true, false_or, or_false, eq_self, Nat.reduceAdd, Nat.reduceMul, Nat.reduceSub, Nat.reduceLT, Nat.reduceLeDiff, Nat.reduceEqDiff, ↓reduceIte, and_true, true_and, and_self, Nat.add_zero, Nat.zero_add, not_false_eq_true, not_true_eq_false, faV_n, faV_s, m1_lt0, m1_0le, m1_eq0, m1_le, le_m1, m1_lt, lt_m1, nI_100k, nI_100, upd_e, upd_n, pC_pC, gC_ne', gC_old', nI_lt_t, nI_lt_f, nI_le_t, nI_le_f, nI_eq_t, nI_eq_f, nI_eq0_t, nI_eq0_f, nI_0lt_t, nI_0lt_f, nI_le0_t, nI_le0_f, nI_eq1_t, nI_eq1_f, gC_oldn, gC_mo, mC_1, Nat.add_assoc]
  refine hP _ ⟨⟨⟨?_, ?_⟩, ⟨?_, ?_⟩, fun b hb _ => ?_, ?_⟩, ?_, ?_, ?_, ?_, ⟨fun _ => 0, ?_⟩, ?_, fun j hj => ⟨fun _ => 0, ?_⟩, ⟨fun _ => 0, ?_⟩⟩
  · simp only [aC_1, pC_1, mC_1]; omega
  · simp only [aC_1, pC_1, mC_1]; omega
  · simp only [aC_21, pC_21, mC_21]; omega
  · simp only [aC_21, pC_21, mC_21]; omega
  · simp (disch := first | (simp only [aC_1, pC_1, mC_1]; done) | (simp only [aC_1, pC_1, mC_1]; omega) | omega) only [gC_ne', gC_oldn, gC_mo]
  · exact ((((((((((hw.aC.aC).pC (c0 := (.inl (2, [.null, .int 0, .int 0, .null, .null, .null, .null, .null]))) (by simp (disch := first | (simp only [aC_1, pC_1, mC_1]; done) | (simp only [aC_1, pC_1, mC_1]; omega) | omega) only [gC_self, gC_ne', gC_oldn, gC_newn])).aC).pC (by simp (disch := first | (simp only [aC_1, pC_1, mC_1]; done) | (simp only [aC_1, pC_1, mC_1]; omega) | omega) only [gC_oldn]; exact gC_self)).aC).pC (by simp (disch := first | (simp only [aC_1, pC_1, mC_1]; done) | (simp only [aC_1, pC_1, mC_1]; omega) | omega) only [gC_oldn]; exact gC_self)).mC).pC (by simp (disch := first | (simp only [aC_1, pC_1, mC_1]; done) | (simp only [aC_1, pC_1, mC_1]; omega) | omega) only [gC_mo]; exact gC_self)).aC).pC (by simp (disch := first | (simp only [aC_1, pC_1, mC_1]; done) | (simp only [aC_1, pC_1, mC_1]; omega) | omega) only [gC_oldn]; exact gC_self))
  · simp only [aC_1, pC_1, mC_1]
  · exact gC_self
  · simp (disch := first | (simp only [aC_1, pC_1, mC_1]; done) | (simp only [aC_1, pC_1, mC_1]; omega) | omega) only [gC_ne', gC_oldn, gC_mo]
    exact gC_new
  · simp (disch := first | (simp only [aC_1, pC_1, mC_1]; done) | (simp only [aC_1, pC_1, mC_1]; omega) | omega) only [gC_ne', gC_oldn, gC_mo]
    exact gC_new
  · simp (disch := first | (simp only [aC_1, pC_1, mC_1]; done) | (simp only [aC_1, pC_1, mC_1]; omega) | omega) only [gC_ne', gC_oldn, gC_mo]
    exact gC_new
  · simp (disch := first | (simp only [aC_1, pC_1, mC_1]; done) | (simp only [aC_1, pC_1, mC_1]; omega) | omega) only [gC_ne', gC_oldn]
    rw [gC_mC, if_pos (by simp only [aC_1, pC_1])]
    simp only [aC_1, pC_1, Nat.add_assoc, Nat.reduceAdd]
  · simp (disch := first | (simp only [aC_1, pC_1, mC_1]; done) | (simp only [aC_1, pC_1, mC_1]; omega) | omega) only [gC_ne', gC_oldn, gC_mn]
  · simp (disch := first | (simp only [aC_1, pC_1, mC_1]; done) | (simp only [aC_1, pC_1, mC_1]; omega) | omega) only [gC_ne']
    exact gC_new
end
