set_option maxRecDepth 100000
theorem lyA_13 {M : MM} {f t : Nat} : rI (lyA M f t) 13 = rI M 13 ∧ rI (lyA M f t) 14 = rI M 14 := by
  unfold lyA
  constructor <;> simp (disch := omega) only [mvA_o, rI_mvB]
theorem lyM_r {M : MM} {f t k : Nat} (h1 : k ≠ 13) (h2 : k ≠ 14) : rI (lyM M f t) k = rI (lyA M f t) k := by
  unfold lyM
  rw [wI_off h2, wI_off h1, wI_off h2, wI_off h1]
theorem rLw {M : MM} {k k' i : Nat} {v : Int32} : rL (wI M k i v) k' = rL M k' := by cases M; rfl
theorem lyM_l {M : MM} {f t k : Nat} : rL (lyM M f t) k = rL (lyA M f t) k := by
  unfold lyM
  rw [rLw, rLw, rLw, rLw]
theorem lyM_t {M : MM} {f t : Nat} : PlS M f (lyM M f t) t := by
  have h13 := (lyA_13 (M := M) (f := f) (t := t)).1
  have h14 := (lyA_13 (M := M) (f := f) (t := t)).2
  refine ⟨?_, ⟨?_, ?_, ?_, ?_⟩, ⟨?_, ?_⟩, ⟨?_, ?_⟩, ⟨?_, ?_⟩, ?_, ?_, ?_⟩
  case refine_13 =>
    intro j hj
    unfold lyM lyX
    rw [rI_wo' (by omega)]
    have hc : j = 0 ∨ j = 1 := by omega
    rcases hc with rfl | rfl
    · simp only [Nat.add_zero]
      rw [rI_wn (by omega), rI_wo' (by omega), rI_we, h13]
    · rw [rI_we, h13]
  case refine_14 =>
    intro j hj
    unfold lyM lyX
    have hc : j = 0 ∨ j = 1 := by omega
    rcases hc with rfl | rfl
    · simp only [Nat.add_zero]
      rw [rI_wn (by omega), rI_wo' (by omega), rI_we, h14]
    · rw [rI_we, h14]
  all_goals
    intro j hj
    simp (disch := omega) only [lyM_r, lyM_l]
    unfold lyA
    simp (disch := omega) only [mvA_o, mvB_o, mvA_s, mvB_s, rI_mvB, rL_mvA]
theorem lyM_o {M : MM} {f t r : Nat} (h : r ≠ t) : PlS M r (lyM M f t) r := by
  have h13 := (lyA_13 (M := M) (f := f) (t := t)).1
  have h14 := (lyA_13 (M := M) (f := f) (t := t)).2
  refine ⟨?_, ⟨?_, ?_, ?_, ?_⟩, ⟨?_, ?_⟩, ⟨?_, ?_⟩, ⟨?_, ?_⟩, ?_, ?_, ?_⟩
  case refine_13 =>
    intro j hj
    unfold lyM lyX
    rw [rI_wo' (by omega), rI_wn (by omega), rI_wo' (by omega), rI_wn (by omega), h13, nI_sh0]
  case refine_14 =>
    intro j hj
    unfold lyM lyX
    rw [rI_wn (by omega), rI_wo' (by omega), rI_wn (by omega), rI_wo' (by omega), h14, nI_sh0]
  all_goals
    intro j hj
    simp (disch := omega) only [lyM_r, lyM_l]
    unfold lyA
    simp (disch := omega) only [mvA_o, mvB_o, mvA_n, mvB_n, rI_mvB, rL_mvA]
