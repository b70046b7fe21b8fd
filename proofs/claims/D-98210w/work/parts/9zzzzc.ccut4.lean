set_option maxRecDepth 100000
/-! THE COMPONENT's reader: the whole cut -/
/-- the words it knows -/
def RdK (zs : Nat → Nat) (σ : CM) (C : Nat → Nat) : Prop := StA zs σ (C 0) flI ∧ StA zs σ (C 1) feI ∧ StA zs σ (C 2) hkI ∧ StA zs σ (C 3) dkI ∧ StA zs σ (C 4) kpI ∧ StA zs σ (C 5) hwI
theorem RdK.k {zs : Nat → Nat} {σ σ' : CM} {C : Nat → Nat} (h : RdK zs σ C) (e : ∀ k, k < 6 → gC σ' (C k) = gC σ (C k)) : RdK zs σ' C := by
  obtain ⟨⟨x0, a0, b0⟩, ⟨x1, a1, b1⟩, ⟨x2, a2, b2⟩, ⟨x3, a3, b3⟩, ⟨x4, a4, b4⟩, ⟨x5, a5, b5⟩⟩ := h
  exact ⟨⟨x0, (e 0 (by omega)).trans a0, b0⟩, ⟨x1, (e 1 (by omega)).trans a1, b1⟩, ⟨x2, (e 2 (by omega)).trans a2, b2⟩, ⟨x3, (e 3 (by omega)).trans a3, b3⟩, ⟨x4, (e 4 (by omega)).trans a4, b4⟩, ⟨x5, (e 5 (by omega)).trans a5, b5⟩⟩
theorem RdK.ar {zs : Nat → Nat} {σ : CM} {C : Nat → Nat} (h : RdK zs σ C) : ∀ k, k < 6 → ∃ m f, gC σ (C k) = some (.inr (7, m, f)) := by
  obtain ⟨⟨x0, a0, b0⟩, ⟨x1, a1, b1⟩, ⟨x2, a2, b2⟩, ⟨x3, a3, b3⟩, ⟨x4, a4, b4⟩, ⟨x5, a5, b5⟩⟩ := h
  intro k hk
  have hc : k = 0 ∨ k = 1 ∨ k = 2 ∨ k = 3 ∨ k = 4 ∨ k = 5 := by omega
  rcases hc with rfl | rfl | rfl | rfl | rfl | rfl
  · exact ⟨_, _, a0⟩
  · exact ⟨_, _, a1⟩
  · exact ⟨_, _, a2⟩
  · exact ⟨_, _, a3⟩
  · exact ⟨_, _, a4⟩
  · exact ⟨_, _, a5⟩
section
variable {zs : Nat → Nat} {e : Nat} {σ : CM} {P : CR → Prop} {ra : Nat} {C : Nat → Nat} {dr : Value} {hg : Int32} {fa : Nat} {T : TP} {pt dp : Nat}
theorem c_cut (hZ : ZS zs) (hT : TOK T) (hR : RdT σ ra C dr hg fa (nI pt) (nI dp) T) (hK : RdK zs σ C) (hA : CuA σ C []) (h79 : C 7 ≠ C 9) (hP : ∀ σ', Fs (CuS ra C) σ σ' → RdE zs σ' ra C (tls T.2 T.1 0) dr hg fa (nI 0) 0 dp → P (.inl none, σ')) : EC zs (Jc zs) (e + 2) cX2_cut none 1 0 0 [some (.ref ra), none, none, none, none, none, none, none] [] σ P := by
  obtain ⟨h0, F6, h6, hF⟩ := hR
  obtain ⟨F, V, G, ⟨g7, g8, g9⟩, -⟩ := id hA
  have n6 : C 6 ≠ ra := fun z => by rw [z, h0] at h6; cases h6
  have n7 : C 7 ≠ ra := fun z => by rw [z, h0] at g7; cases g7
  have n8 : C 8 ≠ ra := fun z => by rw [z, h0] at g8; cases g8
  have n9 : C 9 ≠ ra := fun z => by rw [z, h0] at g9; cases g9
  have h67 : C 6 ≠ C 7 := fun z => by rw [z, g7] at h6; cases h6
  have h68 : C 6 ≠ C 8 := fun z => by rw [z, g8] at h6; cases h6
  have h69 : C 6 ≠ C 9 := fun z => by rw [z, g9] at h6; cases h6
  have kr : ∀ k, k < 6 → ¬ CuS ra C (C k) := fun k hk z => by
    obtain ⟨m, f, ha⟩ := hK.ar k hk
    rcases z with z | z | z | z
    · rw [z, h0] at ha; cases ha
    · rw [z, g7] at ha; cases ha
    · rw [z, g8] at ha; cases ha
    · rw [z, g9] at ha; cases ha
  have h0' := h0
  unfold rdF at h0'
  have hn := hT.1
  have hT' : ∀ j, j < T.1 → T.2 j ≤ 126 := fun j hj => by have := hT.2 j hj; omega
  have S1 : Fs (CuS ra C) σ (pC σ ra (.inl (1, rdF C dr hg fa (nI 0) (nI pt) (nI dp)))) := Fs.rf.p h0 (Or.inl rfl)
  have key := c_ct_lo (zs := zs) (e := e) (P := P) (dr := dr) (hg := hg) (fa := fa) (pt := nI pt) (dp := nI dp) (n := T.1) (T := T.2) (all := tls T.2 T.1 0) (σ0 := pC σ ra (.inl (1, rdF C dr hg fa (nI 0) (nI pt) (nI dp)))) hZ h79 ⟨n6, h67, h68, h69⟩ (by rw [gC_ne n6]; exact h6) hF hT' hn (fun σ' pre hall hl S' R' A' l4 l5 l6 l7 => by
    obtain ⟨F', V', G', ⟨g7', g8', g9'⟩, hAA⟩ := A'
    have R'' := R'
    unfold rdF at R''
    have h97 := Ne.symm h79
    have h78 : C 7 ≠ C 8 := fun z => by rw [z, g8'] at g7'; cases g7'
    have h89 : C 8 ≠ C 9 := fun z => by rw [z, g9'] at g8'; cases g8'
    have S2 : Fs (CuS ra C) σ' (pC (pC (pC σ' (C 7) (.inr (0, 1001, .inl (upd F' pre.length (nI 0))))) (C 9) (.inr (0, 1001, .inl (upd G' pre.length (nI T.1))))) ra (.inl (1, rdF C dr hg fa (nI 0) (nI 0) (nI dp)))) := ((Fs.rf.p g7' (Or.inr (Or.inl rfl))).p (by rw [gC_ne h97]; exact g9') (Or.inr (Or.inr (Or.inr rfl)))).p (by rw [gC_ne (Ne.symm n9), gC_ne (Ne.symm n7)]; exact R') (Or.inl rfl)
    have S3 := (S1.tr S').tr S2
    have hlen : (tls T.2 T.1 0).length = pre.length + 1 := by rw [hall, List.length_append]; rfl
    have fin := hP _ S3 ⟨gC_self, ⟨⟨by omega, fun a ha => ?_⟩, ⟨⟨upd F' pre.length (nI 0), by rw [gC_ne n7, gC_ne h79]; exact gC_self, fun i hi => ?_⟩, ⟨V', by rw [gC_ne n8, gC_ne h89, gC_ne (Ne.symm h78)]; exact g8', fun i hi hne => ?_⟩, ⟨upd G' pre.length (nI T.1), by rw [gC_ne n9]; exact gC_self, fun i hi => ?_⟩⟩, hK.k (fun k hk => S3.2.2.1 _ (kr k hk))⟩, by omega⟩
    · simp (disch := first | assumption | omega) only [ec_aload_n (i := 0) dX2_cut_268 rfl, ec_get dX2_cut_269, gw_1_107_1, ec_iload_n (i := 2) dX2_cut_272 rfl, ec_iconst (v := nI 0) dX2_cut_273 rfl, ec_iast dX2_cut_274, isE_0, ec_aload_n (i := 0) dX2_cut_275 rfl, ec_get dX2_cut_276, gw_1_114_1, ec_iload_n (i := 2) dX2_cut_279 rfl, ec_iload_n (i := 1) dX2_cut_280 rfl, ec_iast dX2_cut_281, ec_aload_n (i := 0) dX2_cut_282 rfl, ec_iconst (v := nI 0) dX2_cut_283 rfl, ec_put dX2_cut_284, pw_1_0_156_1, ec_vret dX2_cut_287, cat1_i, cat1_r, cat1_u, catB_n, catB_i, catB_r, catB_l, catB_u, lg_0, lg_s, ldEI_i, ldEL_l, ldEA_r, ldEA_n, lin_0, lin_s, ls1_0, ls1_1, ls1_s, ls2_0, ls2_1, ls2_s, lcl_i, lcl_r, lcl_l, lcl_u, lcl_n, lent_i, lent_r, lent_l, lent_u, lent_0, lent_s, Option.toList_some, Option.toList_none, List.cons_append, List.nil_append, Nat.reduceAdd, true_and, vin_0, vin_s, aE_0, aE_s, EK_r, EK_t, List.set_cons_zero, List.set_cons_succ, va_rf_s, va_rf_n, pC_1, pC_21, aC_1, aC_21, gC_self, gC_new, eI_, eLg_, eV_, eInc_, eN_, eS_, eJ_, eCl_, nI_add, nI_mul, nI_subI, nI_clampI, inb_t, nI_lt0, nI_0le, nI_m1, nI_m1', nI_ofNat, bI_01, b01_0, b01_1, bI_eq0, bI_eq1, bb_01, true_or, or_true, false_or, or_false, eq_self, Nat.reduceAdd, Nat.reduceMul, Nat.reduceSub, Nat.reduceLT, Nat.reduceLeDiff, Nat.reduceEqDiff, ↓reduceIte, and_true, true_and, and_self, Nat.add_zero, Nat.zero_add, not_false_eq_true, not_true_eq_false, faV_n, faV_s, m1_lt0, m1_0le, m1_eq0, m1_le, le_m1, m1_lt, lt_m1, nI_100k, nI_100, upd_e, upd_n, pC_pC, gC_ne', gC_old', nI_lt_t, nI_lt_f, nI_le_t, nI_le_f, nI_eq_t, nI_eq_f, nI_eq0_t, nI_eq0_f, nI_0lt_t, nI_0lt_f, nI_le0_t, nI_le0_f, nI_eq1_t, nI_eq1_f, gC_ne', R'', g7', g9']
      exact fin
    · rw [hall]
      by_cases he : a = pre.length
      · subst he
        rw [tk_e]
        exact ⟨by show 0 ≤ 4; omega, by show 0 < 2 ^ 62; omega, by show T.1 ≤ 1000; omega, fun z => absurd rfl z⟩
      · rw [tk_l (by omega)]
        obtain ⟨-, a1, a2, a3, a4⟩ := hAA a (by omega)
        exact ⟨a2, a3, a4, fun _ => by rw [List.length_append]; show a + 1 < pre.length + 1; omega⟩
    · rw [hall]
      by_cases he : i = pre.length
      · subst he
        rw [tk_e]
        exact if_pos rfl
      · rw [tk_l (by omega)]
        exact (if_neg he).trans (hAA i (by omega)).1.1
    · rw [hall] at hne ⊢
      by_cases he : i = pre.length
      · subst he
        rw [tk_e] at hne
        exact absurd rfl hne
      · rw [tk_l (by omega)]
        exact (hAA i (by omega)).1.2.1
    · rw [hall]
      by_cases he : i = pre.length
      · subst he
        rw [tk_e]
        exact if_pos rfl
      · rw [tk_l (by omega)]
        exact (if_neg he).trans (hAA i (by omega)).1.2.2) (T.1 + 1) 0 (pC σ ra (.inl (1, rdF C dr hg fa (nI 0) (nI pt) (nI dp)))) [] none none none none (by omega) (by omega) Fs.rf gC_self ⟨F, V, G, ⟨by rw [gC_ne n7]; exact g7, by rw [gC_ne n8]; exact g8, by rw [gC_ne n9]; exact g9⟩, fun i hi => absurd hi (Nat.not_lt_zero i)⟩ (Nat.zero_le _) rfl
  simp (disch := omega) only [ec_aload_n (i := 0) dX2_cut_0 rfl, ec_get dX2_cut_1, gw_1_123_1, ec_istore_n (i := 1) dX2_cut_4 rfl, ec_aload_n (i := 0) dX2_cut_5 rfl, ec_iconst (v := nI 0) dX2_cut_6 rfl, ec_put dX2_cut_7, pw_1_0_123_1, ec_iconst (v := nI 0) dX2_cut_10 rfl, ec_istore_n (i := 2) dX2_cut_11 rfl, ec_iconst (v := nI 0) dX2_cut_12 rfl, ec_istore_n (i := 3) dX2_cut_13 rfl, cat1_i, cat1_r, cat1_u, catB_n, catB_i, catB_r, catB_l, catB_u, lg_0, lg_s, ldEI_i, ldEL_l, ldEA_r, ldEA_n, lin_0, lin_s, ls1_0, ls1_1, ls1_s, ls2_0, ls2_1, ls2_s, lcl_i, lcl_r, lcl_l, lcl_u, lcl_n, lent_i, lent_r, lent_l, lent_u, lent_0, lent_s, Option.toList_some, Option.toList_none, List.cons_append, List.nil_append, Nat.reduceAdd, true_and, vin_0, vin_s, aE_0, aE_s, EK_r, EK_t, List.set_cons_zero, List.set_cons_succ, va_rf_s, va_rf_n, pC_1, pC_21, aC_1, aC_21, gC_self, gC_new, eI_, eLg_, eV_, eInc_, eN_, eS_, eJ_, eCl_, nI_add, nI_mul, nI_subI, nI_clampI, inb_t, nI_lt0, nI_0le, nI_m1, nI_m1', nI_ofNat, bI_01, b01_0, b01_1, bI_eq0, bI_eq1, bb_01, true_or, or_true, false_or, or_false, eq_self, Nat.reduceAdd, Nat.reduceMul, Nat.reduceSub, Nat.reduceLT, Nat.reduceLeDiff, Nat.reduceEqDiff, ↓reduceIte, and_true, true_and, and_self, Nat.add_zero, Nat.zero_add, not_false_eq_true, not_true_eq_false, faV_n, faV_s, m1_lt0, m1_0le, m1_eq0, m1_le, le_m1, m1_lt, lt_m1, nI_100k, nI_100, upd_e, upd_n, pC_pC, gC_ne', gC_old', nI_lt_t, nI_lt_f, nI_le_t, nI_le_f, nI_eq_t, nI_eq_f, nI_eq0_t, nI_eq0_f, nI_0lt_t, nI_0lt_f, nI_le0_t, nI_le0_f, nI_eq1_t, nI_eq1_f, h0']
  exact key
end
