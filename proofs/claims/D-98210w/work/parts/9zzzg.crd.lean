set_option maxRecDepth 100000
/-! THE COMPONENT's reader: where it stands -/
def tk (all : List Tk) (a : Nat) : Tk := all.getD a (0, 0, 0)
theorem hd_drop {all : List Tk} {a : Nat} : hdT (all.drop a) = tk all a := by
  unfold hdT tk
  rw [List.headD_eq_head?_getD, List.head?_drop, List.getD_eq_getElem?_getD]
theorem tl_drop {all : List Tk} {a : Nat} : (all.drop a).tail = all.drop (a + 1) := List.tail_drop
/-- an array of words -/
def StA (zs : Nat → Nat) (σ : CM) (a : Nat) (ix : List Nat) : Prop := ∃ f, gC σ a = some (.inr (7, ix.length, .inr (.inr (.inr (.inr f))))) ∧ ∀ j, j < ix.length → f j = some (zs (ix.getD j 0))
abbrev flI : List Nat := [0, 1, 2, 3, 4, 5]
abbrev feI : List Nat := [0, 1, 6, 7]
abbrev hkI : List Nat := [8, 9, 10, 11, 12]
abbrev dkI : List Nat := [13, 14, 15, 16, 17, 18]
abbrev kpI : List Nat := [19, 20, 21, 3, 22, 23, 24, 25, 26, 27, 28, 29, 30, 31, 32]
abbrev hwI : List Nat := [33, 2]
theorem wd_fl : flI.map wdN = flL := by decide
theorem wd_fe : feI.map wdN = feL := by decide
theorem wd_hk : hkI.map wdN = hkL := by decide
theorem wd_dk : dkI.map wdN = dkL := by decide
theorem wd_kp : kpI.map wdN = kpL := by decide
theorem wd_hw : hwI.map wdN = hwL := by decide
/-- all tokens laid, the words -/
def RdW (zs : Nat → Nat) (σ : CM) (C : Nat → Nat) (all : List Tk) : Prop := (all.length ≤ 1001 ∧ ∀ a, a < all.length → (tk all a).1 ≤ 4 ∧ (tk all a).2.1 < 2 ^ 62 ∧ (tk all a).2.2 ≤ 1000 ∧ ((tk all a).1 ≠ 0 → a + 1 < all.length)) ∧
  ((∃ F, gC σ (C 7) = some (.inr (0, 1001, .inl F)) ∧ ∀ i, i < all.length → F i = nI (tk all i).1) ∧ (∃ V, gC σ (C 8) = some (.inr (2, 1001, .inr (.inl V))) ∧ ∀ i, i < all.length → (tk all i).1 ≠ 0 → V i = lN (tk all i).2.1) ∧ (∃ F, gC σ (C 9) = some (.inr (0, 1001, .inl F)) ∧ ∀ i, i < all.length → F i = nI (tk all i).2.2)) ∧
  StA zs σ (C 0) flI ∧ StA zs σ (C 1) feI ∧ StA zs σ (C 2) hkI ∧ StA zs σ (C 3) dkI ∧ StA zs σ (C 4) kpI ∧ StA zs σ (C 5) hwI
theorem RdW.k {zs : Nat → Nat} {σ σ' : CM} {C : Nat → Nat} {all : List Tk} (h : RdW zs σ C all) (e : ∀ k, k < 10 → k ≠ 6 → gC σ' (C k) = gC σ (C k)) : RdW zs σ' C all := by
  obtain ⟨h0, ⟨⟨F, f1, f2⟩, ⟨V, v1, v2⟩, ⟨G, g1, g2⟩⟩, ⟨x0, a0, b0⟩, ⟨x1, a1, b1⟩, ⟨x2, a2, b2⟩, ⟨x3, a3, b3⟩, ⟨x4, a4, b4⟩, ⟨x5, a5, b5⟩⟩ := h
  exact ⟨h0, ⟨⟨F, (e 7 (by omega) (by omega)).trans f1, f2⟩, ⟨V, (e 8 (by omega) (by omega)).trans v1, v2⟩, ⟨G, (e 9 (by omega) (by omega)).trans g1, g2⟩⟩, ⟨x0, (e 0 (by omega) (by omega)).trans a0, b0⟩, ⟨x1, (e 1 (by omega) (by omega)).trans a1, b1⟩, ⟨x2, (e 2 (by omega) (by omega)).trans a2, b2⟩, ⟨x3, (e 3 (by omega) (by omega)).trans a3, b3⟩, ⟨x4, (e 4 (by omega) (by omega)).trans a4, b4⟩, ⟨x5, (e 5 (by omega) (by omega)).trans a5, b5⟩⟩
/-- a reader at its token a -/
def RdE (zs : Nat → Nat) (σ : CM) (ra : Nat) (C : Nat → Nat) (all : List Tk) (dr : Value) (hg : Int32) (fa : Nat) (tp : Int32) (a : Nat) (dp : Nat) : Prop := gC σ ra = some (.inl (1, rdF C dr hg fa tp (nI a) (nI dp))) ∧ RdW zs σ C all ∧ a < all.length
theorem RdE.ne {zs : Nat → Nat} {σ : CM} {ra : Nat} {C : Nat → Nat} {all : List Tk} {dr : Value} {hg : Int32} {fa : Nat} {tp : Int32} {a dp : Nat} (h : RdE zs σ ra C all dr hg fa tp a dp) : (C 7 ≠ ra ∧ C 8 ≠ ra ∧ C 9 ≠ ra) ∧ C 0 ≠ ra ∧ C 1 ≠ ra ∧ C 2 ≠ ra ∧ C 3 ≠ ra ∧ C 4 ≠ ra ∧ C 5 ≠ ra := by
  obtain ⟨h1, ⟨h0, ⟨⟨F, f1, f2⟩, ⟨V, v1, v2⟩, ⟨G, g1, g2⟩⟩, ⟨x0, a0, b0⟩, ⟨x1, a1, b1⟩, ⟨x2, a2, b2⟩, ⟨x3, a3, b3⟩, ⟨x4, a4, b4⟩, ⟨x5, a5, b5⟩⟩, h2⟩ := h
  refine ⟨⟨?_, ?_, ?_⟩, ?_, ?_, ?_, ?_, ?_, ?_⟩ <;> intro z <;> rw [← z] at h1
  · rw [f1] at h1; cases h1
  · rw [v1] at h1; cases h1
  · rw [g1] at h1; cases h1
  · rw [a0] at h1; cases h1
  · rw [a1] at h1; cases h1
  · rw [a2] at h1; cases h1
  · rw [a3] at h1; cases h1
  · rw [a4] at h1; cases h1
  · rw [a5] at h1; cases h1
section
variable {zs : Nat → Nat} {e : Nat} {σ : CM} {P : CR → Prop} {ra : Nat} {C : Nat → Nat} {all : List Tk} {dr : Value} {hg : Int32} {fa : Nat} {tp : Int32} {a dp : Nat}
theorem RdE.nk (h : RdE zs σ ra C all dr hg fa tp a dp) {k : Nat} (hk : k < 10) (h6 : k ≠ 6) : C k ≠ ra := by
  obtain ⟨⟨n7, n8, n9⟩, n0, n1, n2, n3, n4, n5⟩ := h.ne
  have hc : k = 0 ∨ k = 1 ∨ k = 2 ∨ k = 3 ∨ k = 4 ∨ k = 5 ∨ k = 7 ∨ k = 8 ∨ k = 9 := by omega
  rcases hc with rfl | rfl | rfl | rfl | rfl | rfl | rfl | rfl | rfl <;> assumption
/-- its own cell written -/
theorem RdE.p (h : RdE zs σ ra C all dr hg fa tp a dp) {dr' : Value} {hg' : Int32} {fa' : Nat} {tp' : Int32} {a' dp' : Nat} (ha : a' < all.length) : RdE zs (pC σ ra (.inl (1, rdF C dr' hg' fa' tp' (nI a') (nI dp')))) ra C all dr' hg' fa' tp' a' dp' := ⟨gC_self, h.2.1.k (fun k hk h6 => gC_ne (h.nk hk h6)), ha⟩
/-- it stands where nothing of it is written -/
theorem RdW.lt (h : RdW zs σ C all) (hw : HW σ) {k : Nat} (hk : k < 10) (h6 : k ≠ 6) : C k < σ.1 := by
  obtain ⟨h0, ⟨⟨F, f1, f2⟩, ⟨V, v1, v2⟩, ⟨G, g1, g2⟩⟩, ⟨x0, a0, b0⟩, ⟨x1, a1, b1⟩, ⟨x2, a2, b2⟩, ⟨x3, a3, b3⟩, ⟨x4, a4, b4⟩, ⟨x5, a5, b5⟩⟩ := h
  have hc : k = 0 ∨ k = 1 ∨ k = 2 ∨ k = 3 ∨ k = 4 ∨ k = 5 ∨ k = 7 ∨ k = 8 ∨ k = 9 := by omega
  rcases hc with rfl | rfl | rfl | rfl | rfl | rfl | rfl | rfl | rfl
  · exact hw _ _ a0
  · exact hw _ _ a1
  · exact hw _ _ a2
  · exact hw _ _ a3
  · exact hw _ _ a4
  · exact hw _ _ a5
  · exact hw _ _ f1
  · exact hw _ _ v1
  · exact hw _ _ g1
theorem RdE.fr {σ' : CM} {S : Nat → Prop} {c m : Nat} (h : RdE zs σ ra C all dr hg fa tp a dp) (hw : HW σ) (hF : Fr S c m σ σ') (h0 : ¬ S ra) (hS : ∀ k, k < 10 → k ≠ 6 → ¬ S (C k)) : RdE zs σ' ra C all dr hg fa tp a dp := ⟨hF.g (hw _ _ h.1) h0 h.1, h.2.1.k (fun k hk h6 => hF.2.2.1 _ (h.2.1.lt hw hk h6) (hS k hk h6)), h.2.2⟩
/-- the token it stands at -/
theorem RdE.x (h : RdE zs σ ra C all dr hg fa tp a dp) : (a < 1001 ∧ (tk all a).1 ≤ 4 ∧ (tk all a).2.1 < 2 ^ 62 ∧ (tk all a).2.2 ≤ 1000) ∧ (∃ F, gC σ (C 7) = some (.inr (0, 1001, .inl F)) ∧ F a = nI (tk all a).1) ∧ (∃ V, gC σ (C 8) = some (.inr (2, 1001, .inr (.inl V))) ∧ ((tk all a).1 ≠ 0 → V a = lN (tk all a).2.1)) ∧ ∃ F, gC σ (C 9) = some (.inr (0, 1001, .inl F)) ∧ F a = nI (tk all a).2.2 := by
  obtain ⟨h1, ⟨⟨l1, l2⟩, ⟨⟨F, f1, f2⟩, ⟨V, v1, v2⟩, ⟨G, g1, g2⟩⟩, -⟩, ha⟩ := h
  obtain ⟨b1, b2, b3, b4⟩ := l2 a ha
  exact ⟨⟨by omega, b1, b2, b3⟩, ⟨F, f1, f2 a ha⟩, ⟨V, v1, v2 a ha⟩, ⟨G, g1, g2 a ha⟩⟩
theorem RdE.nx (h : RdE zs σ ra C all dr hg fa tp a dp) (hn : (tk all a).1 ≠ 0) : a + 1 < all.length := (h.2.1.1.2 a h.2.2).2.2.2 hn
theorem bI_dec' {p : Prop} [Decidable p] : bI (decide p) = if p then nI 1 else nI 0 := by by_cases h : p <;> simp [h, bI]
theorem c_isWord {i : Nat} (hE : RdE zs σ ra C all dr hg fa tp a dp) (hZ : ZS zs) (hi : i < 37) (h34 : i ≠ 34) (hw : wdN i < 2 ^ 62) : EC zs (Jc zs) (e + 1) cX2_isWord (some .boolean) 1 0 0 [some (.ref ra), some (.ref (zs i))] [] σ P ↔ P (.inl (some (.int (bI (isW (wdN i) (all.drop a))))), σ) := by
  obtain ⟨⟨l0, l1, l2, l3⟩, ⟨F, f1, f2⟩, ⟨V, v1, v2⟩, -⟩ := hE.x
  have h1 := hE.1
  unfold rdF at h1
  have wd := fun P => c_word (e := e) (σ := σ) (P := P) hZ hi h34
  unfold isW
  rw [hd_drop]
  by_cases hs : (tk all a).1 = 1
  · rw [hs] at f2
    have v2 := v2 (by omega)
    by_cases hv : (tk all a).2.1 = wdN i
    · have e1 : (lg_cmp (V a) (lN (wdN i)) = 0) = True := eq_true ((lg_cmp_eq _ _).mpr (by rw [v2, hv]))
      simp (disch := omega) only [ec_aload_n (i := 0) dX2_isWord_0 rfl, ec_get dX2_isWord_1, gw_1_107_1, ec_aload_n (i := 0) dX2_isWord_4 rfl, ec_get dX2_isWord_5, gw_1_156_1, ec_iald dX2_isWord_8, iaE_i, ec_iconst (v := nI 1) dX2_isWord_9 rfl, ec_icmp_ne (t := 34) dX2_isWord_10 rfl, ec_aload_n (i := 0) dX2_isWord_13 rfl, ec_get dX2_isWord_14, gw_1_110_1, ec_aload_n (i := 0) dX2_isWord_17 rfl, ec_get dX2_isWord_18, ec_lald dX2_isWord_21, laE_l, ec_aload_n (i := 1) dX2_isWord_22 rfl, ec_cs1 dX2_isWord_23 iN_1_164 ccp_1_164_99, ec_lcmp dX2_isWord_26, ec_if_ne (t := 34) dX2_isWord_27 rfl, ec_iconst (v := nI 1) dX2_isWord_30 rfl, ec_goto (t := 35) dX2_isWord_31 rfl, ec_iconst (v := nI 0) dX2_isWord_34 rfl, ec_iret dX2_isWord_35, ec_zret dX2_isWord_35, cat1_i, cat1_r, cat1_u, catB_n, catB_i, catB_r, catB_l, catB_u, lg_0, lg_s, ldEI_i, ldEL_l, ldEA_r, ldEA_n, lin_0, lin_s, ls1_0, ls1_1, ls1_s, ls2_0, ls2_1, ls2_s, lcl_i, lcl_r, lcl_l, lcl_u, lcl_n, lent_i, lent_r, lent_l, lent_u, lent_0, lent_s, Option.toList_some, Option.toList_none, List.cons_append, List.nil_append, Nat.reduceAdd, true_and, vin_0, vin_s, aE_0, aE_s, EK_r, EK_t, List.set_cons_zero, List.set_cons_succ, va_rf_s, va_rf_n, pC_1, pC_21, aC_1, aC_21, gC_self, gC_new, eI_, eLg_, eV_, eInc_, eN_, eS_, eJ_, eCl_, nI_add, nI_mul, nI_subI, nI_clampI, inb_t, nI_lt0, nI_0le, nI_m1, nI_m1', nI_ofNat, bI_01, b01_0, b01_1, bI_eq0, bI_eq1, bb_01, true_or, or_true, false_or, or_false, eq_self, Nat.reduceAdd, Nat.reduceMul, Nat.reduceSub, Nat.reduceLT, Nat.reduceLeDiff, Nat.reduceEqDiff, ↓reduceIte, and_true, true_and, and_self, Nat.add_zero, Nat.zero_add, not_false_eq_true, not_true_eq_false, faV_n, faV_s, m1_lt0, m1_0le, m1_eq0, m1_le, le_m1, m1_lt, lt_m1, nI_100k, nI_100, upd_e, upd_n, pC_pC, gC_ne', gC_old', nI_lt_t, nI_lt_f, nI_le_t, nI_le_f, nI_eq_t, nI_eq_f, nI_eq0_t, nI_eq0_f, nI_0lt_t, nI_0lt_f, nI_le0_t, nI_le0_f, nI_eq1_t, nI_eq1_f, h1, f1, f2, v1, wd, e1, hs, hv, decide_true]
      exact Iff.rfl
    · have e1 : (lg_cmp (V a) (lN (wdN i)) = 0) = False := eq_false (fun z => hv (lN_inj l2 hw (by rw [← v2]; exact (lg_cmp_eq _ _).mp z)))
      simp (disch := omega) only [ec_aload_n (i := 0) dX2_isWord_0 rfl, ec_get dX2_isWord_1, gw_1_107_1, ec_aload_n (i := 0) dX2_isWord_4 rfl, ec_get dX2_isWord_5, gw_1_156_1, ec_iald dX2_isWord_8, iaE_i, ec_iconst (v := nI 1) dX2_isWord_9 rfl, ec_icmp_ne (t := 34) dX2_isWord_10 rfl, ec_aload_n (i := 0) dX2_isWord_13 rfl, ec_get dX2_isWord_14, gw_1_110_1, ec_aload_n (i := 0) dX2_isWord_17 rfl, ec_get dX2_isWord_18, ec_lald dX2_isWord_21, laE_l, ec_aload_n (i := 1) dX2_isWord_22 rfl, ec_cs1 dX2_isWord_23 iN_1_164 ccp_1_164_99, ec_lcmp dX2_isWord_26, ec_if_ne (t := 34) dX2_isWord_27 rfl, ec_iconst (v := nI 1) dX2_isWord_30 rfl, ec_goto (t := 35) dX2_isWord_31 rfl, ec_iconst (v := nI 0) dX2_isWord_34 rfl, ec_iret dX2_isWord_35, ec_zret dX2_isWord_35, cat1_i, cat1_r, cat1_u, catB_n, catB_i, catB_r, catB_l, catB_u, lg_0, lg_s, ldEI_i, ldEL_l, ldEA_r, ldEA_n, lin_0, lin_s, ls1_0, ls1_1, ls1_s, ls2_0, ls2_1, ls2_s, lcl_i, lcl_r, lcl_l, lcl_u, lcl_n, lent_i, lent_r, lent_l, lent_u, lent_0, lent_s, Option.toList_some, Option.toList_none, List.cons_append, List.nil_append, Nat.reduceAdd, true_and, vin_0, vin_s, aE_0, aE_s, EK_r, EK_t, List.set_cons_zero, List.set_cons_succ, va_rf_s, va_rf_n, pC_1, pC_21, aC_1, aC_21, gC_self, gC_new, eI_, eLg_, eV_, eInc_, eN_, eS_, eJ_, eCl_, nI_add, nI_mul, nI_subI, nI_clampI, inb_t, nI_lt0, nI_0le, nI_m1, nI_m1', nI_ofNat, bI_01, b01_0, b01_1, bI_eq0, bI_eq1, bb_01, true_or, or_true, false_or, or_false, eq_self, Nat.reduceAdd, Nat.reduceMul, Nat.reduceSub, Nat.reduceLT, Nat.reduceLeDiff, Nat.reduceEqDiff, ↓reduceIte, and_true, true_and, and_self, Nat.add_zero, Nat.zero_add, not_false_eq_true, not_true_eq_false, faV_n, faV_s, m1_lt0, m1_0le, m1_eq0, m1_le, le_m1, m1_lt, lt_m1, nI_100k, nI_100, upd_e, upd_n, pC_pC, gC_ne', gC_old', nI_lt_t, nI_lt_f, nI_le_t, nI_le_f, nI_eq_t, nI_eq_f, nI_eq0_t, nI_eq0_f, nI_0lt_t, nI_0lt_f, nI_le0_t, nI_le0_f, nI_eq1_t, nI_eq1_f, h1, f1, f2, v1, wd, e1, hs, hv, decide_false, and_false]
      exact Iff.rfl
  · simp (disch := omega) only [ec_aload_n (i := 0) dX2_isWord_0 rfl, ec_get dX2_isWord_1, gw_1_107_1, ec_aload_n (i := 0) dX2_isWord_4 rfl, ec_get dX2_isWord_5, gw_1_156_1, ec_iald dX2_isWord_8, iaE_i, ec_iconst (v := nI 1) dX2_isWord_9 rfl, ec_icmp_ne (t := 34) dX2_isWord_10 rfl, ec_aload_n (i := 0) dX2_isWord_13 rfl, ec_get dX2_isWord_14, gw_1_110_1, ec_aload_n (i := 0) dX2_isWord_17 rfl, ec_get dX2_isWord_18, ec_lald dX2_isWord_21, laE_l, ec_aload_n (i := 1) dX2_isWord_22 rfl, ec_cs1 dX2_isWord_23 iN_1_164 ccp_1_164_99, ec_lcmp dX2_isWord_26, ec_if_ne (t := 34) dX2_isWord_27 rfl, ec_iconst (v := nI 1) dX2_isWord_30 rfl, ec_goto (t := 35) dX2_isWord_31 rfl, ec_iconst (v := nI 0) dX2_isWord_34 rfl, ec_iret dX2_isWord_35, ec_zret dX2_isWord_35, cat1_i, cat1_r, cat1_u, catB_n, catB_i, catB_r, catB_l, catB_u, lg_0, lg_s, ldEI_i, ldEL_l, ldEA_r, ldEA_n, lin_0, lin_s, ls1_0, ls1_1, ls1_s, ls2_0, ls2_1, ls2_s, lcl_i, lcl_r, lcl_l, lcl_u, lcl_n, lent_i, lent_r, lent_l, lent_u, lent_0, lent_s, Option.toList_some, Option.toList_none, List.cons_append, List.nil_append, Nat.reduceAdd, true_and, vin_0, vin_s, aE_0, aE_s, EK_r, EK_t, List.set_cons_zero, List.set_cons_succ, va_rf_s, va_rf_n, pC_1, pC_21, aC_1, aC_21, gC_self, gC_new, eI_, eLg_, eV_, eInc_, eN_, eS_, eJ_, eCl_, nI_add, nI_mul, nI_subI, nI_clampI, inb_t, nI_lt0, nI_0le, nI_m1, nI_m1', nI_ofNat, bI_01, b01_0, b01_1, bI_eq0, bI_eq1, bb_01, true_or, or_true, false_or, or_false, eq_self, Nat.reduceAdd, Nat.reduceMul, Nat.reduceSub, Nat.reduceLT, Nat.reduceLeDiff, Nat.reduceEqDiff, ↓reduceIte, and_true, true_and, and_self, Nat.add_zero, Nat.zero_add, not_false_eq_true, not_true_eq_false, faV_n, faV_s, m1_lt0, m1_0le, m1_eq0, m1_le, le_m1, m1_lt, lt_m1, nI_100k, nI_100, upd_e, upd_n, pC_pC, gC_ne', gC_old', nI_lt_t, nI_lt_f, nI_le_t, nI_le_f, nI_eq_t, nI_eq_f, nI_eq0_t, nI_eq0_f, nI_0lt_t, nI_0lt_f, nI_le0_t, nI_le0_f, nI_eq1_t, nI_eq1_f, h1, f1, f2, hs, decide_false, false_and]
    exact Iff.rfl
end
