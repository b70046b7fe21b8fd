set_option maxRecDepth 100000
/-! THE WHOLE COMPONENT: a quarter is read -/
section
variable {zs : Nat → Nat} {e : Nat} {σ σ1 : CM} {P : CR → Prop} {x0 B : Nat} {G : Gh} {a : Ab}
theorem muN_30 : muN (fun _ => none) 30 = 30 := by decide
/-- the reader at the state behind the new night -/
theorem CI.rq (hI : CI zs σ x0 G a) {c m : Nat} (F : Fr (fun _ => False) c m σ σ1) : LgC zs σ1 ∧ (∀ i, i < 256 → zs (200 + i) < σ1.1) ∧ RdT σ1 (G.A 0) G.C G.dr G.hg G.fa (nI G.pt) (nI G.dp) a.T ∧ RdK zs σ1 G.C ∧ CuA σ1 G.C [] := by
  have hw := hI.hw
  obtain ⟨-, -, -, -, hd, -, -, -, hz⟩ := id hI
  have hz' : CIz zs σ1 G := hz.fr hw F (fun _ _ z => z.elim) (fun _ _ => rfl)
  have hd' := CId.fr (ow' := G.ow) (r := (G.op, G.al, G.gg)) (m0 := G.m0) (w := G.w) hd hw F (fun _ _ z => z.elim) (fun _ _ => rfl)
  refine ⟨hz'.1, fun i hi => ?_, hd'.1, hd'.2.1, hd'.2.2.1⟩
  have hv : ∃ v : Int64, -128 ≤ v ∧ v ≤ 127 ∧ (v + 128).toNatClampNeg = i := by
    have key : ((List.range 256).all (fun i => decide (-128 ≤ Int64.ofNat i - 128) && decide (Int64.ofNat i - 128 ≤ 127) && decide ((Int64.ofNat i - 128 + 128).toNatClampNeg = i))) = true := by decide +kernel
    have := List.all_eq_true.mp key i (List.mem_range.mpr hi)
    rw [Bool.and_eq_true, Bool.and_eq_true] at this
    exact ⟨_, of_decide_eq_true this.1.1, of_decide_eq_true this.1.2, of_decide_eq_true this.2⟩
  obtain ⟨v, v1, v2, rfl⟩ := hv
  exact F.2.2.2 _ _ (hz'.1 v v1 v2)
/-- what is wrong is answered -/
theorem ci_quarterE {k : Nat} {r : CR} {σ' : CM} (hI : CI zs σ x0 G a) (hN : NNew σ σ1) (hr : ErR zs σ1 (G.A 0) G.C (nI 0) (CuS (G.A 0) G.C) (8 * a.T.1 + 19) (2100 * a.T.1 + 2144) k r ∧ CuA r.2 G.C []) (hP : ∀ σ', CO zs x0 σ G a ((a.q, a.s, a.Li), (a.n, a.u), a.mk, (0, a.T.2)) σ' → P (.inl (some (.int (nI k))), σ')) : EK zs (Jc zs) (e + 42) cX1_quarter (some .int) 0 1 12 [some (.ref x0), none] [.ref σ.1, .ref x0] P r := by
  obtain ⟨x, σ', rfl, gx, hCO⟩ := hI.rdE (ErR.tr (c2 := 8 * a.T.1 + 30) (m2 := 2100 * a.T.1 + 2221) (hN.1.sub (S' := CuS (G.A 0) G.C) (fun _ _ z => z.elim) (Nat.le_refl _) (Nat.le_refl _)) hr.1 (fun b z => Or.inr z) (by omega) (by omega)) hr.2 (by omega) (by omega)
  have fin := hP σ' hCO
  have gx' := gx
  unfold exF at gx'
  rw [EK_t, ET_1 (thrP_c (o := 0) dX1_quarter_12 rfl) (by omega) gx]
  simp (disch := omega) only [ec_astore_n (i := 1) dX1_quarter_41 rfl, ec_astore_nN (i := 1) dX1_quarter_41 rfl, ec_aload_n (i := 1) dX1_quarter_42 rfl, ec_get dX1_quarter_43, gw_0_140_35, ec_iret dX1_quarter_46, ec_zret dX1_quarter_46, cat1_i, cat1_r, cat1_u, catB_n, catB_i, catB_r, catB_l, catB_u, lg_0, lg_s, ldEI_i, ldEL_l, ldEA_r, ldEA_n, lin_0, lin_s, ls1_0, ls1_1, ls1_s, ls2_0, ls2_1, ls2_s, lcl_i, lcl_r, lcl_l, lcl_u, lcl_n, lent_i, lent_r, lent_l, lent_u, lent_0, lent_s, Option.toList_some, Option.toList_none, List.cons_append, List.nil_append, Nat.reduceAdd, true_and, vin_0, vin_s, aE_0, aE_s, EK_r, EK_t, List.set_cons_zero, List.set_cons_succ, va_rf_s, va_rf_n, pC_1, pC_21, aC_1, aC_21, gC_self, gC_new, eI_, eLg_, eV_, eInc_, eN_, eS_, eJ_, eCl_, nI_add, nI_mul, nI_subI, nI_clampI, inb_t, nI_lt0, nI_0le, nI_m1, nI_m1', nI_ofNat, bI_01, b01_0, b01_1, bI_eq0, bI_eq1, bb_01, true_or, or_true, false_or, or_false, eq_self, Nat.reduceAdd, Nat.reduceMul, Nat.reduceSub, Nat.reduceLT, Nat.reduceLeDiff, Nat.reduceEqDiff, ↓reduceIte, and_true, true_and, and_self, Nat.add_zero, Nat.zero_add, not_false_eq_true, not_true_eq_false, faV_n, faV_s, m1_lt0, m1_0le, m1_eq0, m1_le, le_m1, m1_lt, lt_m1, nI_100k, nI_100, upd_e, upd_n, pC_pC, gC_ne', gC_old', nI_lt_t, nI_lt_f, nI_le_t, nI_le_f, nI_eq_t, nI_eq_f, nI_eq0_t, nI_eq0_f, nI_0lt_t, nI_0lt_f, nI_le0_t, nI_le0_f, nI_eq1_t, nI_eq1_f, gx']
  exact fin
end
