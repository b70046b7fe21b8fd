set_option maxRecDepth 100000
/-! THE COMPONENT's reader: a history, from its begin on -/
def HsF (zs : Nat → Nat) (all : List Tk) (ra : Nat) (C : Nat → Nat) (dr : Value) (hg : Int32) (fa dp lo : Nat) (σ : CM) (n : Nat) (x : Except Nat (List It)) (r : CR) : Prop := match x with
  | .error k => ErR zs σ ra C (nI 0) (CuS ra C) (8 * n + 19) (2100 * n + 2144) k r ∧ CuA r.2 C []
  | .ok L => ∃ a' σ' da cap x, r = (.inl (some (.ref lo)), σ') ∧ RdE zs σ' ra C all dr hg fa (nI 0) a' dp ∧ Fr (CuS ra C) (8 * n + 19) (2100 * n + 2144) σ σ' ∧ HsO lo σ' L da cap x
section
variable {zs : Nat → Nat} {e : Nat} {σ σ' : CM} {P : CR → Prop} {ra : Nat} {C : Nat → Nat} {dr : Value} {hg : Int32} {fa : Nat} {T : TP} {pt dp qa : Nat} {q : QT}
theorem NmQ.k2 (h : NmQ σ qa q) (e : ∀ b c, gC σ b = some c → (∀ fs, c ≠ .inl (1, fs)) → (∀ n f, c ≠ .inr (0, n, f)) → (∀ n f, c ≠ .inr (2, n, f)) → gC σ' b = gC σ b) : NmQ σ' qa q := by
  obtain ⟨h0, hl, nl, ka, na, sl, fo, xl, xe, hx, mx, dx, h1, ⟨mc, d, cap, f, a1, a2, a3, a4, a5, a6⟩, h3, ⟨mc', d', cap', f', b1, b2, b3, b4, b5, b6⟩, h6⟩ := h
  have ob : ∀ b k fs, k ≠ 1 → gC σ b = some (.inl (k, fs)) → gC σ' b = some (.inl (k, fs)) := fun b k fs hk hb => (e _ _ hb (fun fs' z => by cases z; exact hk rfl) (fun n f z => by cases z) (fun n f z => by cases z)).trans hb
  have ar : ∀ b n f, gC σ b = some (.inr (4, n, f)) → gC σ' b = some (.inr (4, n, f)) := fun b n f hb => (e _ _ hb (fun fs' z => by cases z) (fun n f z => by cases z) (fun n f z => by cases z)).trans hb
  refine ⟨h0, hl, nl, ka, na, sl, fo, xl, xe, hx, mx, dx, ob _ _ _ (by omega) h1, ⟨mc, d, cap, f, ob _ _ _ (by omega) a1, ar _ _ _ a2, a3, a4, a5, a6⟩, fun h hh => ⟨ob _ _ _ (by omega) (h3 h hh).1, (h3 h hh).2⟩, ⟨mc', d', cap', f', ob _ _ _ (by omega) b1, ar _ _ _ b2, b3, b4, b5, b6⟩, fun d hd => ?_⟩
  rcases h6 d hd with z | z
  · exact Or.inl (ob _ _ _ (by omega) z)
  · exact Or.inr (ob _ _ _ (by omega) z)
theorem c_rhistory (hZ : ZS zs) (hw : HW σ) (hT : TOK T) (hR : RdT σ ra C dr hg fa (nI pt) (nI dp) T) (hK : RdK zs σ C) (hA : CuA σ C []) (h79 : C 7 ≠ C 9) (hQ : NmQ σ qa q) (hP : ∀ r, HsF zs (tls T.2 T.1 0) ra C dr hg fa dp σ.1 σ T.1 (pHis q (tls T.2 T.1 0).length [] (tls T.2 T.1 0)) r → P r) : EC zs (Jc zs) (e + 6) cX2_history (some (.object "java/util/ArrayList")) 1 0 0 [some (.ref ra), some (.ref qa), none, none, none] [] σ P := by
  have h0 := hR.1
  have hrl := hw _ _ h0
  have len := tls_ln (T := T.2) (n := T.1) (T.1 + 1) 0 (by omega) (by omega)
  obtain ⟨F, V, G, ⟨g7, g8, g9⟩, -⟩ := id hA
  simp (disch := omega) only [ec_aload_n (i := 0) dX2_history_0 rfl, ec_cv0 dX2_history_1 iN_1_185 cna_1_185, vcE_o ccp_1_185_1, cat1_i, cat1_r, cat1_u, catB_n, catB_i, catB_r, catB_l, catB_u, lg_0, lg_s, ldEI_i, ldEL_l, ldEA_r, ldEA_n, lin_0, lin_s, ls1_0, ls1_1, ls1_s, ls2_0, ls2_1, ls2_s, lcl_i, lcl_r, lcl_l, lcl_u, lcl_n, lent_i, lent_r, lent_l, lent_u, lent_0, lent_s, Option.toList_some, Option.toList_none, List.cons_append, List.nil_append, Nat.reduceAdd, true_and, vin_0, vin_s, aE_0, aE_s, EK_r, EK_t, List.set_cons_zero, List.set_cons_succ, va_rf_s, va_rf_n, pC_1, pC_21, aC_1, aC_21, gC_self, gC_new, eI_, eLg_, eV_, eInc_, eN_, eS_, eJ_, eCl_, nI_add, nI_mul, nI_subI, nI_clampI, inb_t, nI_lt0, nI_0le, nI_m1, nI_m1', nI_ofNat, bI_01, b01_0, b01_1, bI_eq0, bI_eq1, bb_01, true_or, or_true, false_or, or_false, eq_self, Nat.reduceAdd, Nat.reduceMul, Nat.reduceSub, Nat.reduceLT, Nat.reduceLeDiff, Nat.reduceEqDiff, ↓reduceIte, and_true, true_and, and_self, Nat.add_zero, Nat.zero_add, not_false_eq_true, not_true_eq_false, faV_n, faV_s, m1_lt0, m1_0le, m1_eq0, m1_le, le_m1, m1_lt, lt_m1, nI_100k, nI_100, upd_e, upd_n, pC_pC, gC_ne', gC_old', nI_lt_t, nI_lt_f, nI_le_t, nI_le_f, nI_eq_t, nI_eq_f, nI_eq0_t, nI_eq0_f, nI_0lt_t, nI_0lt_f, nI_le0_t, nI_le0_f, nI_eq1_t, nI_eq1_f, h0]
  refine c_cut (e := e + 3) hZ hT hR hK hA h79 (fun σ1 S1 E1 => ?_)
  have w1 := S1.hw hw
  have s1 : σ1.1 = σ.1 := S1.1
  have h1 := E1.1
  have Q1 : NmQ σ1 qa q := hQ.k2 (fun b c hb n1 n2 n3 => S1.2.2.1 b (fun z => by
    rcases z with z | z | z | z
    · rw [z, h0] at hb; exact n1 _ (Option.some.inj hb).symm
    · rw [z, g7] at hb; exact n2 _ _ (Option.some.inj hb).symm
    · rw [z, g8] at hb; exact n3 _ _ (Option.some.inj hb).symm
    · rw [z, g9] at hb; exact n2 _ _ (Option.some.inj hb).symm))
  have hC1 : ∀ k, k < 10 → k ≠ 6 → C k < σ.1 := fun k hk h6 => by rw [← s1]; exact E1.2.1.lt w1 hk h6
  simp (disch := omega) only [ec_new dX2_history_4 ncp_1_240 cSz_36 cDf_36, ec_dup dX2_history_7, ec_iconst (v := nI 2) dX2_history_8 rfl, ec_ci1 dX2_history_9 iN_1_318 ccp_1_318_99, cat1_i, cat1_r, cat1_u, catB_n, catB_i, catB_r, catB_l, catB_u, lg_0, lg_s, ldEI_i, ldEL_l, ldEA_r, ldEA_n, lin_0, lin_s, ls1_0, ls1_1, ls1_s, ls2_0, ls2_1, ls2_s, lcl_i, lcl_r, lcl_l, lcl_u, lcl_n, lent_i, lent_r, lent_l, lent_u, lent_0, lent_s, Option.toList_some, Option.toList_none, List.cons_append, List.nil_append, Nat.reduceAdd, true_and, vin_0, vin_s, aE_0, aE_s, EK_r, EK_t, List.set_cons_zero, List.set_cons_succ, va_rf_s, va_rf_n, pC_1, pC_21, aC_1, aC_21, gC_self, gC_new, eI_, eLg_, eV_, eInc_, eN_, eS_, eJ_, eCl_, nI_add, nI_mul, nI_subI, nI_clampI, inb_t, nI_lt0, nI_0le, nI_m1, nI_m1', nI_ofNat, bI_01, b01_0, b01_1, bI_eq0, bI_eq1, bb_01, true_or, or_true, false_or, or_false, eq_self, Nat.reduceAdd, Nat.reduceMul, Nat.reduceSub, Nat.reduceLT, Nat.reduceLeDiff, Nat.reduceEqDiff, ↓reduceIte, and_true, true_and, and_self, Nat.add_zero, Nat.zero_add, not_false_eq_true, not_true_eq_false, faV_n, faV_s, m1_lt0, m1_0le, m1_eq0, m1_le, le_m1, m1_lt, lt_m1, nI_100k, nI_100, upd_e, upd_n, pC_pC, gC_ne', gC_old', nI_lt_t, nI_lt_f, nI_le_t, nI_le_f, nI_eq_t, nI_eq_f, nI_eq0_t, nI_eq0_f, nI_0lt_t, nI_0lt_f, nI_le0_t, nI_le0_f, nI_eq1_t, nI_eq1_f]
  refine c_newk (σ := σ1) (e := e + 3) (k := 2) (by omega) (by omega) w1 (fun σ2 F2 m2 A2 => ?_)
  rw [s1] at A2
  have w2 := F2.2.2.2
  have E2 := E1.fr w1 F2 (fun z => z) (fun _ _ _ z => z)
  have K2 : NmK σ1 ra σ.1 σ2 := fun b c hb _ => F2.2.2.1 b (w1 _ _ hb) (fun z => z)
  have F02 : Fr (CuS ra C) 2 5 σ σ2 := ((S1.fr hw).tn F2 (fun b z => z.elim)).sub (fun _ _ z => z) (by omega) (by omega)
  have key := c_hs_lo (e := e) (P := P) (q := q) (qa := qa) hZ w1 ⟨_, E1.1⟩ Q1 (by omega) (by omega) hC1 (tls T.2 T.1 0).length σ2 0 [] (σ.1 + 1) 2 (fun _ => 0) none (by omega) w2 K2 E2 ⟨A2, ⟨by omega, by omega, by omega⟩, fun i hi => absurd hi (Nat.not_lt_zero i)⟩ ⟨Nat.zero_le _, Nat.zero_le _⟩ (fun r hr => hP r (by
    rw [List.drop_zero] at hr
    cases hx : pHis q (tls T.2 T.1 0).length [] (tls T.2 T.1 0) with
    | error k =>
      rw [hx] at hr
      refine ⟨ErR.tr F02 hr (fun b z => by rcases z with z | z; exact Or.inr (Or.inl z); exact Or.inl z) (by omega) (by omega), ?_⟩
      obtain ⟨x', σ', hxe, hF, -⟩ := hr
      rw [hxe]
      exact E2.cu w2 hF hC1
    | ok L =>
      rw [hx] at hr
      obtain ⟨a', σ', da', cap', x', h1, h2, h3, h4⟩ := hr
      exact ⟨a', σ', da', cap', x', h1, h2, (F02.tn h3 (fun b z => by rcases z with z | z; exact Or.inr (Or.inl z); exact Or.inl z)).sub (fun _ _ z => z) (by omega) (by omega), h4⟩))
  simp (disch := omega) only [ec_astore_n (i := 2) dX2_history_12 rfl, ec_astore_nN (i := 2) dX2_history_12 rfl, ec_iconst (v := nI 0) dX2_history_13 rfl, ec_istore_n (i := 3) dX2_history_14 rfl, cat1_i, cat1_r, cat1_u, catB_n, catB_i, catB_r, catB_l, catB_u, lg_0, lg_s, ldEI_i, ldEL_l, ldEA_r, ldEA_n, lin_0, lin_s, ls1_0, ls1_1, ls1_s, ls2_0, ls2_1, ls2_s, lcl_i, lcl_r, lcl_l, lcl_u, lcl_n, lent_i, lent_r, lent_l, lent_u, lent_0, lent_s, Option.toList_some, Option.toList_none, List.cons_append, List.nil_append, Nat.reduceAdd, true_and, vin_0, vin_s, aE_0, aE_s, EK_r, EK_t, List.set_cons_zero, List.set_cons_succ, va_rf_s, va_rf_n, pC_1, pC_21, aC_1, aC_21, gC_self, gC_new, eI_, eLg_, eV_, eInc_, eN_, eS_, eJ_, eCl_, nI_add, nI_mul, nI_subI, nI_clampI, inb_t, nI_lt0, nI_0le, nI_m1, nI_m1', nI_ofNat, bI_01, b01_0, b01_1, bI_eq0, bI_eq1, bb_01, true_or, or_true, false_or, or_false, eq_self, Nat.reduceAdd, Nat.reduceMul, Nat.reduceSub, Nat.reduceLT, Nat.reduceLeDiff, Nat.reduceEqDiff, ↓reduceIte, and_true, true_and, and_self, Nat.add_zero, Nat.zero_add, not_false_eq_true, not_true_eq_false, faV_n, faV_s, m1_lt0, m1_0le, m1_eq0, m1_le, le_m1, m1_lt, lt_m1, nI_100k, nI_100, upd_e, upd_n, pC_pC, gC_ne', gC_old', nI_lt_t, nI_lt_f, nI_le_t, nI_le_f, nI_eq_t, nI_eq_f, nI_eq0_t, nI_eq0_f, nI_0lt_t, nI_0lt_f, nI_le0_t, nI_le0_f, nI_eq1_t, nI_eq1_f, s1]
  exact key
end
