set_option maxRecDepth 100000
/-! THE COMPONENT's reader: a quarter -/
theorem tls_ln {T : Nat → Nat} {n : Nat} : ∀ (N p : Nat), n - p < N → p ≤ n → (tls T n p).length ≤ n - p + 1
  | 0, p, h, _ => absurd h (Nat.not_lt_zero _)
  | N + 1, p, h, hp => by
    rw [tls_u hp]
    have te := tpK_end (T := T) hp
    split
    · show 1 ≤ n - p + 1
      omega
    · rename_i hne
      rcases te.1 with ⟨a, _⟩ | ⟨_, b⟩
      · exact absurd a hne
      · have := tls_ln (T := T) N (tpK T n p).2 (by omega) te.2
        show (tls T n (tpK T n p).2).length + 1 ≤ n - p + 1
        omega
/-- what the reading of a quarter leaves, from its begin on -/
def QrF (zs : Nat → Nat) (all : List Tk) (ra : Nat) (C : Nat → Nat) (lo : Nat) (σ : CM) (n : Nat) (x : Except Nat QT) (r : CR) : Prop := match x with
  | .error k => ErR zs σ ra C (nI 0) (CuS ra C) (8 * n + 19) (2100 * n + 2144) k r ∧ CuA r.2 C []
  | .ok q => ∃ a' σ' w g fa dp, r = (.inl (some (.ref lo)), σ') ∧ RdE zs σ' ra C all (.ref lo) (bI g) fa (nI 0) a' dp ∧ Fr (CuS ra C) (8 * n + 19) (2100 * n + 2144) σ σ' ∧ DrO zs w lo ra σ' q a' ∧ QSb q
section
variable {zs : Nat → Nat} {e : Nat} {σ : CM} {P : CR → Prop} {ra : Nat} {C : Nat → Nat} {dr : Value} {hg : Int32} {fa : Nat} {T : TP} {pt dp : Nat}
/-- its arrays stand -/
theorem RdE.cu {σ' : CM} {all : List Tk} {tp : Int32} {a lo c m : Nat} (hE : RdE zs σ ra C all dr hg fa tp a dp) (hw : HW σ) (hF : Fr (fun b => b = ra ∨ lo ≤ b) c m σ σ') (hC : ∀ k, k < 10 → k ≠ 6 → C k < lo) : CuA σ' C [] := by
  obtain ⟨-, ⟨⟨F, f1, -⟩, ⟨V, v1, -⟩, ⟨G, g1, -⟩⟩, -⟩ := id hE.2.1
  have k : ∀ j, j < 10 → j ≠ 6 → ∀ c, gC σ (C j) = some c → gC σ' (C j) = some c := fun j hj h6 c hc => hF.g (hw _ _ hc) (fun z => by
    rcases z with z | z
    · exact hE.nk hj h6 z
    · have := hC j hj h6; omega) hc
  exact ⟨F, V, G, ⟨k 7 (by omega) (by omega) _ f1, k 8 (by omega) (by omega) _ v1, k 9 (by omega) (by omega) _ g1⟩, fun i hi => absurd hi (Nat.not_lt_zero i)⟩
theorem c_rquarter (hZ : ZS zs) (hw : HW σ) (hT : TOK T) (hLC : LgC zs σ) (hcb : ∀ i, i < 256 → zs (200 + i) < σ.1) (hR : RdT σ ra C dr hg fa (nI pt) (nI dp) T) (hK : RdK zs σ C) (hA : CuA σ C []) (h79 : C 7 ≠ C 9) (hP : ∀ r, QrF zs (tls T.2 T.1 0) ra C σ.1 σ T.1 (pQr (tls T.2 T.1 0)) r → P r) : EC zs (Jc zs) (e + 41) cX2_quarter (some (.object "KnowLocks$Quarter")) 1 0 0 [some (.ref ra)] [] σ P := by
  have h0 := hR.1
  have hrl := hw _ _ h0
  have len := tls_ln (T := T.2) (n := T.1) (T.1 + 1) 0 (by omega) (by omega)
  have hB : TkB (tls T.2 T.1 0) := TkB_tlS
  simp (disch := omega) only [ec_aload_n (i := 0) dX2_quarter_0 rfl, ec_cv0 dX2_quarter_1 iN_1_185 cna_1_185, vcE_o ccp_1_185_1, cat1_i, cat1_r, cat1_u, catB_n, catB_i, catB_r, catB_l, catB_u, lg_0, lg_s, ldEI_i, ldEL_l, ldEA_r, ldEA_n, lin_0, lin_s, ls1_0, ls1_1, ls1_s, ls2_0, ls2_1, ls2_s, lcl_i, lcl_r, lcl_l, lcl_u, lcl_n, lent_i, lent_r, lent_l, lent_u, lent_0, lent_s, Option.toList_some, Option.toList_none, List.cons_append, List.nil_append, Nat.reduceAdd, true_and, vin_0, vin_s, aE_0, aE_s, EK_r, EK_t, List.set_cons_zero, List.set_cons_succ, va_rf_s, va_rf_n, pC_1, pC_21, aC_1, aC_21, gC_self, gC_new, eI_, eLg_, eV_, eInc_, eN_, eS_, eJ_, eCl_, nI_add, nI_mul, nI_subI, nI_clampI, inb_t, nI_lt0, nI_0le, nI_m1, nI_m1', nI_ofNat, bI_01, b01_0, b01_1, bI_eq0, bI_eq1, bb_01, true_or, or_true, false_or, or_false, eq_self, Nat.reduceAdd, Nat.reduceMul, Nat.reduceSub, Nat.reduceLT, Nat.reduceLeDiff, Nat.reduceEqDiff, ↓reduceIte, and_true, true_and, and_self, Nat.add_zero, Nat.zero_add, not_false_eq_true, not_true_eq_false, faV_n, faV_s, m1_lt0, m1_0le, m1_eq0, m1_le, le_m1, m1_lt, lt_m1, nI_100k, nI_100, upd_e, upd_n, pC_pC, gC_ne', gC_old', nI_lt_t, nI_lt_f, nI_le_t, nI_le_f, nI_eq_t, nI_eq_f, nI_eq0_t, nI_eq0_f, nI_0lt_t, nI_0lt_f, nI_le0_t, nI_le0_f, nI_eq1_t, nI_eq1_f, h0]
  refine c_cut (e := e + 38) hZ hT hR hK hA h79 (fun σ1 S1 E1 => ?_)
  have w1 := S1.hw hw
  have s1 : σ1.1 = σ.1 := S1.1
  have h1 := E1.1
  have LC1 : LgC zs σ1 := fun v v1 v2 => by
    have g0 := hLC v v1 v2
    refine S1.g (fun z => ?_) g0
    obtain ⟨F, V, G, ⟨g7, g8, g9⟩, -⟩ := id hA
    rcases z with z | z | z | z
    · rw [z, h0] at g0; cases g0
    · rw [z, g7] at g0; cases g0
    · rw [z, g8] at g0; cases g0
    · rw [z, g9] at g0; cases g0
  have hC1 : ∀ k, k < 10 → k ≠ 6 → C k < σ.1 := fun k hk h6 => by rw [← s1]; exact E1.2.1.lt w1 hk h6
  simp (disch := omega) only [ec_aload_n (i := 0) dX2_quarter_4 rfl, ec_new dX2_quarter_5 ncp_1_188 cSz_3 cDf_3, ec_dup dX2_quarter_8, ec_ci0 dX2_quarter_9 iN_1_190 ccp_1_190_99, cat1_i, cat1_r, cat1_u, catB_n, catB_i, catB_r, catB_l, catB_u, lg_0, lg_s, ldEI_i, ldEL_l, ldEA_r, ldEA_n, lin_0, lin_s, ls1_0, ls1_1, ls1_s, ls2_0, ls2_1, ls2_s, lcl_i, lcl_r, lcl_l, lcl_u, lcl_n, lent_i, lent_r, lent_l, lent_u, lent_0, lent_s, Option.toList_some, Option.toList_none, List.cons_append, List.nil_append, Nat.reduceAdd, true_and, vin_0, vin_s, aE_0, aE_s, EK_r, EK_t, List.set_cons_zero, List.set_cons_succ, va_rf_s, va_rf_n, pC_1, pC_21, aC_1, aC_21, gC_self, gC_new, eI_, eLg_, eV_, eInc_, eN_, eS_, eJ_, eCl_, nI_add, nI_mul, nI_subI, nI_clampI, inb_t, nI_lt0, nI_0le, nI_m1, nI_m1', nI_ofNat, bI_01, b01_0, b01_1, bI_eq0, bI_eq1, bb_01, true_or, or_true, false_or, or_false, eq_self, Nat.reduceAdd, Nat.reduceMul, Nat.reduceSub, Nat.reduceLT, Nat.reduceLeDiff, Nat.reduceEqDiff, ↓reduceIte, and_true, true_and, and_self, Nat.add_zero, Nat.zero_add, not_false_eq_true, not_true_eq_false, faV_n, faV_s, m1_lt0, m1_0le, m1_eq0, m1_le, le_m1, m1_lt, lt_m1, nI_100k, nI_100, upd_e, upd_n, pC_pC, gC_ne', gC_old', nI_lt_t, nI_lt_f, nI_le_t, nI_le_f, nI_eq_t, nI_eq_f, nI_eq0_t, nI_eq0_f, nI_0lt_t, nI_0lt_f, nI_le0_t, nI_le0_f, nI_eq1_t, nI_eq1_f]
  refine c_qInit (σ := σ1) (ra := ra) (a := 0) (e := e + 37) w1 (by omega) (fun σ2 F2 D2 => ?_)
  have w2 := F2.2.2.2
  have E2 := E1.fr w1 F2 (fun z => z) (fun _ _ _ z => z)
  have h2 := E2.1
  unfold rdF at h2
  have h1 := E1.1
  rw [s1] at D2
  have E3 : RdE zs (rdP σ2 ra C (.ref σ.1) (bI false) fa (nI 0) 0 dp) ra C (tls T.2 T.1 0) (.ref σ.1) (bI false) fa (nI 0) 0 dp := E2.rp E2.2.2
  have S3 : Fs (fun b => b = ra) σ2 (rdP σ2 ra C (.ref σ.1) (bI false) fa (nI 0) 0 dp) := E2.fs (S := fun b => b = ra) rfl
  have D3 : DrO zs (wQ σ.1 ra) σ.1 ra (rdP σ2 ra C (.ref σ.1) (bI false) fa (nI 0) 0 dp) qP 0 := D2.k (fun b c hb h9 => gC_ne (fun y => by rw [y] at h9; exact h9 (if_pos rfl))) (Nat.le_refl _) (Nat.le_refl _)
  have F03 : Fr (CuS ra C) 11 44 σ (rdP σ2 ra C (.ref σ.1) (bI false) fa (nI 0) 0 dp) := ((((S1.fr hw).tn F2 (fun b z => z.elim)).n S3 (fun b z => Or.inr (Or.inl z))).sub (fun _ _ z => z) (by omega) (by omega))
  have LC3 : LgC zs (rdP σ2 ra C (.ref σ.1) (bI false) fa (nI 0) 0 dp) := fun v v1 v2 => by
    have g0 := LC1 v v1 v2
    rw [show gC (rdP σ2 ra C (.ref σ.1) (bI false) fa (nI 0) 0 dp) (zs (200 + (v + 128).toNatClampNeg)) = gC σ2 (zs (200 + (v + 128).toNatClampNeg)) from gC_ne (fun z => by rw [z, h1] at g0; cases g0)]
    exact F2.g (w1 _ _ g0) (fun z => z) g0
  have key := c_qr_lo (e := e) (P := P) hZ hB hcb hC1 (tls T.2 T.1 0).length _ 0 qP false _ fa dp (by omega) (S3.hw w2) LC3 E3 D3 (fun k hk => absurd hk (Nat.not_lt_zero k)) (fun r hr => hP r (by
    unfold pQr
    rw [List.drop_zero] at hr
    cases hx : pQrs (tls T.2 T.1 0).length qP false (tls T.2 T.1 0) with
    | error k =>
      rw [hx] at hr
      refine ⟨ErR.tr F03 hr (fun b z => by rcases z with z | z; exact Or.inr (Or.inl z); exact Or.inl z) (by omega) (by omega), ?_⟩
      obtain ⟨x', σ', hxe, hF, -⟩ := hr
      rw [hxe]
      exact E3.cu (S3.hw w2) hF hC1
    | ok q =>
      rw [hx] at hr
      obtain ⟨a', σ', w', g', fa', dp', h1, h2, h3, h4⟩ := hr
      exact ⟨a', σ', w', g', fa', dp', h1, h2, (F03.tn h3 (fun b z => by rcases z with z | z; exact Or.inr (Or.inl z); exact Or.inl z)).sub (fun _ _ z => z) (by omega) (by omega), h4⟩))
  unfold rdP rdF at key
  simp (disch := omega) only [ec_put dX2_quarter_12, pw_1_0_191_1, pn_1_0_191_1, ec_aload_n (i := 0) dX2_quarter_15 rfl, ec_iconst (v := nI 0) dX2_quarter_16 rfl, ec_put dX2_quarter_17, pw_1_0_195_1, cat1_i, cat1_r, cat1_u, catB_n, catB_i, catB_r, catB_l, catB_u, lg_0, lg_s, ldEI_i, ldEL_l, ldEA_r, ldEA_n, lin_0, lin_s, ls1_0, ls1_1, ls1_s, ls2_0, ls2_1, ls2_s, lcl_i, lcl_r, lcl_l, lcl_u, lcl_n, lent_i, lent_r, lent_l, lent_u, lent_0, lent_s, Option.toList_some, Option.toList_none, List.cons_append, List.nil_append, Nat.reduceAdd, true_and, vin_0, vin_s, aE_0, aE_s, EK_r, EK_t, List.set_cons_zero, List.set_cons_succ, va_rf_s, va_rf_n, pC_1, pC_21, aC_1, aC_21, gC_self, gC_new, eI_, eLg_, eV_, eInc_, eN_, eS_, eJ_, eCl_, nI_add, nI_mul, nI_subI, nI_clampI, inb_t, nI_lt0, nI_0le, nI_m1, nI_m1', nI_ofNat, bI_01, b01_0, b01_1, bI_eq0, bI_eq1, bb_01, true_or, or_true, false_or, or_false, eq_self, Nat.reduceAdd, Nat.reduceMul, Nat.reduceSub, Nat.reduceLT, Nat.reduceLeDiff, Nat.reduceEqDiff, ↓reduceIte, and_true, true_and, and_self, Nat.add_zero, Nat.zero_add, not_false_eq_true, not_true_eq_false, faV_n, faV_s, m1_lt0, m1_0le, m1_eq0, m1_le, le_m1, m1_lt, lt_m1, nI_100k, nI_100, upd_e, upd_n, pC_pC, gC_ne', gC_old', nI_lt_t, nI_lt_f, nI_le_t, nI_le_f, nI_eq_t, nI_eq_f, nI_eq0_t, nI_eq0_f, nI_0lt_t, nI_0lt_f, nI_le0_t, nI_le0_f, nI_eq1_t, nI_eq1_f, h2, s1]
  exact key
end
