set_option maxRecDepth 100000
/-! THE COMPONENT's reader: expressions as they are built -/
theorem ExA.mo {Z Z' : Nat → Prop} {σ : CM} (hz : ∀ b, Z b → Z' b) : ∀ {m m' a : Nat} {F : Law}, m ≤ m' → ExA Z σ m a F → ExA Z' σ m' a F
  | 0, _, _, _, _, h => h.elim
  | m + 1, 0, _, _, hm, _ => absurd hm (by omega)
  | m + 1, m' + 1, a, F, hm, h => by
    have hm' : m ≤ m' := by omega
    obtain ⟨hz0, h⟩ := h
    refine ⟨hz _ hz0, ?_⟩
    rcases h with ⟨v, h1, h2⟩ | ⟨w, h0, h1, h2⟩ | ⟨b, G, h1, h2, h3⟩ | ⟨b, l, G, n, ax, ex, kx, Lx, h1, h2, h3, h4, h5⟩
    · exact Or.inl ⟨v, h1, h2⟩
    · exact Or.inr (Or.inl ⟨w, h0, h1, h2⟩)
    · exact Or.inr (Or.inr (Or.inl ⟨b, G, h1, h2.mo hz hm', h3⟩))
    · obtain ⟨mc, d, cap, f, a1, a2, a3, a4, a5, a6⟩ := h3
      exact Or.inr (Or.inr (Or.inr ⟨b, l, G, n, ax, ex, kx, Lx, h1, h2.mo hz hm', ⟨mc, d, cap, f, a1, a2, a3, a4, hz _ a5, hz _ a6⟩, fun i hi => ⟨(h4 i hi).1, (h4 i hi).2.1, hz _ (h4 i hi).2.2.1, (h4 i hi).2.2.2.mo hz hm'⟩, h5⟩))
theorem chS_c {G : Law} {kx kx' : Nat → Nat} {Lx Lx' : Nat → Law} {φ : Nat → Int32} : ∀ {n : Nat}, (∀ i, i < n → kx' i = kx i ∧ Lx' i = Lx i) → chS G kx' Lx' φ n = chS G kx Lx φ n
  | 0, _ => rfl
  | n + 1, h => by
    show lkO (kx' n) (chS G kx' Lx' φ n) (Lx' n φ) = lkO (kx n) (chS G kx Lx φ n) (Lx n φ)
    rw [(h n (by omega)).1, (h n (by omega)).2, chS_c (fun i hi => h i (by omega))]
def rng (lo hi : Nat) : Nat → Prop := fun b => lo ≤ b ∧ b < hi
/-- a chain that is being built -/
def ChO (lo : Nat) (σ : CM) (m ea ca : Nat) (F : Law) (a : Nat) (Z : Nat → Prop) (la da n cap : Nat) (G : Law) (ax ex kx : Nat → Nat) (Lx : Nat → Law) : Prop := (∀ b, Z b → lo ≤ b ∧ b < σ.1 ∧ b ≠ ca ∧ b ≠ la ∧ b ≠ da) ∧ ((lo ≤ ca ∧ ca < σ.1) ∧ (lo ≤ la ∧ la < σ.1) ∧ (lo ≤ da ∧ da < σ.1) ∧ ca ≠ la ∧ ca ≠ da) ∧ (2 * n ≤ a ∧ 0 < cap ∧ cap ≤ 2 * n + 10) ∧ gC σ ca = some (.inl (20, [.ref ea, .ref la])) ∧ ALm σ la da n cap ax ∧ ExA Z σ m ea G ∧ (∀ i, i < n → kx i < 7 ∧ gC σ (ax i) = some (.inl (21 + kx i, [.ref (ex i)])) ∧ Z (ax i) ∧ ExA Z σ m (ex i) (Lx i)) ∧ F = fun φ => chS G kx Lx φ n
/-- something, a chain perhaps -/
def ChV (lo : Nat) (σ : CM) (m ea : Nat) (c : Value) (F : Law) (a : Nat) : Prop := (c = .null ∧ ExA (rng lo σ.1) σ m ea F) ∨ ∃ ca Z la da n cap G ax ex kx Lx, c = .ref ca ∧ ChO lo σ m ea ca F a Z la da n cap G ax ex kx Lx
section
variable {zs : Nat → Nat} {e : Nat} {σ σ' : CM} {P : CR → Prop} {lo m ea ca a la da n cap : Nat} {F G : Law} {Z : Nat → Prop} {ax ex kx : Nat → Nat} {Lx : Nat → Law}
/-- while something else is read -/
theorem ChO.fr {ra c k a' : Nat} (h : ChO lo σ m ea ca F a Z la da n cap G ax ex kx Lx) (hw : HW σ) (hF : Fr (fun b => b = ra) c k σ σ') (hr : ra < lo) (ha : a ≤ a') : ChO lo σ' m ea ca F a' (fun b => Z b ∨ (σ.1 ≤ b ∧ b < σ'.1)) la da n cap G ax ex kx Lx := by
  obtain ⟨h1, ⟨⟨c1, c2⟩, ⟨l1, l2⟩, ⟨d1, d2⟩, n1, n2⟩, ⟨k1, k2, k3⟩, g, A, X, Y, hf⟩ := h
  have hz : ∀ b, Z b → gC σ' b = gC σ b := fun b hb => hF.2.2.1 b (h1 b hb).2.1 (fun z => by have z : b = ra := z; have := (h1 b hb).1; omega)
  have hmo := hF.1.1
  refine ⟨fun b hb => ?_, ⟨⟨c1, by omega⟩, ⟨l1, by omega⟩, ⟨d1, by omega⟩, n1, n2⟩, ⟨by omega, k2, k3⟩, hF.g c2 (fun z => by have z : ca = ra := z; omega) g, A.fr hw hF (fun z => by have z : la = ra := z; omega) (fun z => by have z : da = ra := z; omega) (fun i hi z => by have z : ax i = ra := z; have := h1 _ (Y i hi).2.2.1; omega), (X.k hz).mo (fun _ => Or.inl) (Nat.le_refl _), fun i hi => ?_, hf⟩
  · rcases hb with hb | ⟨b1, b2⟩
    · obtain ⟨q1, q2, q3⟩ := h1 b hb
      exact ⟨q1, by omega, q3⟩
    · exact ⟨by omega, b2, by omega, by omega, by omega⟩
  · obtain ⟨y1, y2, y3, y4⟩ := Y i hi
    exact ⟨y1, (hz _ y3).trans y2, Or.inl y3, (y4.k hz).mo (fun _ => Or.inl) (Nat.le_refl _)⟩
theorem ChV.fr {ra c k a' : Nat} {v : Value} (h : ChV lo σ m ea v F a) (hw : HW σ) (hF : Fr (fun b => b = ra) c k σ σ') (hr : ra < lo) (ha : a ≤ a') : ChV lo σ' m ea v F a' := by
  rcases h with ⟨rfl, h⟩ | ⟨ca, Z, la, da, n, cap, G, ax, ex, kx, Lx, rfl, h⟩
  · refine Or.inl ⟨rfl, (h.k (fun b hb => hF.2.2.1 b hb.2 (fun z => by have z : b = ra := z; have := hb.1; omega))).mo (fun b hb => ⟨hb.1, ?_⟩) (Nat.le_refl _)⟩
    have := hF.1.1
    have := hb.2
    omega
  · exact Or.inr ⟨ca, _, la, da, n, cap, G, ax, ex, kx, Lx, rfl, h.fr hw hF hr ha⟩
theorem ChO.en (h : ChO lo σ m ea ca F a Z la da n cap G ax ex kx Lx) : ExA (rng lo σ.1) σ (m + 1) ca F := by
  obtain ⟨h1, ⟨⟨c1, c2⟩, ⟨l1, l2⟩, ⟨d1, d2⟩, n1, n2⟩, -, g, A, X, Y, hf⟩ := h
  have hz : ∀ b, Z b → rng lo σ.1 b := fun b hb => ⟨(h1 b hb).1, (h1 b hb).2.1⟩
  exact ⟨⟨c1, c2⟩, Or.inr (Or.inr (Or.inr ⟨ea, la, G, n, ax, ex, kx, Lx, g, X.mo hz (Nat.le_refl _), A.z ⟨l1, l2⟩ ⟨d1, d2⟩, fun i hi => ⟨(Y i hi).1, (Y i hi).2.1, hz _ (Y i hi).2.2.1, (Y i hi).2.2.2.mo hz (Nat.le_refl _)⟩, hf⟩))⟩
/-- a link more -/
theorem ChO.ad {σ1 : CM} {k x a' : Nat} {H : Law} (h : ChO lo σ m ea ca F a Z la da n cap G ax ex kx Lx) (hw : HW σ) (hk : k < 7) (hX : ExA Z σ m x H) (e1 : σ1 = aC σ 1 (.inl (21 + k, [.ref x]))) (hA : AddL σ1 σ' la da n cap ax σ.1) (ha : a + 2 ≤ a') : ∃ Z' da' cap' ax' ex' kx' Lx', ChO lo σ' m ea ca (fun φ => lkO k (F φ) (H φ)) a' Z' la da' (n + 1) cap' G ax' ex' kx' Lx' := by
  obtain ⟨h1, ⟨⟨c1, c2⟩, ⟨l1, l2⟩, ⟨d1, d2⟩, n1, n2⟩, ⟨k1, k2, k3⟩, g, A, X, Y, hf⟩ := h
  obtain ⟨d', cap', hF, A', hd⟩ := hA
  have s1 : σ1.1 = σ.1 + 1 := by rw [e1]; rfl
  have hmo := hF.1.1
  have go : ∀ b, b < σ.1 → b ≠ la → b ≠ da → gC σ' b = gC σ b := fun b hb hl hd => by
    rw [hF.2.2.1 b (by omega) (fun z => z.elim hl (fun z => hd z.1)), e1, gC_old' hb]
  have gn : gC σ' σ.1 = some (.inl (21 + k, [.ref x])) := by
    rw [hF.2.2.1 σ.1 (by omega) (fun z => z.elim (fun z => by omega) (fun z => by omega)), e1]
    exact gC_new
  have hz : ∀ b, Z b → gC σ' b = gC σ b := fun b hb => go b (h1 b hb).2.1 (h1 b hb).2.2.2.1 (h1 b hb).2.2.2.2
  refine ⟨fun b => Z b ∨ b = σ.1, d', cap', _, fun i => if i = n then x else ex i, fun i => if i = n then k else kx i, fun i => if i = n then H else Lx i, fun b hb => ?_, ⟨⟨c1, by omega⟩, ⟨l1, by omega⟩, ⟨?_, ?_⟩, n1, ?_⟩, ⟨by omega, ?_, ?_⟩, (go ca c2 n1 n2).trans g, A', (X.k hz).mo (fun _ => Or.inl) (Nat.le_refl _), fun i hi => ?_, ?_⟩
  · rcases hb with hb | hb
    · obtain ⟨q1, q2, q3, q4, q5⟩ := h1 b hb
      refine ⟨q1, by omega, q3, q4, ?_⟩
      rcases hd with hd | hd <;> omega
    · subst hb
      refine ⟨by omega, by omega, by omega, by omega, ?_⟩
      rcases hd with hd | hd <;> omega
  · rcases hd with hd | hd <;> omega
  · rcases hd with hd | hd <;> omega
  · rcases hd with hd | hd <;> omega
  · rcases hd with hd | hd <;> omega
  · rcases hd with hd | hd <;> omega
  · by_cases hi' : i = n
    · subst hi'
      simp only [if_true]
      exact ⟨hk, gn, Or.inr (by trivial), (hX.k hz).mo (fun _ => Or.inl) (Nat.le_refl _)⟩
    · simp only [if_neg hi']
      obtain ⟨y1, y2, y3, y4⟩ := Y i (by omega)
      exact ⟨y1, (hz _ y3).trans y2, Or.inl y3, (y4.k hz).mo (fun _ => Or.inl) (Nat.le_refl _)⟩
  · funext φ
    show lkO k (F φ) (H φ) = lkO (if n = n then k else kx n) (chS G (fun i => if i = n then k else kx i) (fun i => if i = n then H else Lx i) φ n) ((if n = n then H else Lx n) φ)
    rw [if_pos rfl, if_pos rfl, chS_c (kx := kx) (Lx := Lx) (fun i hi => ⟨if_neg (by omega), if_neg (by omega)⟩), hf]
/-- a new chain -/
theorem ChO.nw {Y : Nat → Prop} (hw : HW σ) (hX : ExA Y σ m ea F) (hY : ∀ b, Y b → lo ≤ b ∧ b < σ.1) (hl : lo ≤ σ.1) (hF : Fr (fun b => b = σ.1) 3 6 σ σ') (hs : σ'.1 = σ.1 + 3) (g : gC σ' σ.1 = some (.inl (20, [.ref ea, .ref (σ.1 + 1)]))) (A : ALm σ' (σ.1 + 1) (σ.1 + 2) 0 1 ax) : ChO lo σ' m ea σ.1 F a Y (σ.1 + 1) (σ.1 + 2) 0 1 F ax (fun _ => 0) (fun _ => 0) (fun _ => F) := by
  refine ⟨fun b hb => ?_, ⟨⟨by omega, by omega⟩, ⟨by omega, by omega⟩, ⟨by omega, by omega⟩, by omega, by omega⟩, ⟨by omega, by omega, by omega⟩, g, A, hX.k (fun b hb => hF.2.2.1 b (hY b hb).2 (fun z => by have z : b = σ.1 := z; have := (hY b hb).2; omega)), fun i hi => absurd hi (Nat.not_lt_zero i), rfl⟩
  have := hY b hb
  omega
/-- Chain's constructor -/
theorem c_chN {Y : Nat → Prop} (hw : HW σ) (hX : ExA Y σ m ea F) (hY : ∀ b, Y b → lo ≤ b ∧ b < σ.1) (hl : lo ≤ σ.1) (hP : ∀ σ', Fr (fun _ => False) 3 6 σ σ' → ChO lo σ' m ea σ.1 F a Y (σ.1 + 1) (σ.1 + 2) 0 1 F (fun _ => 0) (fun _ => 0) (fun _ => 0) (fun _ => F) → P (.inl none, σ')) : EC zs (Jc zs) (e + 3) cX31_init none 20 9 0 [some (.ref σ.1), some (.ref ea)] [] (aC σ 2 (.inl (20, [.null, .null]))) P := by
  have e1 : ∀ c, gC (aC σ 2 c) σ.1 = some c := fun c => gC_new
  obtain ⟨ce, hce⟩ : ∃ c, gC σ ea = some (.inl c) := by
    cases m with
    | zero => exact hX.elim
    | succ m => rcases hX.2 with ⟨v, h1, _⟩ | ⟨w, _, h1, _⟩ | ⟨b, G, h1, _⟩ | ⟨b, l, G, n, ax, ex, kx, Lx, h1, _⟩ <;> exact ⟨_, h1⟩
  have hel := hw _ _ hce
  simp (disch := first | omega | (simp only [aC_1, pC_1]; omega)) only [ec_aload_n (i := 0) dX31_init_0 rfl, ec_ci0 dX31_init_1 iN_20_1 ccp_20_1_99, ec_aload_n (i := 0) dX31_init_4 rfl, ec_new dX31_init_5 ncp_20_7 cSz_36 cDf_36, ec_dup dX31_init_8, ec_iconst (v := nI 1) dX31_init_9 rfl, ec_ci1 dX31_init_10 iN_20_9 ccp_20_9_99, ec_put dX31_init_13, pw_20_9_12_20, pn_20_9_12_20, ec_aload_n (i := 0) dX31_init_16 rfl, ec_aload_n (i := 1) dX31_init_17 rfl, ec_put dX31_init_18, pw_20_9_18_20, pn_20_9_18_20, ec_vret dX31_init_21, ec_aload_n (i := 0) dX27_init_0 rfl, ec_j11 dX27_init_1 iT_39_1, J_1, ec_vret dX27_init_4, cat1_i, cat1_r, cat1_u, catB_n, catB_i, catB_r, catB_l, catB_u, lg_0, lg_s, ldEI_i, ldEL_l, ldEA_r, ldEA_n, lin_0, lin_s, ls1_0, ls1_1, ls1_s, ls2_0, ls2_1, ls2_s, lcl_i, lcl_r, lcl_l, lcl_u, lcl_n, lent_i, lent_r, lent_l, lent_u, lent_0, lent_s, Option.toList_some, Option.toList_none, List.cons_append, List.nil_append, Nat.reduceAdd, true_and, vin_0, vin_s, aE_0, aE_s, EK_r, EK_t, List.set_cons_zero, List.set_cons_succ, va_rf_s, va_rf_n, pC_1, pC_21, aC_1, aC_21, gC_self, gC_new, eI_, eLg_, eV_, eInc_, eN_, eS_, eJ_, eCl_, nI_add, nI_mul, nI_subI, nI_clampI, inb_t, nI_lt0, nI_0le, nI_m1, nI_m1', nI_ofNat, bI_01, b01_0, b01_1, bI_eq0, bI_eq1, bb_01, true_or, or_true, false_or, or_false, eq_self, Nat.reduceAdd, Nat.reduceMul, Nat.reduceSub, Nat.reduceLT, Nat.reduceLeDiff, Nat.reduceEqDiff, ↓reduceIte, and_true, true_and, and_self, Nat.add_zero, Nat.zero_add, not_false_eq_true, not_true_eq_false, faV_n, faV_s, m1_lt0, m1_0le, m1_eq0, m1_le, le_m1, m1_lt, lt_m1, nI_100k, nI_100, upd_e, upd_n, pC_pC, gC_ne', gC_old', nI_lt_t, nI_lt_f, nI_le_t, nI_le_f, nI_eq_t, nI_eq_f, nI_eq0_t, nI_eq0_f, nI_0lt_t, nI_0lt_f, nI_le0_t, nI_le0_f, nI_eq1_t, nI_eq1_f, gC_oldn, e1]
  refine c_newk (σ := aC σ 2 (.inl (20, [.null, .null]))) (e := e) (k := 1) (by omega) (by omega) hw.aC (fun σ2 F2 s2 A2 => ?_)
  have g2 : gC σ2 σ.1 = some (.inl (20, [.null, .null])) := F2.g (by rw [aC_1]; omega) (fun z => z) gC_new
  have s2' : σ2.1 = σ.1 + 3 := by rw [s2, aC_1]
  have A2 : ALm σ2 (σ.1 + 1) (σ.1 + 2) 0 1 (fun _ => 0) := A2
  have F1 : Fr (fun _ => False) 1 2 σ (aC σ 2 (.inl (20, [.null, .null]))) := ⟨⟨by rw [aC_1]; omega, by rw [aC_1]; omega⟩, ⟨by rw [aC_21]; omega, by rw [aC_21]; omega⟩, fun b hb _ => gC_old' hb, hw.aC⟩
  have S1 : Fs (fun b => b = σ.1) σ2 (pC σ2 σ.1 (.inl (20, [.ref ea, .ref (σ.1 + 1)]))) := Fs.rf.p g2 rfl
  have F3 := (F1.tn F2 (fun b z => z.elim)).n S1 (fun b hb => Or.inl (by have hb : b = σ.1 := hb; omega))
  have fin := hP _ (F3.sub (fun _ _ z => z) (by omega) (by omega)) (ChO.nw hw hX hY hl (F3.sub (fun _ _ z => z.elim) (by omega) (by omega)) (by rw [pC_1]; exact s2') gC_self (A2.fr F2.2.2.2 (S1.fr F2.2.2.2) (fun z => by have z : σ.1 + 1 = σ.1 := z; omega) (fun z => by have z : σ.1 + 2 = σ.1 := z; omega) (fun i hi => absurd hi (Nat.not_lt_zero i))))
  simp (disch := first | omega | (simp only [aC_1, pC_1]; omega)) only [ec_ci1 dX31_init_10 iN_20_9 ccp_20_9_99, ec_put dX31_init_13, pw_20_9_12_20, pn_20_9_12_20, ec_aload_n (i := 0) dX31_init_16 rfl, ec_aload_n (i := 1) dX31_init_17 rfl, ec_put dX31_init_18, pw_20_9_18_20, pn_20_9_18_20, ec_vret dX31_init_21, cat1_i, cat1_r, cat1_u, catB_n, catB_i, catB_r, catB_l, catB_u, lg_0, lg_s, ldEI_i, ldEL_l, ldEA_r, ldEA_n, lin_0, lin_s, ls1_0, ls1_1, ls1_s, ls2_0, ls2_1, ls2_s, lcl_i, lcl_r, lcl_l, lcl_u, lcl_n, lent_i, lent_r, lent_l, lent_u, lent_0, lent_s, Option.toList_some, Option.toList_none, List.cons_append, List.nil_append, Nat.reduceAdd, true_and, vin_0, vin_s, aE_0, aE_s, EK_r, EK_t, List.set_cons_zero, List.set_cons_succ, va_rf_s, va_rf_n, pC_1, pC_21, aC_1, aC_21, gC_self, gC_new, eI_, eLg_, eV_, eInc_, eN_, eS_, eJ_, eCl_, nI_add, nI_mul, nI_subI, nI_clampI, inb_t, nI_lt0, nI_0le, nI_m1, nI_m1', nI_ofNat, bI_01, b01_0, b01_1, bI_eq0, bI_eq1, bb_01, true_or, or_true, false_or, or_false, eq_self, Nat.reduceAdd, Nat.reduceMul, Nat.reduceSub, Nat.reduceLT, Nat.reduceLeDiff, Nat.reduceEqDiff, ↓reduceIte, and_true, true_and, and_self, Nat.add_zero, Nat.zero_add, not_false_eq_true, not_true_eq_false, faV_n, faV_s, m1_lt0, m1_0le, m1_eq0, m1_le, le_m1, m1_lt, lt_m1, nI_100k, nI_100, upd_e, upd_n, pC_pC, gC_ne', gC_old', nI_lt_t, nI_lt_f, nI_le_t, nI_le_f, nI_eq_t, nI_eq_f, nI_eq0_t, nI_eq0_f, nI_0lt_t, nI_0lt_f, nI_le0_t, nI_le0_f, nI_eq1_t, nI_eq1_f, g2]
  exact fin
/-- something that was begun, and what lies behind p -/
def ChP (lo p : Nat) (σ : CM) (m ea : Nat) (c : Value) (F : Law) (a : Nat) : Prop := (c = .null ∧ ExA (rng lo σ.1) σ m ea F) ∨ ∃ ca Z la da n cap G ax ex kx Lx, c = .ref ca ∧ ChO lo σ m ea ca F a Z la da n cap G ax ex kx Lx ∧ ∀ b, p ≤ b → b < σ.1 → Z b
theorem ChV.pr {ra c k a' : Nat} {v : Value} (h : ChV lo σ m ea v F a) (hw : HW σ) (hF : Fr (fun b => b = ra) c k σ σ') (hr : ra < lo) (ha : a ≤ a') : ChP lo σ.1 σ' m ea v F a' := by
  rcases h with ⟨rfl, h⟩ | ⟨ca, Z, la, da, n, cap, G, ax, ex, kx, Lx, rfl, h⟩
  · refine Or.inl ⟨rfl, (h.k (fun b hb => hF.2.2.1 b hb.2 (fun z => by have z : b = ra := z; have := hb.1; omega))).mo (fun b hb => ⟨hb.1, ?_⟩) (Nat.le_refl _)⟩
    have := hF.1.1
    have := hb.2
    omega
  · exact Or.inr ⟨ca, _, la, da, n, cap, G, ax, ex, kx, Lx, rfl, h.fr hw hF hr ha, fun b h1 h2 => Or.inr ⟨h1, h2⟩⟩
theorem c_chain {c : Value} {p : Nat} (hw : HW σ) (hl : lo ≤ σ.1) (hp : lo ≤ p) (h : ChP lo p σ m ea c F a) (hP : ∀ σ' ca Z la da n cap G ax ex kx Lx, Fr (fun _ => False) 3 6 σ σ' → ChO lo σ' m ea ca F a Z la da n cap G ax ex kx Lx → (∀ b, p ≤ b → b < σ.1 → Z b) → P (.inl (some (.ref ca)), σ')) : EC zs (Jc zs) (e + 4) cX2_chain (some (.object "KnowLocks$Chain")) 1 0 0 [some (.ref ea), some c] [] σ P := by
  rcases h with ⟨rfl, h⟩ | ⟨ca, Z, la, da, n, cap, G, ax, ex, kx, Lx, rfl, h, hz⟩
  · simp (disch := omega) only [ec_aload_n (i := 1) dX2_chain_0 rfl, ec_ifnonnull (t := 15) dX2_chain_1 rfl, nuE_r, nuE_n, ec_new dX2_chain_4 ncp_1_341 cSz_20 cDf_20, ec_dup dX2_chain_7, ec_aload_n (i := 0) dX2_chain_8 rfl, ec_ci1 dX2_chain_9 iN_1_343 ccp_1_343_99, ec_goto (t := 16) dX2_chain_12 rfl, ec_aload_n (i := 1) dX2_chain_15 rfl, ec_aret dX2_chain_16, ec_aretN dX2_chain_16, ec_aretA dX2_chain_16, cat1_i, cat1_r, cat1_u, catB_n, catB_i, catB_r, catB_l, catB_u, lg_0, lg_s, ldEI_i, ldEL_l, ldEA_r, ldEA_n, lin_0, lin_s, ls1_0, ls1_1, ls1_s, ls2_0, ls2_1, ls2_s, lcl_i, lcl_r, lcl_l, lcl_u, lcl_n, lent_i, lent_r, lent_l, lent_u, lent_0, lent_s, Option.toList_some, Option.toList_none, List.cons_append, List.nil_append, Nat.reduceAdd, true_and, vin_0, vin_s, aE_0, aE_s, EK_r, EK_t, List.set_cons_zero, List.set_cons_succ, va_rf_s, va_rf_n, pC_1, pC_21, aC_1, aC_21, gC_self, gC_new, eI_, eLg_, eV_, eInc_, eN_, eS_, eJ_, eCl_, nI_add, nI_mul, nI_subI, nI_clampI, inb_t, nI_lt0, nI_0le, nI_m1, nI_m1', nI_ofNat, bI_01, b01_0, b01_1, bI_eq0, bI_eq1, bb_01, true_or, or_true, false_or, or_false, eq_self, Nat.reduceAdd, Nat.reduceMul, Nat.reduceSub, Nat.reduceLT, Nat.reduceLeDiff, Nat.reduceEqDiff, ↓reduceIte, and_true, true_and, and_self, Nat.add_zero, Nat.zero_add, not_false_eq_true, not_true_eq_false, faV_n, faV_s, m1_lt0, m1_0le, m1_eq0, m1_le, le_m1, m1_lt, lt_m1, nI_100k, nI_100, upd_e, upd_n, pC_pC, gC_ne', gC_old', nI_lt_t, nI_lt_f, nI_le_t, nI_le_f, nI_eq_t, nI_eq_f, nI_eq0_t, nI_eq0_f, nI_0lt_t, nI_0lt_f, nI_le0_t, nI_le0_f, nI_eq1_t, nI_eq1_f]
    refine c_chN (a := a) (lo := lo) hw h (fun b hb => hb) hl (fun σ' F1 O1 => ?_)
    have fin := hP _ _ _ _ _ _ _ _ _ _ _ _ F1 O1 (fun b h1 h2 => ⟨by omega, h2⟩)
    simp (disch := omega) only [ec_goto (t := 16) dX2_chain_12 rfl, ec_aload_n (i := 1) dX2_chain_15 rfl, ec_aret dX2_chain_16, ec_aretN dX2_chain_16, ec_aretA dX2_chain_16, cat1_i, cat1_r, cat1_u, catB_n, catB_i, catB_r, catB_l, catB_u, lg_0, lg_s, ldEI_i, ldEL_l, ldEA_r, ldEA_n, lin_0, lin_s, ls1_0, ls1_1, ls1_s, ls2_0, ls2_1, ls2_s, lcl_i, lcl_r, lcl_l, lcl_u, lcl_n, lent_i, lent_r, lent_l, lent_u, lent_0, lent_s, Option.toList_some, Option.toList_none, List.cons_append, List.nil_append, Nat.reduceAdd, true_and, vin_0, vin_s, aE_0, aE_s, EK_r, EK_t, List.set_cons_zero, List.set_cons_succ, va_rf_s, va_rf_n, pC_1, pC_21, aC_1, aC_21, gC_self, gC_new, eI_, eLg_, eV_, eInc_, eN_, eS_, eJ_, eCl_, nI_add, nI_mul, nI_subI, nI_clampI, inb_t, nI_lt0, nI_0le, nI_m1, nI_m1', nI_ofNat, bI_01, b01_0, b01_1, bI_eq0, bI_eq1, bb_01, true_or, or_true, false_or, or_false, eq_self, Nat.reduceAdd, Nat.reduceMul, Nat.reduceSub, Nat.reduceLT, Nat.reduceLeDiff, Nat.reduceEqDiff, ↓reduceIte, and_true, true_and, and_self, Nat.add_zero, Nat.zero_add, not_false_eq_true, not_true_eq_false, faV_n, faV_s, m1_lt0, m1_0le, m1_eq0, m1_le, le_m1, m1_lt, lt_m1, nI_100k, nI_100, upd_e, upd_n, pC_pC, gC_ne', gC_old', nI_lt_t, nI_lt_f, nI_le_t, nI_le_f, nI_eq_t, nI_eq_f, nI_eq0_t, nI_eq0_f, nI_0lt_t, nI_0lt_f, nI_le0_t, nI_le0_f, nI_eq1_t, nI_eq1_f]
    exact fin
  · have fin := hP _ _ _ _ _ _ _ _ _ _ _ _ ((Fr.rf hw).sub (fun _ _ z => z) (by omega) (by omega)) h hz
    simp (disch := omega) only [ec_aload_n (i := 1) dX2_chain_0 rfl, ec_ifnonnull (t := 15) dX2_chain_1 rfl, nuE_r, nuE_n, ec_new dX2_chain_4 ncp_1_341 cSz_20 cDf_20, ec_dup dX2_chain_7, ec_aload_n (i := 0) dX2_chain_8 rfl, ec_ci1 dX2_chain_9 iN_1_343 ccp_1_343_99, ec_goto (t := 16) dX2_chain_12 rfl, ec_aload_n (i := 1) dX2_chain_15 rfl, ec_aret dX2_chain_16, ec_aretN dX2_chain_16, ec_aretA dX2_chain_16, cat1_i, cat1_r, cat1_u, catB_n, catB_i, catB_r, catB_l, catB_u, lg_0, lg_s, ldEI_i, ldEL_l, ldEA_r, ldEA_n, lin_0, lin_s, ls1_0, ls1_1, ls1_s, ls2_0, ls2_1, ls2_s, lcl_i, lcl_r, lcl_l, lcl_u, lcl_n, lent_i, lent_r, lent_l, lent_u, lent_0, lent_s, Option.toList_some, Option.toList_none, List.cons_append, List.nil_append, Nat.reduceAdd, true_and, vin_0, vin_s, aE_0, aE_s, EK_r, EK_t, List.set_cons_zero, List.set_cons_succ, va_rf_s, va_rf_n, pC_1, pC_21, aC_1, aC_21, gC_self, gC_new, eI_, eLg_, eV_, eInc_, eN_, eS_, eJ_, eCl_, nI_add, nI_mul, nI_subI, nI_clampI, inb_t, nI_lt0, nI_0le, nI_m1, nI_m1', nI_ofNat, bI_01, b01_0, b01_1, bI_eq0, bI_eq1, bb_01, true_or, or_true, false_or, or_false, eq_self, Nat.reduceAdd, Nat.reduceMul, Nat.reduceSub, Nat.reduceLT, Nat.reduceLeDiff, Nat.reduceEqDiff, ↓reduceIte, and_true, true_and, and_self, Nat.add_zero, Nat.zero_add, not_false_eq_true, not_true_eq_false, faV_n, faV_s, m1_lt0, m1_0le, m1_eq0, m1_le, le_m1, m1_lt, lt_m1, nI_100k, nI_100, upd_e, upd_n, pC_pC, gC_ne', gC_old', nI_lt_t, nI_lt_f, nI_le_t, nI_le_f, nI_eq_t, nI_eq_f, nI_eq0_t, nI_eq0_f, nI_0lt_t, nI_0lt_f, nI_le0_t, nI_le0_f, nI_eq1_t, nI_eq1_f]
    exact fin
/-- the link is added -/
theorem c_chA {k x a' : Nat} {H : Law} (h : ChO lo σ m ea ca F a Z la da n cap G ax ex kx Lx) (hw : HW σ) (hk : k < 7) (hX : ExA Z σ m x H) (ha : a + 2 ≤ a') (ha' : a' ≤ 1001) (hP : ∀ σ', Fr (fun b => lo ≤ b) 2 2060 σ σ' → ChV lo σ' m ea (.ref ca) (fun φ => lkO k (F φ) (H φ)) a' → P (.inl (some (.int (nI 1))), σ')) : EC zs (Jc zs) (e + 4) cJ2_add (some .boolean) 36 0 0 [some (.ref la), some (.ref σ.1)] [] (aC σ 1 (.inl (21 + k, [.ref x]))) P := by
  obtain ⟨h1, ⟨⟨c1, c2⟩, ⟨l1, l2⟩, ⟨d1, d2⟩, n1, n2⟩, ⟨k1, k2, k3⟩, g, A, X, Y, hf⟩ := id h
  have F1 : Fr (fun _ => False) 1 1 σ (aC σ 1 (.inl (21 + k, [.ref x]))) := ⟨⟨by rw [aC_1]; omega, by rw [aC_1]; omega⟩, ⟨by rw [aC_21]; omega, by rw [aC_21]; omega⟩, fun b hb _ => gC_old' hb, hw.aC⟩
  refine c_add (A.fr hw F1 (fun z => z) (fun z => z) (fun _ _ z => z)) (by omega) (Or.inl ⟨_, gC_new⟩) hw.aC (fun z => by omega) ⟨by omega, by omega⟩ (fun i hi => ?_) (fun σ' hA => ?_)
  · obtain ⟨q1, q2, q3, q4, q5⟩ := h1 _ (Y i hi).2.2.1
    exact ⟨q4, q5⟩
  · obtain ⟨Z', da', cap', ax', ex', kx', Lx', h'⟩ := h.ad hw hk hX rfl hA ha
    obtain ⟨d', cap'', F2, -⟩ := hA
    refine hP σ' (((F1.sub (S' := fun b => lo ≤ b) (fun _ _ z => z.elim) (Nat.le_refl _) (Nat.le_refl _)).tn F2 (fun b hb => ?_)).sub (fun _ _ z => z) (by omega) (by omega)) (Or.inr ⟨ca, Z', la, da', n + 1, cap', G, ax', ex', kx', Lx', rfl, h'⟩)
    rcases hb with hb | hb
    · exact Or.inr (by rw [hb]; exact l1)
    · exact Or.inr (by rw [hb.1]; exact d1)
end
