set_option maxRecDepth 100000
/-! THE MODEL holds a quarter -/
abbrev LW : List Nat := [22, 23, 24, 25, 26, 27, 28, 29, 30]
abbrev LF : List Nat := [22, 23, 24, 25, 26, 27, 28, 29, 30, 31, 37]
/-- a line of codes means a law: n facts, the i-th stands at ix i -/
def LawM (mb : Nat) (M : MM) (ln n : Nat) (ix : Nat → Nat) (o : Option Law) : Prop := match o with
  | none => rI M 13 ln = rI M 14 ln
  | some F => rI M 13 ln < rI M 14 ln ∧ ∀ (M' : MM) (e : Nat) (P : MR → Prop) (φ : Nat → Int32), rI M' 13 = rI M 13 → rI M' 14 = rI M 14 → rI M' 15 = rI M 15 → (∀ i, i < n → φ i = rI M' 31 (ix i)) → (∀ M'', Kp LW [] M' M'' → P (some (.int (F φ)), M'')) → EM mb (e + 2) cX19_worked (some .int) 0 [some (.ref mb), some (.int (nI ln)), none, none, none, none] [] M' P
def ixL (i : Nat) : Nat := i + 1
def ixE (i : Nat) : Nat := if i < 2 then i + 1 else i + 5
def QM (mb : Nat) (M : MM) (q : QT) : Prop := (rI M 2 0 = nI (qH q) ∧ rI M 2 1 = nI (qD q) ∧ rI M 2 2 = nI (qS q) ∧ rI M 2 3 = nI (qG q)) ∧
  (rI M 2 4 = (if qX q = 1 then nI (qFr q) else -1) ∧ rI M 2 5 = (if qX q = 1 then nI (qTo q) else -1)) ∧
  (SM M 5 (4 * qH q) (qM q) ∧ SM M 6 (qH q) (qK q) ∧ SM M 7 (qH q) (qSl q) ∧ SM M 8 (qH q) (qTr q)) ∧
  (SM M 9 (qD q) (qDk q) ∧ SM M 10 (qD q) (qNr q)) ∧ (SM M 11 (qS q) (qA q) ∧ SM M 12 (qS q) (qB q)) ∧
  ((∀ h, h < qH q → rL M 3 h = qN q h) ∧ ∀ d, d < qD q → rL M 4 d = qDn q d) ∧ (LawM mb M 0 6 ixL (qL q) ∧ LawM mb M 1 4 ixE (qE q))
theorem LawM.k {mb : Nat} {M M' : MM} {ln n : Nat} {ix : Nat → Nat} {o : Option Law} (h : LawM mb M ln n ix o) (h1 : rI M' 13 = rI M 13) (h2 : rI M' 14 = rI M 14) (h3 : rI M' 15 = rI M 15) : LawM mb M' ln n ix o := by
  cases o with
  | none => show rI M' 13 ln = rI M' 14 ln; rw [h1, h2]; exact h
  | some F => exact ⟨by rw [h1, h2]; exact h.1, fun M2 e P φ a b c => h.2 M2 e P φ (a.trans h1) (b.trans h2) (c.trans h3)⟩
theorem QM.k {mb : Nat} {M M' : MM} {q : QT} {L F : List Nat} (h : QM mb M q) (hK : Kp L F M M') (hL : L.all (fun k => !([2, 5, 6, 7, 8, 9, 10, 11, 12, 13, 14, 15] : List Nat).contains k) = true) : QM mb M' q := by
  have key : ∀ k, ([2, 5, 6, 7, 8, 9, 10, 11, 12, 13, 14, 15] : List Nat).contains k = true → k ≠ 0 → rI M' k = rI M k := by
    intro k hk h0
    refine hK.1 k h0 ?_
    cases hc : L.contains k with
    | false => rfl
    | true =>
      rw [List.all_eq_true] at hL
      have := hL k (List.contains_iff_mem.mp hc)
      rw [hk] at this
      cases this
  obtain ⟨⟨a1, a2, a3, a4⟩, ⟨b1, b2⟩, ⟨c1, c2, c3, c4⟩, ⟨d1, d2⟩, ⟨e1, e2⟩, ⟨f1, f2⟩, g1, g2⟩ := h
  have k2 := key 2 rfl (by decide)
  have hl : M'.2 = M.2 := hK.2.2
  refine ⟨⟨by rw [k2]; exact a1, by rw [k2]; exact a2, by rw [k2]; exact a3, by rw [k2]; exact a4⟩, ⟨by rw [k2]; exact b1, by rw [k2]; exact b2⟩, ⟨c1.k (key 5 rfl (by decide)), c2.k (key 6 rfl (by decide)), c3.k (key 7 rfl (by decide)), c4.k (key 8 rfl (by decide))⟩, ⟨d1.k (key 9 rfl (by decide)), d2.k (key 10 rfl (by decide))⟩, ⟨e1.k (key 11 rfl (by decide)), e2.k (key 12 rfl (by decide))⟩, ⟨fun x hx => ?_, fun x hx => ?_⟩, g1.k (key 13 rfl (by decide)) (key 14 rfl (by decide)) (key 15 rfl (by decide)), g2.k (key 13 rfl (by decide)) (key 14 rfl (by decide)) (key 15 rfl (by decide))⟩
  · rw [← f1 x hx]; unfold rL; rw [hl]
  · rw [← f2 x hx]; unfold rL; rw [hl]
theorem QM.H {mb : Nat} {M : MM} {q : QT} (h : QM mb M q) : rI M 2 0 = nI (qH q) := h.1.1
theorem QM.D {mb : Nat} {M : MM} {q : QT} (h : QM mb M q) : rI M 2 1 = nI (qD q) := h.1.2.1
theorem QM.S {mb : Nat} {M : MM} {q : QT} (h : QM mb M q) : rI M 2 2 = nI (qS q) := h.1.2.2.1
theorem QM.G {mb : Nat} {M : MM} {q : QT} (h : QM mb M q) : rI M 2 3 = nI (qG q) := h.1.2.2.2
theorem QM.M {mb : Nat} {M : MM} {q : QT} (h : QM mb M q) : SM M 5 (4 * qH q) (qM q) := h.2.2.1.1
theorem QM.K {mb : Nat} {M : MM} {q : QT} (h : QM mb M q) : SM M 6 (qH q) (qK q) := h.2.2.1.2.1
theorem QM.Sl {mb : Nat} {M : MM} {q : QT} (h : QM mb M q) : SM M 7 (qH q) (qSl q) := h.2.2.1.2.2.1
theorem QM.Tr {mb : Nat} {M : MM} {q : QT} (h : QM mb M q) : SM M 8 (qH q) (qTr q) := h.2.2.1.2.2.2
theorem QM.Dk {mb : Nat} {M : MM} {q : QT} (h : QM mb M q) : SM M 9 (qD q) (qDk q) := h.2.2.2.1.1
theorem QM.Nr {mb : Nat} {M : MM} {q : QT} (h : QM mb M q) : SM M 10 (qD q) (qNr q) := h.2.2.2.1.2
theorem QM.A {mb : Nat} {M : MM} {q : QT} (h : QM mb M q) : SM M 11 (qS q) (qA q) := h.2.2.2.2.1.1
theorem QM.B {mb : Nat} {M : MM} {q : QT} (h : QM mb M q) : SM M 12 (qS q) (qB q) := h.2.2.2.2.1.2
theorem QM.L {mb : Nat} {M : MM} {q : QT} (h : QM mb M q) : LawM mb M 0 6 ixL (qL q) := h.2.2.2.2.2.2.1
theorem QM.E {mb : Nat} {M : MM} {q : QT} (h : QM mb M q) : LawM mb M 1 4 ixE (qE q) := h.2.2.2.2.2.2.2
/-! WHAT IS FELT -/
theorem clpN_nI {n hi : Nat} (h : n < 2 ^ 31) (hh : hi < 2 ^ 31) : clpN (nI n) hi = min hi n := by
  unfold clpN
  rw [if_neg (nI_pos h)]
  by_cases h1 : hi < n
  · rw [if_pos (nI_lt h1 h), Nat.min_eq_left (by omega)]
  · rw [if_neg (nI_nlt (by omega) hh), nI_clamp h, Nat.min_eq_right (by omega)]
theorem clp_slip {m g : Nat} (hm : m ≤ 9) (hg : g ≤ 6) : clpN (nI m + (nI g - nI 3)) 9 = min 9 (m + g - 3) := by
  have e : nI m + (nI g - nI 3) = nI (m + g) - nI 3 := by rw [← nI_add, Int32.sub_eq_add_neg, Int32.sub_eq_add_neg, Int32.add_assoc]
  rw [e]
  by_cases h : 3 ≤ m + g
  · rw [nI_subI h, clpN_nI (by omega) (by omega)]
  · have : m + g = 0 ∨ m + g = 1 ∨ m + g = 2 := by omega
    rcases this with h | h | h <;> rw [h] <;> decide
theorem clpN_le {v : Int32} {hi : Nat} (hh : hi < 2 ^ 31) : clpN v hi ≤ hi := by
  unfold clpN
  split
  · omega
  · rename_i h0
    split
    · omega
    · rename_i h1
      obtain ⟨j, hj, rfl⟩ := nI_of h0
      rw [nI_clamp hj]
      have := mt (fun z => nI_lt (b := j) z hj) h1
      omega
theorem ftS_le {q : QT} {a b h k g : Nat} : ftS q a b h k g ≤ 9 := by
  unfold ftS
  split
  · omega
  · exact clpN_le (by omega)
section
variable {mb e : Nat} {M : MM} {P : MR → Prop} {q : QT} {s g : Nat → Nat} {h d B : Nat}
theorem m_feltOf {k g : Nat} (hQ : QM mb M q) (hq : QOK q) (hS : SM M 32 402 s) (hh : h < qH q) (hk : k < 4) (hsl : rI M 36 k = nI g - nI 3) (hg : g ≤ 6) (hP : ∀ M', Kp LF [] M M' → rI M' 37 = rI M 37 → P (some (.int (nI (ftS q (s 400) (s 401) h k g))), M')) : EM mb (e + 3) cX19_feltOf (some .int) 0 [some (.ref mb), some (.int (nI h)), some (.int (nI k)), none] [] M P := by
  have hH := hq.1.1
  obtain ⟨-, -, -, hm⟩ := hq.2.2.1 h hh
  have hm := hm k hk
  cases hE : qE q with
  | none =>
    have hL := hQ.E
    rw [hE] at hL
    have hL : rI M 13 1 = rI M 14 1 := hL
    simp (disch := omega) only [em_aload_n (i := 0) dX19_feltOf_0 rfl, em_getA (n := 5) dX19_feltOf_1 fcp_23 rfl rfl, em_iconst (v := nI 4) dX19_feltOf_4 rfl, em_iload_n (i := 1) dX19_feltOf_5 rfl, em_imul dX19_feltOf_6, em_iload_n (i := 2) dX19_feltOf_7 rfl, em_iadd dX19_feltOf_8, em_iald_ (n := 5) dX19_feltOf_9 rfl, em_aload_n (i := 0) dX19_feltOf_10 rfl, em_getA (n := 36) dX19_feltOf_11 fcp_117 rfl rfl, em_iload_n (i := 2) dX19_feltOf_14 rfl, em_iald_ (n := 36) dX19_feltOf_15 rfl, em_iadd dX19_feltOf_16, em_iconst (v := nI 0) dX19_feltOf_17 rfl, em_bipush (v := nI 9) dX19_feltOf_18 rfl, em_cs3 dX19_feltOf_20 mcp_426, em_istore_n (i := 3) dX19_feltOf_23 rfl, em_aload_n (i := 0) dX19_feltOf_24 rfl, em_getA (n := 14) dX19_feltOf_25 fcp_50 rfl rfl, em_iconst (v := nI 1) dX19_feltOf_28 rfl, em_iald_ (n := 14) dX19_feltOf_29 rfl, em_aload_n (i := 0) dX19_feltOf_30 rfl, em_getA (n := 13) dX19_feltOf_31 fcp_47 rfl rfl, em_iconst (v := nI 1) dX19_feltOf_34 rfl, em_iald_ (n := 13) dX19_feltOf_35 rfl, em_icmp_ne (t := 41) dX19_feltOf_36 rfl, em_iload_n (i := 3) dX19_feltOf_39 rfl, em_iret dX19_feltOf_40, em_zret dX19_feltOf_40, em_aload_n (i := 0) dX19_feltOf_41 rfl, em_getA (n := 31) dX19_feltOf_42 fcp_102 rfl rfl, em_iconst (v := nI 1) dX19_feltOf_45 rfl, em_aload_n (i := 0) dX19_feltOf_46 rfl, em_getA (n := 32) dX19_feltOf_47 fcp_105 rfl rfl, em_sipush (v := nI 400) dX19_feltOf_50 rfl, em_iald_ (n := 32) dX19_feltOf_53 rfl, em_iast_ (n := 31) dX19_feltOf_54 rfl, em_aload_n (i := 0) dX19_feltOf_55 rfl, em_getA (n := 31) dX19_feltOf_56 fcp_102 rfl rfl, em_iconst (v := nI 2) dX19_feltOf_59 rfl, em_aload_n (i := 0) dX19_feltOf_60 rfl, em_getA (n := 32) dX19_feltOf_61 fcp_105 rfl rfl, em_sipush (v := nI 401) dX19_feltOf_64 rfl, em_iald_ (n := 32) dX19_feltOf_67 rfl, em_iast_ (n := 31) dX19_feltOf_68 rfl, em_aload_n (i := 0) dX19_feltOf_69 rfl, em_getA (n := 31) dX19_feltOf_70 fcp_102 rfl rfl, em_bipush (v := nI 7) dX19_feltOf_73 rfl, em_iload_n (i := 3) dX19_feltOf_75 rfl, em_iast_ (n := 31) dX19_feltOf_76 rfl, em_aload_n (i := 0) dX19_feltOf_77 rfl, em_getA (n := 31) dX19_feltOf_78 fcp_102 rfl rfl, em_bipush (v := nI 8) dX19_feltOf_81 rfl, em_iload_n (i := 2) dX19_feltOf_83 rfl, em_iast_ (n := 31) dX19_feltOf_84 rfl, em_aload_n (i := 0) dX19_feltOf_85 rfl, em_iconst (v := nI 1) dX19_feltOf_86 rfl, em_cv1 dX19_feltOf_87 mcp_430, em_iconst (v := nI 0) dX19_feltOf_90 rfl, em_bipush (v := nI 9) dX19_feltOf_91 rfl, em_cs3 dX19_feltOf_93 mcp_426, em_iret dX19_feltOf_96, em_zret dX19_feltOf_96, cat1_i, cat1_r, catB_n, catB_i, catB_r, catB_l, lg_0, lg_s, ldEI_i, ldEL_l, ldEA_r, lin_0, lin_s, ls1_0, ls1_1, ls1_s, ls2_0, ls2_1, ls2_s, lcl_i, lcl_r, lcl_l, lcl_n, lent_i, lent_r, lent_l, lent_0, lent_s, Option.toList_some, Option.toList_none, List.cons_append, List.nil_append, Nat.reduceAdd, true_and, mI_, mLg_, mV_, mInc_, mK_, nI_add, nI_mul, nI_subI, nI_clampI, inb_t, nI_lt0, nI_0le, nI_m1, nI_m1', nI_ofNat, bI_01, b01_0, b01_1, bI_eq0, bI_eq1, bb_01, true_or, or_true, false_or, or_false, eq_self, al_1, al_2, al_3, al_4, al_5, al_6, al_7, al_8, al_9, al_10, al_11, al_12, al_13, al_14, al_15, al_16, al_17, al_18, al_19, al_20, al_21, al_22, al_23, al_24, al_25, al_26, al_27, al_28, al_29, al_30, al_31, al_32, al_33, al_34, al_35, al_36, al_37, al_38, al_39, al_40, al_41, al_42, al_43, al_44, al_45, al_46, Nat.reduceAdd, Nat.reduceMul, Nat.reduceSub, Nat.reduceLT, Nat.reduceLeDiff, Nat.reduceEqDiff, ↓reduceIte, and_true, true_and, and_self, Nat.add_zero, Nat.zero_add, not_false_eq_true, not_true_eq_false, rI_we, rI_wn, faV_n, faV_s, m1_lt0, m1_0le, m1_eq0, m1_le, le_m1, m1_lt, lt_m1, rI_wo', rL_wI, rI_wL, nI_lt_t, nI_lt_f, nI_le_t, nI_le_f, nI_eq_t, nI_eq_f, nI_eq0_t, nI_eq0_f, nI_0lt_t, nI_0lt_f, nI_le0_t, nI_le0_f, nI_eq1_t, nI_eq1_f, hsl, hQ.M _, m_between, clp_slip, hL]
    have := hP M Kp.rf rfl
    unfold ftS at this
    rw [hE] at this
    exact this
  | some F =>
    have hL := hQ.E
    rw [hE] at hL
    obtain ⟨h1, hW⟩ := hL
    have h2 : ¬ rI M 14 1 = rI M 13 1 := fun z => by rw [z] at h1; exact Int32.lt_irrefl h1
    simp (disch := omega) only [em_aload_n (i := 0) dX19_feltOf_0 rfl, em_getA (n := 5) dX19_feltOf_1 fcp_23 rfl rfl, em_iconst (v := nI 4) dX19_feltOf_4 rfl, em_iload_n (i := 1) dX19_feltOf_5 rfl, em_imul dX19_feltOf_6, em_iload_n (i := 2) dX19_feltOf_7 rfl, em_iadd dX19_feltOf_8, em_iald_ (n := 5) dX19_feltOf_9 rfl, em_aload_n (i := 0) dX19_feltOf_10 rfl, em_getA (n := 36) dX19_feltOf_11 fcp_117 rfl rfl, em_iload_n (i := 2) dX19_feltOf_14 rfl, em_iald_ (n := 36) dX19_feltOf_15 rfl, em_iadd dX19_feltOf_16, em_iconst (v := nI 0) dX19_feltOf_17 rfl, em_bipush (v := nI 9) dX19_feltOf_18 rfl, em_cs3 dX19_feltOf_20 mcp_426, em_istore_n (i := 3) dX19_feltOf_23 rfl, em_aload_n (i := 0) dX19_feltOf_24 rfl, em_getA (n := 14) dX19_feltOf_25 fcp_50 rfl rfl, em_iconst (v := nI 1) dX19_feltOf_28 rfl, em_iald_ (n := 14) dX19_feltOf_29 rfl, em_aload_n (i := 0) dX19_feltOf_30 rfl, em_getA (n := 13) dX19_feltOf_31 fcp_47 rfl rfl, em_iconst (v := nI 1) dX19_feltOf_34 rfl, em_iald_ (n := 13) dX19_feltOf_35 rfl, em_icmp_ne (t := 41) dX19_feltOf_36 rfl, em_iload_n (i := 3) dX19_feltOf_39 rfl, em_iret dX19_feltOf_40, em_zret dX19_feltOf_40, em_aload_n (i := 0) dX19_feltOf_41 rfl, em_getA (n := 31) dX19_feltOf_42 fcp_102 rfl rfl, em_iconst (v := nI 1) dX19_feltOf_45 rfl, em_aload_n (i := 0) dX19_feltOf_46 rfl, em_getA (n := 32) dX19_feltOf_47 fcp_105 rfl rfl, em_sipush (v := nI 400) dX19_feltOf_50 rfl, em_iald_ (n := 32) dX19_feltOf_53 rfl, em_iast_ (n := 31) dX19_feltOf_54 rfl, em_aload_n (i := 0) dX19_feltOf_55 rfl, em_getA (n := 31) dX19_feltOf_56 fcp_102 rfl rfl, em_iconst (v := nI 2) dX19_feltOf_59 rfl, em_aload_n (i := 0) dX19_feltOf_60 rfl, em_getA (n := 32) dX19_feltOf_61 fcp_105 rfl rfl, em_sipush (v := nI 401) dX19_feltOf_64 rfl, em_iald_ (n := 32) dX19_feltOf_67 rfl, em_iast_ (n := 31) dX19_feltOf_68 rfl, em_aload_n (i := 0) dX19_feltOf_69 rfl, em_getA (n := 31) dX19_feltOf_70 fcp_102 rfl rfl, em_bipush (v := nI 7) dX19_feltOf_73 rfl, em_iload_n (i := 3) dX19_feltOf_75 rfl, em_iast_ (n := 31) dX19_feltOf_76 rfl, em_aload_n (i := 0) dX19_feltOf_77 rfl, em_getA (n := 31) dX19_feltOf_78 fcp_102 rfl rfl, em_bipush (v := nI 8) dX19_feltOf_81 rfl, em_iload_n (i := 2) dX19_feltOf_83 rfl, em_iast_ (n := 31) dX19_feltOf_84 rfl, em_aload_n (i := 0) dX19_feltOf_85 rfl, em_iconst (v := nI 1) dX19_feltOf_86 rfl, em_cv1 dX19_feltOf_87 mcp_430, em_iconst (v := nI 0) dX19_feltOf_90 rfl, em_bipush (v := nI 9) dX19_feltOf_91 rfl, em_cs3 dX19_feltOf_93 mcp_426, em_iret dX19_feltOf_96, em_zret dX19_feltOf_96, cat1_i, cat1_r, catB_n, catB_i, catB_r, catB_l, lg_0, lg_s, ldEI_i, ldEL_l, ldEA_r, lin_0, lin_s, ls1_0, ls1_1, ls1_s, ls2_0, ls2_1, ls2_s, lcl_i, lcl_r, lcl_l, lcl_n, lent_i, lent_r, lent_l, lent_0, lent_s, Option.toList_some, Option.toList_none, List.cons_append, List.nil_append, Nat.reduceAdd, true_and, mI_, mLg_, mV_, mInc_, mK_, nI_add, nI_mul, nI_subI, nI_clampI, inb_t, nI_lt0, nI_0le, nI_m1, nI_m1', nI_ofNat, bI_01, b01_0, b01_1, bI_eq0, bI_eq1, bb_01, true_or, or_true, false_or, or_false, eq_self, al_1, al_2, al_3, al_4, al_5, al_6, al_7, al_8, al_9, al_10, al_11, al_12, al_13, al_14, al_15, al_16, al_17, al_18, al_19, al_20, al_21, al_22, al_23, al_24, al_25, al_26, al_27, al_28, al_29, al_30, al_31, al_32, al_33, al_34, al_35, al_36, al_37, al_38, al_39, al_40, al_41, al_42, al_43, al_44, al_45, al_46, Nat.reduceAdd, Nat.reduceMul, Nat.reduceSub, Nat.reduceLT, Nat.reduceLeDiff, Nat.reduceEqDiff, ↓reduceIte, and_true, true_and, and_self, Nat.add_zero, Nat.zero_add, not_false_eq_true, not_true_eq_false, rI_we, rI_wn, faV_n, faV_s, m1_lt0, m1_0le, m1_eq0, m1_le, le_m1, m1_lt, lt_m1, rI_wo', rL_wI, rI_wL, nI_lt_t, nI_lt_f, nI_le_t, nI_le_f, nI_eq_t, nI_eq_f, nI_eq0_t, nI_eq0_f, nI_0lt_t, nI_0lt_f, nI_le0_t, nI_le0_f, nI_eq1_t, nI_eq1_f, hsl, hQ.M _, m_between, clp_slip, h2, hS _]
    refine hW _ e _ (fc4 (nI (s 400)) (nI (s 401)) (nI (min 9 (qM q (4 * h + k) + g - 3))) (nI k)) rfl rfl rfl ?_ (fun M'' hK => ?_)
    · intro i hi
      have : i = 0 ∨ i = 1 ∨ i = 2 ∨ i = 3 := by omega
      rcases this with rfl | rfl | rfl | rfl <;> simp [ixE, fc4, rI_ws]
    · simp (disch := omega) only [em_aload_n (i := 0) dX19_feltOf_0 rfl, em_getA (n := 5) dX19_feltOf_1 fcp_23 rfl rfl, em_iconst (v := nI 4) dX19_feltOf_4 rfl, em_iload_n (i := 1) dX19_feltOf_5 rfl, em_imul dX19_feltOf_6, em_iload_n (i := 2) dX19_feltOf_7 rfl, em_iadd dX19_feltOf_8, em_iald_ (n := 5) dX19_feltOf_9 rfl, em_aload_n (i := 0) dX19_feltOf_10 rfl, em_getA (n := 36) dX19_feltOf_11 fcp_117 rfl rfl, em_iload_n (i := 2) dX19_feltOf_14 rfl, em_iald_ (n := 36) dX19_feltOf_15 rfl, em_iadd dX19_feltOf_16, em_iconst (v := nI 0) dX19_feltOf_17 rfl, em_bipush (v := nI 9) dX19_feltOf_18 rfl, em_cs3 dX19_feltOf_20 mcp_426, em_istore_n (i := 3) dX19_feltOf_23 rfl, em_aload_n (i := 0) dX19_feltOf_24 rfl, em_getA (n := 14) dX19_feltOf_25 fcp_50 rfl rfl, em_iconst (v := nI 1) dX19_feltOf_28 rfl, em_iald_ (n := 14) dX19_feltOf_29 rfl, em_aload_n (i := 0) dX19_feltOf_30 rfl, em_getA (n := 13) dX19_feltOf_31 fcp_47 rfl rfl, em_iconst (v := nI 1) dX19_feltOf_34 rfl, em_iald_ (n := 13) dX19_feltOf_35 rfl, em_icmp_ne (t := 41) dX19_feltOf_36 rfl, em_iload_n (i := 3) dX19_feltOf_39 rfl, em_iret dX19_feltOf_40, em_zret dX19_feltOf_40, em_aload_n (i := 0) dX19_feltOf_41 rfl, em_getA (n := 31) dX19_feltOf_42 fcp_102 rfl rfl, em_iconst (v := nI 1) dX19_feltOf_45 rfl, em_aload_n (i := 0) dX19_feltOf_46 rfl, em_getA (n := 32) dX19_feltOf_47 fcp_105 rfl rfl, em_sipush (v := nI 400) dX19_feltOf_50 rfl, em_iald_ (n := 32) dX19_feltOf_53 rfl, em_iast_ (n := 31) dX19_feltOf_54 rfl, em_aload_n (i := 0) dX19_feltOf_55 rfl, em_getA (n := 31) dX19_feltOf_56 fcp_102 rfl rfl, em_iconst (v := nI 2) dX19_feltOf_59 rfl, em_aload_n (i := 0) dX19_feltOf_60 rfl, em_getA (n := 32) dX19_feltOf_61 fcp_105 rfl rfl, em_sipush (v := nI 401) dX19_feltOf_64 rfl, em_iald_ (n := 32) dX19_feltOf_67 rfl, em_iast_ (n := 31) dX19_feltOf_68 rfl, em_aload_n (i := 0) dX19_feltOf_69 rfl, em_getA (n := 31) dX19_feltOf_70 fcp_102 rfl rfl, em_bipush (v := nI 7) dX19_feltOf_73 rfl, em_iload_n (i := 3) dX19_feltOf_75 rfl, em_iast_ (n := 31) dX19_feltOf_76 rfl, em_aload_n (i := 0) dX19_feltOf_77 rfl, em_getA (n := 31) dX19_feltOf_78 fcp_102 rfl rfl, em_bipush (v := nI 8) dX19_feltOf_81 rfl, em_iload_n (i := 2) dX19_feltOf_83 rfl, em_iast_ (n := 31) dX19_feltOf_84 rfl, em_aload_n (i := 0) dX19_feltOf_85 rfl, em_iconst (v := nI 1) dX19_feltOf_86 rfl, em_cv1 dX19_feltOf_87 mcp_430, em_iconst (v := nI 0) dX19_feltOf_90 rfl, em_bipush (v := nI 9) dX19_feltOf_91 rfl, em_cs3 dX19_feltOf_93 mcp_426, em_iret dX19_feltOf_96, em_zret dX19_feltOf_96, cat1_i, cat1_r, catB_n, catB_i, catB_r, catB_l, lg_0, lg_s, ldEI_i, ldEL_l, ldEA_r, lin_0, lin_s, ls1_0, ls1_1, ls1_s, ls2_0, ls2_1, ls2_s, lcl_i, lcl_r, lcl_l, lcl_n, lent_i, lent_r, lent_l, lent_0, lent_s, Option.toList_some, Option.toList_none, List.cons_append, List.nil_append, Nat.reduceAdd, true_and, mI_, mLg_, mV_, mInc_, mK_, nI_add, nI_mul, nI_subI, nI_clampI, inb_t, nI_lt0, nI_0le, nI_m1, nI_m1', nI_ofNat, bI_01, b01_0, b01_1, bI_eq0, bI_eq1, bb_01, true_or, or_true, false_or, or_false, eq_self, al_1, al_2, al_3, al_4, al_5, al_6, al_7, al_8, al_9, al_10, al_11, al_12, al_13, al_14, al_15, al_16, al_17, al_18, al_19, al_20, al_21, al_22, al_23, al_24, al_25, al_26, al_27, al_28, al_29, al_30, al_31, al_32, al_33, al_34, al_35, al_36, al_37, al_38, al_39, al_40, al_41, al_42, al_43, al_44, al_45, al_46, Nat.reduceAdd, Nat.reduceMul, Nat.reduceSub, Nat.reduceLT, Nat.reduceLeDiff, Nat.reduceEqDiff, ↓reduceIte, and_true, true_and, and_self, Nat.add_zero, Nat.zero_add, not_false_eq_true, not_true_eq_false, rI_we, rI_wn, faV_n, faV_s, m1_lt0, m1_0le, m1_eq0, m1_le, le_m1, m1_lt, lt_m1, rI_wo', rL_wI, rI_wL, nI_lt_t, nI_lt_f, nI_le_t, nI_le_f, nI_eq_t, nI_eq_f, nI_eq0_t, nI_eq0_f, nI_0lt_t, nI_0lt_f, nI_le0_t, nI_le0_f, nI_eq1_t, nI_eq1_f, m_between]
      have := hP M'' ((((((Kp.rf).w rfl rfl).w rfl rfl).w rfl rfl).w rfl rfl).tr (hK.sub rfl rfl)) ?_
      · unfold ftS at this
        rw [hE] at this
        exact this
      · rw [hK.1 37 (by decide) rfl]
        rfl
end
