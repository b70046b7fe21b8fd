set_option maxRecDepth 100000
/-! THE COMPONENT's reader: doors -/
def xDoor (q : QT) (ts : List Tk) : Except Nat (QT × List Tk) := if qD q = 5 then .error (erT 5 ts) else (match pNw q ts.tail with
  | .error k => .error k
  | .ok _ => (match whW dkL ts.tail.tail with
    | none => .error (erT 1 ts.tail.tail)
    | some kd => (match pWN 279252 0 99 ts.tail.tail.tail with
      | .error k => .error k
      | .ok (nr, t) => .ok (qAD q (vWd ts.tail) kd nr, t))))
theorem pDoor_x {q : QT} {ts : List Tk} : pDoor q ts = xEnd (xDoor q ts) := by
  unfold pDoor xDoor
  split
  · rfl
  · cases pNw q ts.tail with
    | error k => rfl
    | ok u =>
      cases whW dkL ts.tail.tail with
      | none => rfl
      | some kd =>
        show (match pWN 279252 0 99 ts.tail.tail.tail with
          | .error k => .error k
          | .ok (nr, t) => pEnd (qAD q (vWd ts.tail) kd nr) t) = xEnd (match pWN 279252 0 99 ts.tail.tail.tail with
          | .error k => .error k
          | .ok (nr, t) => .ok (qAD q (vWd ts.tail) kd nr, t))
        cases pWN 279252 0 99 ts.tail.tail.tail <;> rfl
/-- the cached Longs -/
def LgC (zs : Nat → Nat) (σ : CM) : Prop := ∀ v : Int64, -128 ≤ v → v ≤ 127 → gC σ (zs (200 + (v + 128).toNatClampNeg)) = some (.inl (39, [.long v]))
theorem lc_lt {v : Int64} (h1 : -128 ≤ v) (h2 : v ≤ 127) : (v + 128).toNatClampNeg < 256 := by
  have a1 : (-128 : Int) ≤ v.toInt := Int64.le_iff_toInt_le.mp h1
  have a2 : v.toInt ≤ 127 := Int64.le_iff_toInt_le.mp h2
  show (v + 128).toInt.toNat < 256
  have : (v + 128).toInt = v.toInt + 128 := by rw [Int64.toInt_add]; exact Int.bmod_eq_of_le (by show _ ≤ v.toInt + 128; omega) (by show v.toInt + 128 < _; omega)
  omega
/-- the draft's parts -/
def DrP (zs : Nat → Nat) (w : Nat → Nat) (lo ra : Nat) (σ : CM) (q q' : QT) (a : Nat) (hd ch nd cn sd cs : Nat) (hx mx dx sx : Nat → Nat) (xl xe : Value) : Prop := (gC σ lo = some (.inl (3, qFs q (lo + 1) (lo + 3) (lo + 5) (lo + 6) (lo + 7) (lo + 9) xl xe)) ∧ w lo = 1) ∧ DHs w σ lo q hd ch hx mx ∧ DDs zs w σ lo q nd cn dx ∧ DAs w σ lo q' ∧ DSs w σ lo q sd cs sx ∧ DLs w σ lo q xl xe ∧ DFs w σ lo ∧ ((∀ b, σ.1 ≤ b → w b = 0) ∧ w ra = 9 ∧ ra < lo ∧ ∀ b, b < lo → b ≠ ra → w b = 0) ∧ (qH q ≤ 7 ∧ qD q ≤ 5 ∧ qX q ≤ 1 ∧ 3 * qS q ≤ a)
section
variable {zs w w' : Nat → Nat} {e : Nat} {σ σ' : CM} {P : CR → Prop} {ra lo : Nat} {C : Nat → Nat} {all : List Tk} {hg : Int32} {fa : Nat} {tp : Int32} {a dp : Nat} {q q' : QT} {g : Bool} {dr : Value} {hd ch nd cn sd cs : Nat} {hx mx dx sx : Nat → Nat} {xl xe : Value}
/-- while nothing of it changes -/
theorem DrP.k {a' : Nat} (h : DrP zs w lo ra σ q q' a hd ch nd cn sd cs hx mx dx sx xl xe) (K : ∀ b c, gC σ b = some c → w b ≠ 9 → gC σ' b = gC σ b) (hs : σ.1 ≤ σ'.1) (ha : a ≤ a') : DrP zs w lo ra σ' q q' a' hd ch nd cn sd cs hx mx dx sx xl xe := by
  obtain ⟨⟨r1, r2⟩, h1, h2, h3, h4, h5, h6, ⟨b1, b2⟩, c1, c2, c3, c4⟩ := h
  have K' : ∀ t, t ≠ 9 → Kd t w w σ σ' := fun t ht b c hb => ⟨rfl, fun z => K b c hb (by omega)⟩
  exact ⟨⟨(K _ _ r1 (by omega)).trans r1, r2⟩, h1.k (K' 2 (by omega)), h2.k (K' 3 (by omega)), h3.k (K' 4 (by omega)), h4.k (K' 6 (by omega)), h5.k (K' 2 (by omega)), h6.k (K' 7 (by omega)), ⟨fun b hb => b1 b (by omega), b2⟩, c1, c2, c3, by omega⟩
theorem c_dr_ad {y kd nr : Nat} {nm : Int64} (hw : HW σ) (hC : ∀ k, k < 10 → k ≠ 6 → C k < lo) (hE : RdE zs σ ra C all (.ref lo) (bI g) fa tp a dp) (h5 : qD q < 5) (D : DrP zs w lo ra σ q (qAD q nm kd nr) a hd ch nd cn sd cs hx mx dx sx xl xe) (hy : LongAt σ y nm) (wy : w y = 0) (ly : lo ≤ y ∨ ∃ i, i < 256 ∧ y = zs (200 + i)) (hP : ∀ σ' w', Fr (fun b => lo ≤ b) 1 50 σ σ' → RdE zs σ' ra C all (.ref lo) (bI g) fa tp a dp → DrO zs w' lo ra σ' (qAD q nm kd nr) a → P (.inl (some (.int (nI 1))), σ')) : EC zs (Jc zs) (e + 4) cJ2_add (some .boolean) 36 0 0 [some (.ref (lo + 3)), some (.ref y)] [] σ P := by
  obtain ⟨⟨r1, r2⟩, h1s, h2, h3, h4, h5s, h6, ⟨b1, b2, b3, b4⟩, c1, c2, c3, c4⟩ := D
  obtain ⟨A0, ⟨A1, A2, A3⟩, ⟨A4, A5⟩, A6⟩ := id h2
  obtain ⟨mc, ff, L1, L2, -⟩ := id A0
  have hl7 := hw _ _ L1
  have hsd := hw _ _ L2
  have ye : ELo σ y := by
    rcases hy with hy | hy
    · exact Or.inl ⟨_, hy⟩
    · exact Or.inl ⟨_, hy⟩
  refine c_add A0 (by omega) ye hw (fun z => by omega) ⟨fun z => by rw [z] at wy; omega, fun z => by rw [z] at wy; omega⟩ (fun i hi => ?_) (fun σ' hA => ?_)
  · have := (A6 i hi).2.1
    exact ⟨fun z => by rw [z] at this; omega, fun z => by rw [z] at this; omega⟩
  · have F4 : Fr (fun b => b = lo + 3 ∨ (b = nd ∧ qD q < cn)) 1 (2 * cn + 10) σ σ' := by obtain ⟨d', cap', F, -⟩ := hA; exact F
    obtain ⟨d', cap', A', hc, K, hz⟩ := hA.kd (w := w) (t := 3) hw A1 A2 b1
    have K3 : ∀ u, u ≠ 3 → Kd u w (fun b => if b = d' then 3 else w b) σ σ' := fun u hu => K u hu (by omega)
    have r1' := (K3 1 (by omega)).g r1 (Or.inl r2)
    have r2' := ((K3 1 (by omega)) _ _ r1).1
    have ll := hw _ _ r1
    have E4 := hE.fr hw F4 (fun z => by rcases z with z | z <;> omega) (fun k hk h6 z => by have := hC k hk h6; rcases z with z | z <;> omega)
    refine hP σ' _ (F4.sub (fun b _ z => by show lo ≤ b; rcases z with z | z <;> omega) (by omega) (by omega)) E4 ⟨hd, ch, d', cap', sd, cs, hx, mx, _, sx, xl, xe, ⟨r1', r2'.trans r2⟩, h1s.k (K3 2 (by omega)), ⟨A', ⟨?_, if_pos rfl, ?_⟩, ⟨?_, ?_⟩, fun d hd => ?_⟩, h3.k (K3 4 (by omega)), h4.k (K3 6 (by omega)), h5s.k (K3 2 (by omega)), h6.k (K3 7 (by omega)), ⟨hz, ?_, b3, fun b hb hr => ?_⟩, c1, ?_, c3, c4⟩
    · show (if lo + 3 = d' then 3 else w (lo + 3)) = 3
      rw [A1]; split <;> rfl
    · rcases hc with hc | hc <;> omega
    · rcases hc with hc | hc <;> omega
    · show cap' ≤ 2 * (qD q + 1) + 10
      rcases hc with hc | hc <;> omega
    · have hd : d < qD q + 1 := hd
      have lk : ∀ b v, LongAt σ b v → w b = 0 → LongAt σ' b v ∧ (if b = d' then 3 else w b) = 0 := fun b v hb wb => by
        rcases hb with hb | hb
        · exact ⟨Or.inl ((K3 2 (by omega)).g hb (Or.inr wb)), ((K3 2 (by omega)) _ _ hb).1.trans wb⟩
        · exact ⟨Or.inr ((K3 2 (by omega)).g hb (Or.inr wb)), ((K3 2 (by omega)) _ _ hb).1.trans wb⟩
      by_cases hdd : d = qD q
      · subst hdd
        show LongAt σ' (if qD q = qD q then y else dx (qD q)) (if 1 = 1 ∧ qD q = qD q then nm else q.2.2.1 1 (qD q)) ∧ (if (if qD q = qD q then y else dx (qD q)) = d' then 3 else w (if qD q = qD q then y else dx (qD q))) = 0 ∧ (lo ≤ (if qD q = qD q then y else dx (qD q)) ∨ ∃ i, i < 256 ∧ (if qD q = qD q then y else dx (qD q)) = zs (200 + i))
        rw [if_pos rfl, if_pos ⟨rfl, rfl⟩]
        exact ⟨(lk y nm hy wy).1, (lk y nm hy wy).2, ly⟩
      · show LongAt σ' (if d = qD q then y else dx d) (if 1 = 1 ∧ d = qD q then nm else q.2.2.1 1 d) ∧ (if (if d = qD q then y else dx d) = d' then 3 else w (if d = qD q then y else dx d)) = 0 ∧ (lo ≤ (if d = qD q then y else dx d) ∨ ∃ i, i < 256 ∧ (if d = qD q then y else dx d) = zs (200 + i))
        rw [if_neg hdd, if_neg (fun z => hdd z.2)]
        obtain ⟨x1, x2, x3⟩ := A6 d (by omega)
        exact ⟨(lk _ _ x1 x2).1, (lk _ _ x1 x2).2, x3⟩
    · show (if ra = d' then 3 else w ra) = 9
      rw [if_neg (by rcases hc with hc | hc <;> omega)]
      exact b2
    · show (if b = d' then 3 else w b) = 0
      rw [if_neg (by rcases hc with hc | hc <;> omega)]
      exact b4 b hb hr
    · show qD q + 1 ≤ 5
      omega
/-- the name is kept as a Long -/
theorem c_dr_nm {kd nr : Nat} {nm : Int64} {n : Nat} (hcb : ∀ i, i < 256 → zs (200 + i) < lo) (hw : HW σ) (hC : ∀ k, k < 10 → k ≠ 6 → C k < lo) (hLC : LgC zs σ) (hE : RdE zs σ ra C all (.ref lo) (bI g) fa tp a dp) (h5 : qD q < 5) (D : DrP zs w lo ra σ q (qAD q nm kd nr) a hd ch nd cn sd cs hx mx dx sx xl xe) (hP : ∀ σ' w', Fr (fun b => lo ≤ b) 2 51 σ σ' → RdE zs σ' ra C all (.ref lo) (bI g) fa tp a dp → DrO zs w' lo ra σ' (qAD q nm kd nr) a → P (.inl none, σ')) : EC zs (Jc zs) (e + 5) cX2_door none 1 0 85 [some (.ref ra), some (.int (nI n)), some (.long nm), none, some (.int (nI kd))] [] σ P := by
  obtain ⟨⟨r1, r2⟩, h1s, h2, h3, h4, h5s, h6, ⟨b1, b2, b3, b4⟩, c1, c2, c3, c4⟩ := id D
  obtain ⟨A0, ⟨A1, A2, A3⟩, ⟨A4, A5⟩, A6⟩ := id h2
  obtain ⟨mc, ff, L1, L2, -⟩ := id A0
  have hl7 := hw _ _ L1
  have hll := hw _ _ r1
  have h1 := hE.1
  unfold rdF at h1
  have r1' := r1
  unfold qFs at r1'
  by_cases hs : -128 ≤ nm ∧ nm ≤ 127
  · have gc := hLC nm hs.1 hs.2
    have wy : w (zs (200 + (nm + 128).toNatClampNeg)) = 0 := by
      refine b4 _ (hcb _ (lc_lt hs.1 hs.2)) (fun z => ?_)
      rw [z, h1] at gc
      cases gc
    have key : EC zs (Jc zs) (e + 4) cJ2_add (some .boolean) 36 0 0 [some (.ref (lo + 3)), some (.ref (zs (200 + (nm + 128).toNatClampNeg)))] [] σ (EK zs (Jc zs) (e + 4 + 1) cX2_door none 1 0 96 [some (.ref ra), some (.int (nI n)), some (.long nm), none, some (.int (nI kd))] [] P) := by
      refine c_dr_ad hw hC hE h5 D (Or.inr gc) wy (Or.inr ⟨_, lc_lt hs.1 hs.2, rfl⟩) (fun σ' w' F' E' D' => ?_)
      have fin := hP σ' w' (F'.sub (fun _ _ z => z) (by omega) (by omega)) E' D'
      simp (disch := omega) only [ec_cv1 dX2_door_96 iN_1_266 cna_1_266, vcE_o ccp_1_266_36, ec_pop dX2_door_99, ec_vret dX2_door_100, cat1_i, cat1_r, cat1_u, catB_n, catB_i, catB_r, catB_l, catB_u, lg_0, lg_s, ldEI_i, ldEL_l, ldEA_r, ldEA_n, lin_0, lin_s, ls1_0, ls1_1, ls1_s, ls2_0, ls2_1, ls2_s, lcl_i, lcl_r, lcl_l, lcl_u, lcl_n, lent_i, lent_r, lent_l, lent_u, lent_0, lent_s, Option.toList_some, Option.toList_none, List.cons_append, List.nil_append, Nat.reduceAdd, true_and, vin_0, vin_s, aE_0, aE_s, EK_r, EK_t, List.set_cons_zero, List.set_cons_succ, va_rf_s, va_rf_n, pC_1, pC_21, aC_1, aC_21, gC_self, gC_new, eI_, eLg_, eV_, eInc_, eN_, eS_, eJ_, eCl_, nI_add, nI_mul, nI_subI, nI_clampI, inb_t, nI_lt0, nI_0le, nI_m1, nI_m1', nI_ofNat, bI_01, b01_0, b01_1, bI_eq0, bI_eq1, bb_01, true_or, or_true, false_or, or_false, eq_self, Nat.reduceAdd, Nat.reduceMul, Nat.reduceSub, Nat.reduceLT, Nat.reduceLeDiff, Nat.reduceEqDiff, ↓reduceIte, and_true, true_and, and_self, Nat.add_zero, Nat.zero_add, not_false_eq_true, not_true_eq_false, faV_n, faV_s, m1_lt0, m1_0le, m1_eq0, m1_le, le_m1, m1_lt, lt_m1, nI_100k, nI_100, upd_e, upd_n, pC_pC, gC_ne', gC_old', nI_lt_t, nI_lt_f, nI_le_t, nI_le_f, nI_eq_t, nI_eq_f, nI_eq0_t, nI_eq0_f, nI_0lt_t, nI_0lt_f, nI_le0_t, nI_le0_f, nI_eq1_t, nI_eq1_f]
      exact fin
    simp (disch := omega) only [ec_aload_n (i := 0) dX2_door_85 rfl, ec_get dX2_door_86, gw_1_191_1, ec_get dX2_door_89, gw_1_278_3, ec_lload_n (i := 2) dX2_door_92 rfl, ec_j21 dX2_door_93 iT_1_281, J_13, ec_cv1 dX2_door_96 iN_1_266 cna_1_266, vcE_o ccp_1_266_36, cat1_i, cat1_r, cat1_u, catB_n, catB_i, catB_r, catB_l, catB_u, lg_0, lg_s, ldEI_i, ldEL_l, ldEA_r, ldEA_n, lin_0, lin_s, ls1_0, ls1_1, ls1_s, ls2_0, ls2_1, ls2_s, lcl_i, lcl_r, lcl_l, lcl_u, lcl_n, lent_i, lent_r, lent_l, lent_u, lent_0, lent_s, Option.toList_some, Option.toList_none, List.cons_append, List.nil_append, Nat.reduceAdd, true_and, vin_0, vin_s, aE_0, aE_s, EK_r, EK_t, List.set_cons_zero, List.set_cons_succ, va_rf_s, va_rf_n, pC_1, pC_21, aC_1, aC_21, gC_self, gC_new, eI_, eLg_, eV_, eInc_, eN_, eS_, eJ_, eCl_, nI_add, nI_mul, nI_subI, nI_clampI, inb_t, nI_lt0, nI_0le, nI_m1, nI_m1', nI_ofNat, bI_01, b01_0, b01_1, bI_eq0, bI_eq1, bb_01, true_or, or_true, false_or, or_false, eq_self, Nat.reduceAdd, Nat.reduceMul, Nat.reduceSub, Nat.reduceLT, Nat.reduceLeDiff, Nat.reduceEqDiff, ↓reduceIte, and_true, true_and, and_self, Nat.add_zero, Nat.zero_add, not_false_eq_true, not_true_eq_false, faV_n, faV_s, m1_lt0, m1_0le, m1_eq0, m1_le, le_m1, m1_lt, lt_m1, nI_100k, nI_100, upd_e, upd_n, pC_pC, gC_ne', gC_old', nI_lt_t, nI_lt_f, nI_le_t, nI_le_f, nI_eq_t, nI_eq_f, nI_eq0_t, nI_eq0_f, nI_0lt_t, nI_0lt_f, nI_le0_t, nI_le0_f, nI_eq1_t, nI_eq1_f, h1, r1', J_13, hs, L1, if_true]
    exact key
  · have F1 : Fr (fun _ => False) 1 1 σ (aC σ 1 (.inl (37, [.long nm]))) := ⟨⟨by rw [aC_1]; omega, by rw [aC_1]; omega⟩, ⟨by rw [aC_21]; omega, by rw [aC_21]; omega⟩, fun b hb _ => gC_old' hb, hw.aC⟩
    have D2 := D.k (σ' := aC σ 1 (.inl (37, [.long nm]))) (a' := a) (fun b c hb _ => gC_old' (hw _ _ hb)) (by rw [aC_1]; omega) (Nat.le_refl _)
    have key : EC zs (Jc zs) (e + 4) cJ2_add (some .boolean) 36 0 0 [some (.ref (lo + 3)), some (.ref σ.1)] [] (aC σ 1 (.inl (37, [.long nm]))) (EK zs (Jc zs) (e + 4 + 1) cX2_door none 1 0 96 [some (.ref ra), some (.int (nI n)), some (.long nm), none, some (.int (nI kd))] [] P) := by
      refine c_dr_ad hw.aC hC (hE.fr hw F1 (fun z => z) (fun _ _ _ z => z)) h5 D2 (Or.inl gC_new) (b1 _ (Nat.le_refl _)) (Or.inl (by omega)) (fun σ' w' F' E' D' => ?_)
      have fin := hP σ' w' (((F1.sub (S' := fun b => lo ≤ b) (fun _ _ z => z.elim) (Nat.le_refl _) (Nat.le_refl _)).tr F').sub (fun _ _ z => z) (by omega) (by omega)) E' D'
      simp (disch := omega) only [ec_cv1 dX2_door_96 iN_1_266 cna_1_266, vcE_o ccp_1_266_36, ec_pop dX2_door_99, ec_vret dX2_door_100, cat1_i, cat1_r, cat1_u, catB_n, catB_i, catB_r, catB_l, catB_u, lg_0, lg_s, ldEI_i, ldEL_l, ldEA_r, ldEA_n, lin_0, lin_s, ls1_0, ls1_1, ls1_s, ls2_0, ls2_1, ls2_s, lcl_i, lcl_r, lcl_l, lcl_u, lcl_n, lent_i, lent_r, lent_l, lent_u, lent_0, lent_s, Option.toList_some, Option.toList_none, List.cons_append, List.nil_append, Nat.reduceAdd, true_and, vin_0, vin_s, aE_0, aE_s, EK_r, EK_t, List.set_cons_zero, List.set_cons_succ, va_rf_s, va_rf_n, pC_1, pC_21, aC_1, aC_21, gC_self, gC_new, eI_, eLg_, eV_, eInc_, eN_, eS_, eJ_, eCl_, nI_add, nI_mul, nI_subI, nI_clampI, inb_t, nI_lt0, nI_0le, nI_m1, nI_m1', nI_ofNat, bI_01, b01_0, b01_1, bI_eq0, bI_eq1, bb_01, true_or, or_true, false_or, or_false, eq_self, Nat.reduceAdd, Nat.reduceMul, Nat.reduceSub, Nat.reduceLT, Nat.reduceLeDiff, Nat.reduceEqDiff, ↓reduceIte, and_true, true_and, and_self, Nat.add_zero, Nat.zero_add, not_false_eq_true, not_true_eq_false, faV_n, faV_s, m1_lt0, m1_0le, m1_eq0, m1_le, le_m1, m1_lt, lt_m1, nI_100k, nI_100, upd_e, upd_n, pC_pC, gC_ne', gC_old', nI_lt_t, nI_lt_f, nI_le_t, nI_le_f, nI_eq_t, nI_eq_f, nI_eq0_t, nI_eq0_f, nI_0lt_t, nI_0lt_f, nI_le0_t, nI_le0_f, nI_eq1_t, nI_eq1_f]
      exact fin
    have L1' : ∀ X, gC (aC σ 1 X) (lo + 3) = some (.inl (36, [.int mc, .ref nd, .int (nI (qD q))])) := fun X => by rw [gC_old' hl7]; exact L1
    simp (disch := omega) only [ec_aload_n (i := 0) dX2_door_85 rfl, ec_get dX2_door_86, gw_1_191_1, ec_get dX2_door_89, gw_1_278_3, ec_lload_n (i := 2) dX2_door_92 rfl, ec_j21 dX2_door_93 iT_1_281, J_13, ec_cv1 dX2_door_96 iN_1_266 cna_1_266, vcE_o ccp_1_266_36, cat1_i, cat1_r, cat1_u, catB_n, catB_i, catB_r, catB_l, catB_u, lg_0, lg_s, ldEI_i, ldEL_l, ldEA_r, ldEA_n, lin_0, lin_s, ls1_0, ls1_1, ls1_s, ls2_0, ls2_1, ls2_s, lcl_i, lcl_r, lcl_l, lcl_u, lcl_n, lent_i, lent_r, lent_l, lent_u, lent_0, lent_s, Option.toList_some, Option.toList_none, List.cons_append, List.nil_append, Nat.reduceAdd, true_and, vin_0, vin_s, aE_0, aE_s, EK_r, EK_t, List.set_cons_zero, List.set_cons_succ, va_rf_s, va_rf_n, pC_1, pC_21, aC_1, aC_21, gC_self, gC_new, eI_, eLg_, eV_, eInc_, eN_, eS_, eJ_, eCl_, nI_add, nI_mul, nI_subI, nI_clampI, inb_t, nI_lt0, nI_0le, nI_m1, nI_m1', nI_ofNat, bI_01, b01_0, b01_1, bI_eq0, bI_eq1, bb_01, true_or, or_true, false_or, or_false, eq_self, Nat.reduceAdd, Nat.reduceMul, Nat.reduceSub, Nat.reduceLT, Nat.reduceLeDiff, Nat.reduceEqDiff, ↓reduceIte, and_true, true_and, and_self, Nat.add_zero, Nat.zero_add, not_false_eq_true, not_true_eq_false, faV_n, faV_s, m1_lt0, m1_0le, m1_eq0, m1_le, le_m1, m1_lt, lt_m1, nI_100k, nI_100, upd_e, upd_n, pC_pC, gC_ne', gC_old', nI_lt_t, nI_lt_f, nI_le_t, nI_le_f, nI_eq_t, nI_eq_f, nI_eq0_t, nI_eq0_f, nI_0lt_t, nI_0lt_f, nI_le0_t, nI_le0_f, nI_eq1_t, nI_eq1_f, h1, r1', J_13, hs, L1', if_false]
    exact key
theorem pNw_v {u : Unit} (h : pNw q (all.drop a) = .ok u) (hE : RdE zs σ ra C all dr hg fa tp a dp) : a + 1 < all.length := by
  unfold pNw at h
  split at h
  · rename_i h1
    exact isN_nx hE h1
  · cases h
theorem c_door (hZ : ZS zs) (hLC : LgC zs σ) (hcb : ∀ i, i < 256 → zs (200 + i) < lo) (hw : HW σ) (hC : ∀ k, k < 10 → k ≠ 6 → C k < lo) (hE : RdE zs σ ra C all (.ref lo) (bI g) fa tp a dp) (hD : DrO zs w lo ra σ q a) (hn : a + 1 < all.length) (hP : ∀ r, StR zs all ra C tp lo σ a g (xDoor q (all.drop a)) r → P r) : EC zs (Jc zs) (e + 5) cX2_door none 1 0 0 [some (.ref ra), none, none, none, none] [] σ P := by
  obtain ⟨⟨l0, -⟩, -⟩ := hE.x
  have hl := hE.le
  have h1 := hE.1
  unfold rdF at h1
  unfold xDoor at hP
  rw [tl_drop, tl_drop, tl_drop] at hP
  obtain ⟨hd, ch, nd, cn, sd, cs, hx, mx, dx, sx, xl, xe, ⟨r1, r2⟩, h1s, h2, h3, h4, h5s, h6, ⟨b1, b2, b3, b4⟩, c1, c2, c3, c4⟩ := id hD
  have hll := hw _ _ r1
  have r1' := r1
  unfold qFs at r1'
  have hAL := h2.1.z (Z := fun _ => True) trivial trivial
  obtain ⟨mc, dd, hl1⟩ := hAL.ob
  by_cases hq5 : qD q = 5
  · rw [if_pos hq5] at hP
    have wr := fun P => c_wrong (e := e + 3) (P := P) (k := 5) (by omega) hw hE
    have fin := hP _ (ErR.tr (Fr.rf hw) (ErR.w (S := fun b => b = ra ∨ lo ≤ b) hw hE) (fun b z => Or.inr z) (by omega) (by omega))
    simp (disch := omega) only [ec_aload_n (i := 0) dX2_door_0 rfl, ec_get dX2_door_1, gw_1_191_1, ec_cv0 dX2_door_4 iN_1_270 cna_1_270, vcE_o ccp_1_270_3, ec_istore_n (i := 1) dX2_door_7 rfl, ec_iload_n (i := 1) dX2_door_8 rfl, ec_iconst (v := nI 5) dX2_door_9 rfl, ec_icmp_ne (t := 19) dX2_door_10 rfl, ec_aload_n (i := 0) dX2_door_13 rfl, ec_iconst (v := nI 5) dX2_door_14 rfl, ec_cv1 dX2_door_15 iN_1_178 cna_1_178, vcE_o ccp_1_178_1, ec_athrow dX2_door_18, ET_0 (thrP_a dX2_door_18), ec_aload_n (i := 0) dX2_door_19 rfl, ec_cv0 dX2_door_20 iN_1_244 cna_1_244, vcE_o ccp_1_244_1, ET_0 (thrP_c (o := 1) dX2_door_20 rfl), ec_lstore_n (i := 2) dX2_door_23 rfl, ec_aload_n (i := 0) dX2_door_24 rfl, ec_aload_n (i := 0) dX2_door_25 rfl, ec_get dX2_door_26, gw_1_61_1, ec_cv1 dX2_door_29 iN_1_182 cna_1_182, vcE_o ccp_1_182_1, ec_istore dX2_door_32, ec_iload dX2_door_34, ec_iconst (v := (-1)) dX2_door_36 rfl, ec_icmp_ne (t := 46) dX2_door_37 rfl, ec_aload_n (i := 0) dX2_door_40 rfl, ec_iconst (v := nI 1) dX2_door_41 rfl, ec_cv1 dX2_door_42 iN_1_178 cna_1_178, ec_athrow dX2_door_45, ET_0 (thrP_a dX2_door_45), ec_aload_n (i := 0) dX2_door_46 rfl, ec_dup dX2_door_47, ec_get dX2_door_48, gw_1_156_1, ec_iconst (v := nI 1) dX2_door_51 rfl, ec_iadd dX2_door_52, ec_put dX2_door_53, pw_1_0_156_1, ec_aload_n (i := 0) dX2_door_56 rfl, ec_get dX2_door_57, ec_get dX2_door_60, gw_1_273_3, ec_iload_n (i := 1) dX2_door_63 rfl, ec_iload dX2_door_64, ec_iast dX2_door_66, isE_0, ec_aload_n (i := 0) dX2_door_67 rfl, ec_get dX2_door_68, ec_get dX2_door_71, gw_1_276_3, ec_iload_n (i := 1) dX2_door_74 rfl, ec_aload_n (i := 0) dX2_door_75 rfl, ec_ldcS dX2_door_76 rfl scp_72, ec_iconst (v := nI 0) dX2_door_78 rfl, ec_bipush (v := nI 99) dX2_door_79 rfl, ec_cv3 dX2_door_81 iN_1_260 cna_1_260, vcE_o ccp_1_260_1, ET_0 (thrP_c (o := 1) dX2_door_81 rfl), ec_iast dX2_door_84, ec_get dX2_door_86, ec_get dX2_door_89, gw_1_278_3, ec_lload_n (i := 2) dX2_door_92 rfl, ec_j21 dX2_door_93 iT_1_281, J_13, ec_cv1 dX2_door_96 iN_1_266 cna_1_266, vcE_o ccp_1_266_36, ec_pop dX2_door_99, ec_vret dX2_door_100, ec_aload_n (i := 0) dX4_doors_0 rfl, ec_get dX4_doors_1, gw_3_20_3, ec_cv0 dX4_doors_4 iN_3_47 cna_3_47, vcE_o ccp_3_47_36, ec_iret dX4_doors_7, ec_zret dX4_doors_7, cat1_i, cat1_r, cat1_u, catB_n, catB_i, catB_r, catB_l, catB_u, lg_0, lg_s, ldEI_i, ldEL_l, ldEA_r, ldEA_n, lin_0, lin_s, ls1_0, ls1_1, ls1_s, ls2_0, ls2_1, ls2_s, lcl_i, lcl_r, lcl_l, lcl_u, lcl_n, lent_i, lent_r, lent_l, lent_u, lent_0, lent_s, Option.toList_some, Option.toList_none, List.cons_append, List.nil_append, Nat.reduceAdd, true_and, vin_0, vin_s, aE_0, aE_s, EK_r, EK_t, List.set_cons_zero, List.set_cons_succ, va_rf_s, va_rf_n, pC_1, pC_21, aC_1, aC_21, gC_self, gC_new, eI_, eLg_, eV_, eInc_, eN_, eS_, eJ_, eCl_, nI_add, nI_mul, nI_subI, nI_clampI, inb_t, nI_lt0, nI_0le, nI_m1, nI_m1', nI_ofNat, bI_01, b01_0, b01_1, bI_eq0, bI_eq1, bb_01, true_or, or_true, false_or, or_false, eq_self, Nat.reduceAdd, Nat.reduceMul, Nat.reduceSub, Nat.reduceLT, Nat.reduceLeDiff, Nat.reduceEqDiff, ↓reduceIte, and_true, true_and, and_self, Nat.add_zero, Nat.zero_add, not_false_eq_true, not_true_eq_false, faV_n, faV_s, m1_lt0, m1_0le, m1_eq0, m1_le, le_m1, m1_lt, lt_m1, nI_100k, nI_100, upd_e, upd_n, pC_pC, gC_ne', gC_old', nI_lt_t, nI_lt_f, nI_le_t, nI_le_f, nI_eq_t, nI_eq_f, nI_eq0_t, nI_eq0_f, nI_0lt_t, nI_0lt_f, nI_le0_t, nI_le0_f, nI_eq1_t, nI_eq1_f, h1, r1', hl1, c_size hAL, wr]
    exact fin
  · rw [if_neg hq5] at hP
    have nn := fun P => c_newName (e := e) (P := P) hZ hw hE hD.nm hn
    have nn' := nn
    unfold rdP rdF at nn'
    have E1 : RdE zs (rdP σ ra C (.ref lo) (bI g) fa tp (a + 1) dp) ra C all (.ref lo) (bI g) fa tp (a + 1) dp := hE.rp hn
    have F1 : ∀ z, Fr (fun b => b = ra ∨ lo ≤ b) 0 0 σ (rdP σ ra C (.ref lo) (bI g) fa tp z dp) := fun z => (hE.fs (S := fun b => b = ra ∨ lo ≤ b) (Or.inl rfl)).fr hw
    have w1 : ∀ z, HW (rdP σ ra C (.ref lo) (bI g) fa tp z dp) := fun z => hw.rdP hE
    cases hx1 : pNw q (all.drop (a + 1)) with
    | error k =>
      rw [hx1] at hP
      have fin := hP _ (ErR.tr (F1 (a + 1)) (ErR.w (k := k) (S := fun b => b = ra ∨ lo ≤ b) (w1 _) E1) (fun b z => Or.inr z) (by omega) (by omega))
      simp (disch := omega) only [ec_aload_n (i := 0) dX2_door_0 rfl, ec_get dX2_door_1, gw_1_191_1, ec_cv0 dX2_door_4 iN_1_270 cna_1_270, vcE_o ccp_1_270_3, ec_istore_n (i := 1) dX2_door_7 rfl, ec_iload_n (i := 1) dX2_door_8 rfl, ec_iconst (v := nI 5) dX2_door_9 rfl, ec_icmp_ne (t := 19) dX2_door_10 rfl, ec_aload_n (i := 0) dX2_door_13 rfl, ec_iconst (v := nI 5) dX2_door_14 rfl, ec_cv1 dX2_door_15 iN_1_178 cna_1_178, vcE_o ccp_1_178_1, ec_athrow dX2_door_18, ET_0 (thrP_a dX2_door_18), ec_aload_n (i := 0) dX2_door_19 rfl, ec_cv0 dX2_door_20 iN_1_244 cna_1_244, vcE_o ccp_1_244_1, ET_0 (thrP_c (o := 1) dX2_door_20 rfl), ec_lstore_n (i := 2) dX2_door_23 rfl, ec_aload_n (i := 0) dX2_door_24 rfl, ec_aload_n (i := 0) dX2_door_25 rfl, ec_get dX2_door_26, gw_1_61_1, ec_cv1 dX2_door_29 iN_1_182 cna_1_182, vcE_o ccp_1_182_1, ec_istore dX2_door_32, ec_iload dX2_door_34, ec_iconst (v := (-1)) dX2_door_36 rfl, ec_icmp_ne (t := 46) dX2_door_37 rfl, ec_aload_n (i := 0) dX2_door_40 rfl, ec_iconst (v := nI 1) dX2_door_41 rfl, ec_cv1 dX2_door_42 iN_1_178 cna_1_178, ec_athrow dX2_door_45, ET_0 (thrP_a dX2_door_45), ec_aload_n (i := 0) dX2_door_46 rfl, ec_dup dX2_door_47, ec_get dX2_door_48, gw_1_156_1, ec_iconst (v := nI 1) dX2_door_51 rfl, ec_iadd dX2_door_52, ec_put dX2_door_53, pw_1_0_156_1, ec_aload_n (i := 0) dX2_door_56 rfl, ec_get dX2_door_57, ec_get dX2_door_60, gw_1_273_3, ec_iload_n (i := 1) dX2_door_63 rfl, ec_iload dX2_door_64, ec_iast dX2_door_66, isE_0, ec_aload_n (i := 0) dX2_door_67 rfl, ec_get dX2_door_68, ec_get dX2_door_71, gw_1_276_3, ec_iload_n (i := 1) dX2_door_74 rfl, ec_aload_n (i := 0) dX2_door_75 rfl, ec_ldcS dX2_door_76 rfl scp_72, ec_iconst (v := nI 0) dX2_door_78 rfl, ec_bipush (v := nI 99) dX2_door_79 rfl, ec_cv3 dX2_door_81 iN_1_260 cna_1_260, vcE_o ccp_1_260_1, ET_0 (thrP_c (o := 1) dX2_door_81 rfl), ec_iast dX2_door_84, ec_get dX2_door_86, ec_get dX2_door_89, gw_1_278_3, ec_lload_n (i := 2) dX2_door_92 rfl, ec_j21 dX2_door_93 iT_1_281, J_13, ec_cv1 dX2_door_96 iN_1_266 cna_1_266, vcE_o ccp_1_266_36, ec_pop dX2_door_99, ec_vret dX2_door_100, ec_aload_n (i := 0) dX4_doors_0 rfl, ec_get dX4_doors_1, gw_3_20_3, ec_cv0 dX4_doors_4 iN_3_47 cna_3_47, vcE_o ccp_3_47_36, ec_iret dX4_doors_7, ec_zret dX4_doors_7, cat1_i, cat1_r, cat1_u, catB_n, catB_i, catB_r, catB_l, catB_u, lg_0, lg_s, ldEI_i, ldEL_l, ldEA_r, ldEA_n, lin_0, lin_s, ls1_0, ls1_1, ls1_s, ls2_0, ls2_1, ls2_s, lcl_i, lcl_r, lcl_l, lcl_u, lcl_n, lent_i, lent_r, lent_l, lent_u, lent_0, lent_s, Option.toList_some, Option.toList_none, List.cons_append, List.nil_append, Nat.reduceAdd, true_and, vin_0, vin_s, aE_0, aE_s, EK_r, EK_t, List.set_cons_zero, List.set_cons_succ, va_rf_s, va_rf_n, pC_1, pC_21, aC_1, aC_21, gC_self, gC_new, eI_, eLg_, eV_, eInc_, eN_, eS_, eJ_, eCl_, nI_add, nI_mul, nI_subI, nI_clampI, inb_t, nI_lt0, nI_0le, nI_m1, nI_m1', nI_ofNat, bI_01, b01_0, b01_1, bI_eq0, bI_eq1, bb_01, true_or, or_true, false_or, or_false, eq_self, Nat.reduceAdd, Nat.reduceMul, Nat.reduceSub, Nat.reduceLT, Nat.reduceLeDiff, Nat.reduceEqDiff, ↓reduceIte, and_true, true_and, and_self, Nat.add_zero, Nat.zero_add, not_false_eq_true, not_true_eq_false, faV_n, faV_s, m1_lt0, m1_0le, m1_eq0, m1_le, le_m1, m1_lt, lt_m1, nI_100k, nI_100, upd_e, upd_n, pC_pC, gC_ne', gC_old', nI_lt_t, nI_lt_f, nI_le_t, nI_le_f, nI_eq_t, nI_eq_f, nI_eq0_t, nI_eq0_f, nI_0lt_t, nI_0lt_f, nI_le0_t, nI_le0_f, nI_eq1_t, nI_eq1_f, h1, r1', hl1, c_size hAL, nn', hx1, exE_er]
      exact fin
    | ok u =>
      rw [hx1] at hP
      have hn2 := pNw_v hx1 E1
      have E2 : RdE zs (rdP σ ra C (.ref lo) (bI g) fa tp (a + 2) dp) ra C all (.ref lo) (bI g) fa tp (a + 2) dp := hE.rp hn2
      have wh := fun P => c_wh_d (e := e + 2) (P := P) E2 hZ
      unfold rdP rdF at wh
      have hP : ∀ r, StR zs all ra C tp lo σ a g (match whW dkL (all.drop (a + 2)) with
        | none => .error (erT 1 (all.drop (a + 2)))
        | some kd => (match pWN 279252 0 99 (all.drop (a + 3)) with
          | .error k => .error k
          | .ok (nr, t) => .ok (qAD q (vWd (all.drop (a + 1))) kd nr, t))) r → P r := hP
      cases hx2 : whW dkL (all.drop (a + 2)) with
      | none =>
        rw [hx2] at hP
        have wr := fun P => c_wrong (e := e + 3) (P := P) (k := 1) (by omega) (w1 (a + 2)) E2
        unfold rdP rdF at wr
        have fin := hP _ (ErR.tr (F1 (a + 2)) (ErR.w (k := erT 1 (all.drop (a + 2))) (S := fun b => b = ra ∨ lo ≤ b) (w1 _) E2) (fun b z => Or.inr z) (by omega) (by omega))
        simp (disch := omega) only [ec_aload_n (i := 0) dX2_door_0 rfl, ec_get dX2_door_1, gw_1_191_1, ec_cv0 dX2_door_4 iN_1_270 cna_1_270, vcE_o ccp_1_270_3, ec_istore_n (i := 1) dX2_door_7 rfl, ec_iload_n (i := 1) dX2_door_8 rfl, ec_iconst (v := nI 5) dX2_door_9 rfl, ec_icmp_ne (t := 19) dX2_door_10 rfl, ec_aload_n (i := 0) dX2_door_13 rfl, ec_iconst (v := nI 5) dX2_door_14 rfl, ec_cv1 dX2_door_15 iN_1_178 cna_1_178, vcE_o ccp_1_178_1, ec_athrow dX2_door_18, ET_0 (thrP_a dX2_door_18), ec_aload_n (i := 0) dX2_door_19 rfl, ec_cv0 dX2_door_20 iN_1_244 cna_1_244, vcE_o ccp_1_244_1, ET_0 (thrP_c (o := 1) dX2_door_20 rfl), ec_lstore_n (i := 2) dX2_door_23 rfl, ec_aload_n (i := 0) dX2_door_24 rfl, ec_aload_n (i := 0) dX2_door_25 rfl, ec_get dX2_door_26, gw_1_61_1, ec_cv1 dX2_door_29 iN_1_182 cna_1_182, vcE_o ccp_1_182_1, ec_istore dX2_door_32, ec_iload dX2_door_34, ec_iconst (v := (-1)) dX2_door_36 rfl, ec_icmp_ne (t := 46) dX2_door_37 rfl, ec_aload_n (i := 0) dX2_door_40 rfl, ec_iconst (v := nI 1) dX2_door_41 rfl, ec_cv1 dX2_door_42 iN_1_178 cna_1_178, ec_athrow dX2_door_45, ET_0 (thrP_a dX2_door_45), ec_aload_n (i := 0) dX2_door_46 rfl, ec_dup dX2_door_47, ec_get dX2_door_48, gw_1_156_1, ec_iconst (v := nI 1) dX2_door_51 rfl, ec_iadd dX2_door_52, ec_put dX2_door_53, pw_1_0_156_1, ec_aload_n (i := 0) dX2_door_56 rfl, ec_get dX2_door_57, ec_get dX2_door_60, gw_1_273_3, ec_iload_n (i := 1) dX2_door_63 rfl, ec_iload dX2_door_64, ec_iast dX2_door_66, isE_0, ec_aload_n (i := 0) dX2_door_67 rfl, ec_get dX2_door_68, ec_get dX2_door_71, gw_1_276_3, ec_iload_n (i := 1) dX2_door_74 rfl, ec_aload_n (i := 0) dX2_door_75 rfl, ec_ldcS dX2_door_76 rfl scp_72, ec_iconst (v := nI 0) dX2_door_78 rfl, ec_bipush (v := nI 99) dX2_door_79 rfl, ec_cv3 dX2_door_81 iN_1_260 cna_1_260, vcE_o ccp_1_260_1, ET_0 (thrP_c (o := 1) dX2_door_81 rfl), ec_iast dX2_door_84, ec_get dX2_door_86, ec_get dX2_door_89, gw_1_278_3, ec_lload_n (i := 2) dX2_door_92 rfl, ec_j21 dX2_door_93 iT_1_281, J_13, ec_cv1 dX2_door_96 iN_1_266 cna_1_266, vcE_o ccp_1_266_36, ec_pop dX2_door_99, ec_vret dX2_door_100, ec_aload_n (i := 0) dX4_doors_0 rfl, ec_get dX4_doors_1, gw_3_20_3, ec_cv0 dX4_doors_4 iN_3_47 cna_3_47, vcE_o ccp_3_47_36, ec_iret dX4_doors_7, ec_zret dX4_doors_7, cat1_i, cat1_r, cat1_u, catB_n, catB_i, catB_r, catB_l, catB_u, lg_0, lg_s, ldEI_i, ldEL_l, ldEA_r, ldEA_n, lin_0, lin_s, ls1_0, ls1_1, ls1_s, ls2_0, ls2_1, ls2_s, lcl_i, lcl_r, lcl_l, lcl_u, lcl_n, lent_i, lent_r, lent_l, lent_u, lent_0, lent_s, Option.toList_some, Option.toList_none, List.cons_append, List.nil_append, Nat.reduceAdd, true_and, vin_0, vin_s, aE_0, aE_s, EK_r, EK_t, List.set_cons_zero, List.set_cons_succ, va_rf_s, va_rf_n, pC_1, pC_21, aC_1, aC_21, gC_self, gC_new, eI_, eLg_, eV_, eInc_, eN_, eS_, eJ_, eCl_, nI_add, nI_mul, nI_subI, nI_clampI, inb_t, nI_lt0, nI_0le, nI_m1, nI_m1', nI_ofNat, bI_01, b01_0, b01_1, bI_eq0, bI_eq1, bb_01, true_or, or_true, false_or, or_false, eq_self, Nat.reduceAdd, Nat.reduceMul, Nat.reduceSub, Nat.reduceLT, Nat.reduceLeDiff, Nat.reduceEqDiff, ↓reduceIte, and_true, true_and, and_self, Nat.add_zero, Nat.zero_add, not_false_eq_true, not_true_eq_false, faV_n, faV_s, m1_lt0, m1_0le, m1_eq0, m1_le, le_m1, m1_lt, lt_m1, nI_100k, nI_100, upd_e, upd_n, pC_pC, gC_ne', gC_old', nI_lt_t, nI_lt_f, nI_le_t, nI_le_f, nI_eq_t, nI_eq_f, nI_eq0_t, nI_eq0_f, nI_0lt_t, nI_0lt_f, nI_le0_t, nI_le0_f, nI_eq1_t, nI_eq1_f, h1, r1', hl1, c_size hAL, nn', hx1, hx2, wh, wr, exE_ok]
        exact fin
      | some kd =>
        have hkd : kd < 6 := whW_lt hx2
        have hn3 := whW_nx E2 hx2
        rw [hx2] at hP
        obtain ⟨⟨⟨Fk, k1, k2⟩, k3⟩, ⟨Fn, m1, m2⟩, m3⟩ := id h3
        have lk := hw _ _ k1
        have lm := hw _ _ m1
        have E3 : RdE zs (rdP σ ra C (.ref lo) (bI g) fa tp (a + 3) dp) ra C all (.ref lo) (bI g) fa tp (a + 3) dp := hE.rp hn3
        have E4 : RdE zs (pC (rdP σ ra C (.ref lo) (bI g) fa tp (a + 3) dp) (lo + 5) (.inr (0, 5, .inl (upd Fk (qD q) (nI kd))))) ra C all (.ref lo) (bI g) fa tp (a + 3) dp := E3.dc b3 hC (by omega)
        have S4 : Fs (fun b => b = ra ∨ lo ≤ b) σ (pC (rdP σ ra C (.ref lo) (bI g) fa tp (a + 3) dp) (lo + 5) (.inr (0, 5, .inl (upd Fk (qD q) (nI kd))))) := (Fs.rf.p hE.1 (Or.inl rfl)).p (by rw [gC_ne (by omega)]; exact k1) (Or.inr (by omega))
        have w4 := S4.hw hw
        have nb := fun P => c_number_2 (e := e) (P := P) (i := 23) (lo := 0) (hi := 99) (by omega) (by omega) (by omega) (by omega) hZ w4 E4
        have nb' := nb
        unfold rdP rdF at nb'
        rw [show wdN 23 = 279252 from rfl] at nb'
        have hPw : ∀ r, StR zs all ra C tp lo σ a g (match pWN 279252 0 99 (all.drop (a + 3)) with
          | .error k => .error k
          | .ok (nr, t) => .ok (qAD q (vWd (all.drop (a + 1))) kd nr, t)) r → P r := hP
        unfold pWN at hPw
        cases hx3 : pWd 279252 (all.drop (a + 3)) with
        | error k =>
          rw [hx3] at hPw
          have fin := hPw _ (ErR.tr (S4.fr hw) (ErR.w (k := k) (S := fun b => b = ra ∨ lo ≤ b) w4 E4) (fun b z => Or.inr z) (by omega) (by omega))
          simp (disch := omega) only [ec_aload_n (i := 0) dX2_door_0 rfl, ec_get dX2_door_1, gw_1_191_1, ec_cv0 dX2_door_4 iN_1_270 cna_1_270, vcE_o ccp_1_270_3, ec_istore_n (i := 1) dX2_door_7 rfl, ec_iload_n (i := 1) dX2_door_8 rfl, ec_iconst (v := nI 5) dX2_door_9 rfl, ec_icmp_ne (t := 19) dX2_door_10 rfl, ec_aload_n (i := 0) dX2_door_13 rfl, ec_iconst (v := nI 5) dX2_door_14 rfl, ec_cv1 dX2_door_15 iN_1_178 cna_1_178, vcE_o ccp_1_178_1, ec_athrow dX2_door_18, ET_0 (thrP_a dX2_door_18), ec_aload_n (i := 0) dX2_door_19 rfl, ec_cv0 dX2_door_20 iN_1_244 cna_1_244, vcE_o ccp_1_244_1, ET_0 (thrP_c (o := 1) dX2_door_20 rfl), ec_lstore_n (i := 2) dX2_door_23 rfl, ec_aload_n (i := 0) dX2_door_24 rfl, ec_aload_n (i := 0) dX2_door_25 rfl, ec_get dX2_door_26, gw_1_61_1, ec_cv1 dX2_door_29 iN_1_182 cna_1_182, vcE_o ccp_1_182_1, ec_istore dX2_door_32, ec_iload dX2_door_34, ec_iconst (v := (-1)) dX2_door_36 rfl, ec_icmp_ne (t := 46) dX2_door_37 rfl, ec_aload_n (i := 0) dX2_door_40 rfl, ec_iconst (v := nI 1) dX2_door_41 rfl, ec_cv1 dX2_door_42 iN_1_178 cna_1_178, ec_athrow dX2_door_45, ET_0 (thrP_a dX2_door_45), ec_aload_n (i := 0) dX2_door_46 rfl, ec_dup dX2_door_47, ec_get dX2_door_48, gw_1_156_1, ec_iconst (v := nI 1) dX2_door_51 rfl, ec_iadd dX2_door_52, ec_put dX2_door_53, pw_1_0_156_1, ec_aload_n (i := 0) dX2_door_56 rfl, ec_get dX2_door_57, ec_get dX2_door_60, gw_1_273_3, ec_iload_n (i := 1) dX2_door_63 rfl, ec_iload dX2_door_64, ec_iast dX2_door_66, isE_0, ec_aload_n (i := 0) dX2_door_67 rfl, ec_get dX2_door_68, ec_get dX2_door_71, gw_1_276_3, ec_iload_n (i := 1) dX2_door_74 rfl, ec_aload_n (i := 0) dX2_door_75 rfl, ec_ldcS dX2_door_76 rfl scp_72, ec_iconst (v := nI 0) dX2_door_78 rfl, ec_bipush (v := nI 99) dX2_door_79 rfl, ec_cv3 dX2_door_81 iN_1_260 cna_1_260, vcE_o ccp_1_260_1, ET_0 (thrP_c (o := 1) dX2_door_81 rfl), ec_iast dX2_door_84, ec_get dX2_door_86, ec_get dX2_door_89, gw_1_278_3, ec_lload_n (i := 2) dX2_door_92 rfl, ec_j21 dX2_door_93 iT_1_281, J_13, ec_cv1 dX2_door_96 iN_1_266 cna_1_266, vcE_o ccp_1_266_36, ec_pop dX2_door_99, ec_vret dX2_door_100, ec_aload_n (i := 0) dX4_doors_0 rfl, ec_get dX4_doors_1, gw_3_20_3, ec_cv0 dX4_doors_4 iN_3_47 cna_3_47, vcE_o ccp_3_47_36, ec_iret dX4_doors_7, ec_zret dX4_doors_7, cat1_i, cat1_r, cat1_u, catB_n, catB_i, catB_r, catB_l, catB_u, lg_0, lg_s, ldEI_i, ldEL_l, ldEA_r, ldEA_n, lin_0, lin_s, ls1_0, ls1_1, ls1_s, ls2_0, ls2_1, ls2_s, lcl_i, lcl_r, lcl_l, lcl_u, lcl_n, lent_i, lent_r, lent_l, lent_u, lent_0, lent_s, Option.toList_some, Option.toList_none, List.cons_append, List.nil_append, Nat.reduceAdd, true_and, vin_0, vin_s, aE_0, aE_s, EK_r, EK_t, List.set_cons_zero, List.set_cons_succ, va_rf_s, va_rf_n, pC_1, pC_21, aC_1, aC_21, gC_self, gC_new, eI_, eLg_, eV_, eInc_, eN_, eS_, eJ_, eCl_, nI_add, nI_mul, nI_subI, nI_clampI, inb_t, nI_lt0, nI_0le, nI_m1, nI_m1', nI_ofNat, bI_01, b01_0, b01_1, bI_eq0, bI_eq1, bb_01, true_or, or_true, false_or, or_false, eq_self, Nat.reduceAdd, Nat.reduceMul, Nat.reduceSub, Nat.reduceLT, Nat.reduceLeDiff, Nat.reduceEqDiff, ↓reduceIte, and_true, true_and, and_self, Nat.add_zero, Nat.zero_add, not_false_eq_true, not_true_eq_false, faV_n, faV_s, m1_lt0, m1_0le, m1_eq0, m1_le, le_m1, m1_lt, lt_m1, nI_100k, nI_100, upd_e, upd_n, pC_pC, gC_ne', gC_old', nI_lt_t, nI_lt_f, nI_le_t, nI_le_f, nI_eq_t, nI_eq_f, nI_eq0_t, nI_eq0_f, nI_0lt_t, nI_0lt_f, nI_le0_t, nI_le0_f, nI_eq1_t, nI_eq1_f, h1, r1', hl1, c_size hAL, nn', hx1, hx2, hx3, wh, nb', k1, m1, gC_ne', exE_ok, exE_er]
          exact fin
        | ok t2 =>
          obtain ⟨rfl, hn4⟩ := pWd_v hx3 E4
          rw [hx3] at hPw
          have hPw : ∀ r, StR zs all ra C tp lo σ a g (match pNum 0 99 (all.drop (a + 4)) with
            | .error k => .error k
            | .ok (nr, t) => .ok (qAD q (vWd (all.drop (a + 1))) kd nr, t)) r → P r := hPw
          have E5 := E4.rp (dr' := .ref lo) (hg' := bI g) (fa' := fa) (tp' := tp) (dp' := dp) hn4
          have S5 : ∀ z, Fs (fun b => b = ra ∨ lo ≤ b) σ (rdP (pC (rdP σ ra C (.ref lo) (bI g) fa tp (a + 3) dp) (lo + 5) (.inr (0, 5, .inl (upd Fk (qD q) (nI kd))))) ra C (.ref lo) (bI g) fa tp z dp) := fun z => S4.p E4.1 (Or.inl rfl)
          cases hx4 : pNum 0 99 (all.drop (a + 4)) with
          | error k =>
            rw [hx4] at hPw
            have fin := hPw _ (ErR.tr ((S5 (a + 4)).fr hw) (ErR.w (k := k) (S := fun b => b = ra ∨ lo ≤ b) ((S5 (a + 4)).hw hw) E5) (fun b z => Or.inr z) (by omega) (by omega))
            simp (disch := omega) only [ec_aload_n (i := 0) dX2_door_0 rfl, ec_get dX2_door_1, gw_1_191_1, ec_cv0 dX2_door_4 iN_1_270 cna_1_270, vcE_o ccp_1_270_3, ec_istore_n (i := 1) dX2_door_7 rfl, ec_iload_n (i := 1) dX2_door_8 rfl, ec_iconst (v := nI 5) dX2_door_9 rfl, ec_icmp_ne (t := 19) dX2_door_10 rfl, ec_aload_n (i := 0) dX2_door_13 rfl, ec_iconst (v := nI 5) dX2_door_14 rfl, ec_cv1 dX2_door_15 iN_1_178 cna_1_178, vcE_o ccp_1_178_1, ec_athrow dX2_door_18, ET_0 (thrP_a dX2_door_18), ec_aload_n (i := 0) dX2_door_19 rfl, ec_cv0 dX2_door_20 iN_1_244 cna_1_244, vcE_o ccp_1_244_1, ET_0 (thrP_c (o := 1) dX2_door_20 rfl), ec_lstore_n (i := 2) dX2_door_23 rfl, ec_aload_n (i := 0) dX2_door_24 rfl, ec_aload_n (i := 0) dX2_door_25 rfl, ec_get dX2_door_26, gw_1_61_1, ec_cv1 dX2_door_29 iN_1_182 cna_1_182, vcE_o ccp_1_182_1, ec_istore dX2_door_32, ec_iload dX2_door_34, ec_iconst (v := (-1)) dX2_door_36 rfl, ec_icmp_ne (t := 46) dX2_door_37 rfl, ec_aload_n (i := 0) dX2_door_40 rfl, ec_iconst (v := nI 1) dX2_door_41 rfl, ec_cv1 dX2_door_42 iN_1_178 cna_1_178, ec_athrow dX2_door_45, ET_0 (thrP_a dX2_door_45), ec_aload_n (i := 0) dX2_door_46 rfl, ec_dup dX2_door_47, ec_get dX2_door_48, gw_1_156_1, ec_iconst (v := nI 1) dX2_door_51 rfl, ec_iadd dX2_door_52, ec_put dX2_door_53, pw_1_0_156_1, ec_aload_n (i := 0) dX2_door_56 rfl, ec_get dX2_door_57, ec_get dX2_door_60, gw_1_273_3, ec_iload_n (i := 1) dX2_door_63 rfl, ec_iload dX2_door_64, ec_iast dX2_door_66, isE_0, ec_aload_n (i := 0) dX2_door_67 rfl, ec_get dX2_door_68, ec_get dX2_door_71, gw_1_276_3, ec_iload_n (i := 1) dX2_door_74 rfl, ec_aload_n (i := 0) dX2_door_75 rfl, ec_ldcS dX2_door_76 rfl scp_72, ec_iconst (v := nI 0) dX2_door_78 rfl, ec_bipush (v := nI 99) dX2_door_79 rfl, ec_cv3 dX2_door_81 iN_1_260 cna_1_260, vcE_o ccp_1_260_1, ET_0 (thrP_c (o := 1) dX2_door_81 rfl), ec_iast dX2_door_84, ec_get dX2_door_86, ec_get dX2_door_89, gw_1_278_3, ec_lload_n (i := 2) dX2_door_92 rfl, ec_j21 dX2_door_93 iT_1_281, J_13, ec_cv1 dX2_door_96 iN_1_266 cna_1_266, vcE_o ccp_1_266_36, ec_pop dX2_door_99, ec_vret dX2_door_100, ec_aload_n (i := 0) dX4_doors_0 rfl, ec_get dX4_doors_1, gw_3_20_3, ec_cv0 dX4_doors_4 iN_3_47 cna_3_47, vcE_o ccp_3_47_36, ec_iret dX4_doors_7, ec_zret dX4_doors_7, cat1_i, cat1_r, cat1_u, catB_n, catB_i, catB_r, catB_l, catB_u, lg_0, lg_s, ldEI_i, ldEL_l, ldEA_r, ldEA_n, lin_0, lin_s, ls1_0, ls1_1, ls1_s, ls2_0, ls2_1, ls2_s, lcl_i, lcl_r, lcl_l, lcl_u, lcl_n, lent_i, lent_r, lent_l, lent_u, lent_0, lent_s, Option.toList_some, Option.toList_none, List.cons_append, List.nil_append, Nat.reduceAdd, true_and, vin_0, vin_s, aE_0, aE_s, EK_r, EK_t, List.set_cons_zero, List.set_cons_succ, va_rf_s, va_rf_n, pC_1, pC_21, aC_1, aC_21, gC_self, gC_new, eI_, eLg_, eV_, eInc_, eN_, eS_, eJ_, eCl_, nI_add, nI_mul, nI_subI, nI_clampI, inb_t, nI_lt0, nI_0le, nI_m1, nI_m1', nI_ofNat, bI_01, b01_0, b01_1, bI_eq0, bI_eq1, bb_01, true_or, or_true, false_or, or_false, eq_self, Nat.reduceAdd, Nat.reduceMul, Nat.reduceSub, Nat.reduceLT, Nat.reduceLeDiff, Nat.reduceEqDiff, ↓reduceIte, and_true, true_and, and_self, Nat.add_zero, Nat.zero_add, not_false_eq_true, not_true_eq_false, faV_n, faV_s, m1_lt0, m1_0le, m1_eq0, m1_le, le_m1, m1_lt, lt_m1, nI_100k, nI_100, upd_e, upd_n, pC_pC, gC_ne', gC_old', nI_lt_t, nI_lt_f, nI_le_t, nI_le_f, nI_eq_t, nI_eq_f, nI_eq0_t, nI_eq0_f, nI_0lt_t, nI_0lt_f, nI_le0_t, nI_le0_f, nI_eq1_t, nI_eq1_f, h1, r1', hl1, c_size hAL, nn', hx1, hx2, hx3, hx4, wh, nb', k1, m1, gC_ne', exE_ok, exE_er]
            exact fin
          | ok vt =>
            obtain ⟨nr, t3⟩ := vt
            rw [hx4] at hPw
            obtain ⟨rfl, hv, hn5⟩ := pNum_v hx4 E5
            have E6 : RdE zs (pC (rdP (pC (rdP σ ra C (.ref lo) (bI g) fa tp (a + 3) dp) (lo + 5) (.inr (0, 5, .inl (upd Fk (qD q) (nI kd))))) ra C (.ref lo) (bI g) fa tp (a + 5) dp) (lo + 6) (.inr (0, 5, .inl (upd Fn (qD q) (nI nr))))) ra C all (.ref lo) (bI g) fa tp (a + 5) dp := (E4.rp hn5).dc b3 hC (by omega)
            have S6 : Fs (fun b => b = ra ∨ lo ≤ b) σ (pC (rdP (pC (rdP σ ra C (.ref lo) (bI g) fa tp (a + 3) dp) (lo + 5) (.inr (0, 5, .inl (upd Fk (qD q) (nI kd))))) ra C (.ref lo) (bI g) fa tp (a + 5) dp) (lo + 6) (.inr (0, 5, .inl (upd Fn (qD q) (nI nr))))) := (S5 (a + 5)).p (by unfold rdP; rw [gC_ne (by omega), gC_ne (by omega), gC_ne (by omega)]; exact m1) (Or.inr (by omega))
            have K : ∀ b, b ≠ ra → b ≠ lo + 5 → b ≠ lo + 6 → gC (pC (rdP (pC (rdP σ ra C (.ref lo) (bI g) fa tp (a + 3) dp) (lo + 5) (.inr (0, 5, .inl (upd Fk (qD q) (nI kd))))) ra C (.ref lo) (bI g) fa tp (a + 5) dp) (lo + 6) (.inr (0, 5, .inl (upd Fn (qD q) (nI nr))))) b = gC σ b := fun b n1 n2 n3 => by
              unfold rdP
              rw [gC_ne n3, gC_ne n1, gC_ne n2, gC_ne n1]
            have g5 : gC (pC (rdP (pC (rdP σ ra C (.ref lo) (bI g) fa tp (a + 3) dp) (lo + 5) (.inr (0, 5, .inl (upd Fk (qD q) (nI kd))))) ra C (.ref lo) (bI g) fa tp (a + 5) dp) (lo + 6) (.inr (0, 5, .inl (upd Fn (qD q) (nI nr))))) (lo + 5) = some (.inr (0, 5, .inl (upd Fk (qD q) (nI kd)))) := by
              unfold rdP
              rw [gC_ne (by omega), gC_ne (by omega)]
              exact gC_self
            have Kk : ∀ t, t ≠ 9 → t ≠ 4 → Kd t w w σ (pC (rdP (pC (rdP σ ra C (.ref lo) (bI g) fa tp (a + 3) dp) (lo + 5) (.inr (0, 5, .inl (upd Fk (qD q) (nI kd))))) ra C (.ref lo) (bI g) fa tp (a + 5) dp) (lo + 6) (.inr (0, 5, .inl (upd Fn (qD q) (nI nr))))) := fun t t1 t2 b c hb => ⟨rfl, fun z => K b (fun y => by rw [y] at z; omega) (fun y => by rw [y] at z; omega) (fun y => by rw [y] at z; omega)⟩
            have D6 : DrP zs w lo ra (pC (rdP (pC (rdP σ ra C (.ref lo) (bI g) fa tp (a + 3) dp) (lo + 5) (.inr (0, 5, .inl (upd Fk (qD q) (nI kd))))) ra C (.ref lo) (bI g) fa tp (a + 5) dp) (lo + 6) (.inr (0, 5, .inl (upd Fn (qD q) (nI nr))))) q (qAD q (vWd (all.drop (a + 1))) kd nr) (a + 5) hd ch nd cn sd cs hx mx dx sx xl xe := by
              refine ⟨⟨(K lo (by omega) (by omega) (by omega)).trans r1, r2⟩, h1s.k (Kk 2 (by omega) (by omega)), h2.k (Kk 3 (by omega) (by omega)), ⟨⟨⟨_, g5, fun d hd => ?_⟩, k3⟩, ⟨_, gC_self, fun d hd => ?_⟩, m3⟩, h4.k (Kk 6 (by omega) (by omega)), h5s.k (Kk 2 (by omega) (by omega)), h6.k (Kk 7 (by omega) (by omega)), ⟨b1, b2, b3, b4⟩, c1, c2, c3, by omega⟩
              · have hd : d < qD q + 1 := hd
                show upd Fk (qD q) (nI kd) d = nI (upN (q.2.1 9) (qD q) kd d)
                by_cases hdd : d = qD q
                · subst hdd; rw [upN_s]; exact if_pos rfl
                · rw [upN_n hdd]; exact (if_neg hdd).trans (k2 d (by omega))
              · have hd : d < qD q + 1 := hd
                show upd Fn (qD q) (nI nr) d = nI (upN (q.2.1 10) (qD q) nr d)
                by_cases hdd : d = qD q
                · subst hdd; rw [upN_s]; exact if_pos rfl
                · rw [upN_n hdd]; exact (if_neg hdd).trans (m2 d (by omega))
            have LC6 : LgC zs (pC (rdP (pC (rdP σ ra C (.ref lo) (bI g) fa tp (a + 3) dp) (lo + 5) (.inr (0, 5, .inl (upd Fk (qD q) (nI kd))))) ra C (.ref lo) (bI g) fa tp (a + 5) dp) (lo + 6) (.inr (0, 5, .inl (upd Fn (qD q) (nI nr))))) := fun v v1 v2 => by
              have := hcb _ (lc_lt v1 v2)
              rw [K _ (fun z => by have := hLC v v1 v2; rw [z, hE.1] at this; cases this) (by omega) (by omega)]
              exact hLC v v1 v2
            have fin := c_dr_nm (zs := zs) (e := e) (n := qD q) (P := P) hcb (S6.hw hw) hC LC6 E6 (by omega) D6 (fun σ' w' F' E' D' => hPw (.inl none, σ') ⟨a + 5, σ', w', fa, dp, rfl, rfl, by omega, E', ((S6.fr hw).tn F' (fun b z => Or.inr (Or.inr z))).sub (fun _ _ z => z) (by omega) (by omega), D'⟩)
            unfold rdP rdF at fin
            simp (disch := omega) only [ec_aload_n (i := 0) dX2_door_0 rfl, ec_get dX2_door_1, gw_1_191_1, ec_cv0 dX2_door_4 iN_1_270 cna_1_270, vcE_o ccp_1_270_3, ec_istore_n (i := 1) dX2_door_7 rfl, ec_iload_n (i := 1) dX2_door_8 rfl, ec_iconst (v := nI 5) dX2_door_9 rfl, ec_icmp_ne (t := 19) dX2_door_10 rfl, ec_aload_n (i := 0) dX2_door_13 rfl, ec_iconst (v := nI 5) dX2_door_14 rfl, ec_cv1 dX2_door_15 iN_1_178 cna_1_178, vcE_o ccp_1_178_1, ec_athrow dX2_door_18, ET_0 (thrP_a dX2_door_18), ec_aload_n (i := 0) dX2_door_19 rfl, ec_cv0 dX2_door_20 iN_1_244 cna_1_244, vcE_o ccp_1_244_1, ET_0 (thrP_c (o := 1) dX2_door_20 rfl), ec_lstore_n (i := 2) dX2_door_23 rfl, ec_aload_n (i := 0) dX2_door_24 rfl, ec_aload_n (i := 0) dX2_door_25 rfl, ec_get dX2_door_26, gw_1_61_1, ec_cv1 dX2_door_29 iN_1_182 cna_1_182, vcE_o ccp_1_182_1, ec_istore dX2_door_32, ec_iload dX2_door_34, ec_iconst (v := (-1)) dX2_door_36 rfl, ec_icmp_ne (t := 46) dX2_door_37 rfl, ec_aload_n (i := 0) dX2_door_40 rfl, ec_iconst (v := nI 1) dX2_door_41 rfl, ec_cv1 dX2_door_42 iN_1_178 cna_1_178, ec_athrow dX2_door_45, ET_0 (thrP_a dX2_door_45), ec_aload_n (i := 0) dX2_door_46 rfl, ec_dup dX2_door_47, ec_get dX2_door_48, gw_1_156_1, ec_iconst (v := nI 1) dX2_door_51 rfl, ec_iadd dX2_door_52, ec_put dX2_door_53, pw_1_0_156_1, ec_aload_n (i := 0) dX2_door_56 rfl, ec_get dX2_door_57, ec_get dX2_door_60, gw_1_273_3, ec_iload_n (i := 1) dX2_door_63 rfl, ec_iload dX2_door_64, ec_iast dX2_door_66, isE_0, ec_aload_n (i := 0) dX2_door_67 rfl, ec_get dX2_door_68, ec_get dX2_door_71, gw_1_276_3, ec_iload_n (i := 1) dX2_door_74 rfl, ec_aload_n (i := 0) dX2_door_75 rfl, ec_ldcS dX2_door_76 rfl scp_72, ec_iconst (v := nI 0) dX2_door_78 rfl, ec_bipush (v := nI 99) dX2_door_79 rfl, ec_cv3 dX2_door_81 iN_1_260 cna_1_260, vcE_o ccp_1_260_1, ET_0 (thrP_c (o := 1) dX2_door_81 rfl), ec_iast dX2_door_84, ec_get dX2_door_86, ec_get dX2_door_89, gw_1_278_3, ec_lload_n (i := 2) dX2_door_92 rfl, ec_j21 dX2_door_93 iT_1_281, J_13, ec_cv1 dX2_door_96 iN_1_266 cna_1_266, vcE_o ccp_1_266_36, ec_pop dX2_door_99, ec_vret dX2_door_100, ec_aload_n (i := 0) dX4_doors_0 rfl, ec_get dX4_doors_1, gw_3_20_3, ec_cv0 dX4_doors_4 iN_3_47 cna_3_47, vcE_o ccp_3_47_36, ec_iret dX4_doors_7, ec_zret dX4_doors_7, cat1_i, cat1_r, cat1_u, catB_n, catB_i, catB_r, catB_l, catB_u, lg_0, lg_s, ldEI_i, ldEL_l, ldEA_r, ldEA_n, lin_0, lin_s, ls1_0, ls1_1, ls1_s, ls2_0, ls2_1, ls2_s, lcl_i, lcl_r, lcl_l, lcl_u, lcl_n, lent_i, lent_r, lent_l, lent_u, lent_0, lent_s, Option.toList_some, Option.toList_none, List.cons_append, List.nil_append, Nat.reduceAdd, true_and, vin_0, vin_s, aE_0, aE_s, EK_r, EK_t, List.set_cons_zero, List.set_cons_succ, va_rf_s, va_rf_n, pC_1, pC_21, aC_1, aC_21, gC_self, gC_new, eI_, eLg_, eV_, eInc_, eN_, eS_, eJ_, eCl_, nI_add, nI_mul, nI_subI, nI_clampI, inb_t, nI_lt0, nI_0le, nI_m1, nI_m1', nI_ofNat, bI_01, b01_0, b01_1, bI_eq0, bI_eq1, bb_01, true_or, or_true, false_or, or_false, eq_self, Nat.reduceAdd, Nat.reduceMul, Nat.reduceSub, Nat.reduceLT, Nat.reduceLeDiff, Nat.reduceEqDiff, ↓reduceIte, and_true, true_and, and_self, Nat.add_zero, Nat.zero_add, not_false_eq_true, not_true_eq_false, faV_n, faV_s, m1_lt0, m1_0le, m1_eq0, m1_le, le_m1, m1_lt, lt_m1, nI_100k, nI_100, upd_e, upd_n, pC_pC, gC_ne', gC_old', nI_lt_t, nI_lt_f, nI_le_t, nI_le_f, nI_eq_t, nI_eq_f, nI_eq0_t, nI_eq0_f, nI_0lt_t, nI_0lt_f, nI_le0_t, nI_le0_f, nI_eq1_t, nI_eq1_f, h1, r1', hl1, c_size hAL, nn', hx1, hx2, hx3, hx4, wh, nb', k1, m1, gC_ne', exE_ok]
            exact fin
end
