set_option maxRecDepth 100000
/-! THE COMPONENT's reader: histories -/
theorem trN_ng {L : List It} : trN L + ngN L = L.length := by
  induction L with
  | nil => rfl
  | cons x L ih =>
    unfold trN ngN at ih ⊢
    cases x <;> simp only [List.filter_cons, Option.isSome_none, Option.isNone_none, Option.isSome_some, Option.isNone_some, Bool.false_eq_true, if_false, if_true, List.length_cons] <;> omega
theorem trN_s {L : List It} {y : Nat × Nat × Bool} : trN (L ++ [some y]) = trN L + 1 ∧ ngN (L ++ [some y]) = ngN L := by
  unfold trN ngN
  rw [List.filter_append, List.filter_append, List.length_append, List.length_append]
  exact ⟨rfl, rfl⟩
theorem trN_n {L : List It} : trN (L ++ [none]) = trN L ∧ ngN (L ++ [none]) = ngN L + 1 := by
  unfold trN ngN
  rw [List.filter_append, List.filter_append, List.length_append, List.length_append]
  exact ⟨rfl, rfl⟩
/-- a try, without its end -/
def xTr (q : QT) (ts : List Tk) : Except Nat (It × List Tk) := match pHd q ts with
  | .error k => .error k
  | .ok h => (match pDr q ts.tail with
    | .error k => .error k
    | .ok d => (match whW hwL ts.tail.tail with
      | none => .error (erT 1 ts.tail.tail)
      | some w => .ok (some (h, d, decide (w = 1)), ts.tail.tail.tail)))
/-- the item, then its end -/
def hEnd (L : List It) (x : Except Nat (It × List Tk)) : Except Nat (List It × List Tk) := match x with
  | .error k => .error k
  | .ok (it, t) => (match pSg 59 t with
    | .error k => .error k
    | .ok t' => .ok (L ++ [it], t'))
theorem pTry_x {q : QT} {L : List It} {ts : List Tk} (h : trN L ≠ 24) : pTry q L ts = hEnd L (xTr q ts.tail) := by
  unfold pTry xTr
  rw [if_neg h]
  cases pHd q ts.tail with
  | error k => rfl
  | ok h =>
    show (match pDr q ts.tail.tail with
      | .error k => .error k
      | .ok d => (match whW hwL ts.tail.tail.tail with
        | none => .error (erT 1 ts.tail.tail.tail)
        | some w => (match pSg 59 ts.tail.tail.tail.tail with
          | .error k => .error k
          | .ok t => .ok (L ++ [some (h, d, decide (w = 1))], t)))) = hEnd L (match pDr q ts.tail.tail with
      | .error k => .error k
      | .ok d => (match whW hwL ts.tail.tail.tail with
        | none => .error (erT 1 ts.tail.tail.tail)
        | some w => .ok (some (h, d, decide (w = 1)), ts.tail.tail.tail.tail)))
    cases pDr q ts.tail.tail with
    | error k => rfl
    | ok d => cases whW hwL ts.tail.tail.tail <;> rfl
theorem pNgt_x {L : List It} {ts : List Tk} (h : ngN L ≠ 12) : pNgt L ts = hEnd L (.ok (none, ts.tail)) := by
  unfold pNgt
  rw [if_neg h]
  rfl
def pH (q : QT) (f : Nat) (y : Except Nat (List It × List Tk)) : Except Nat (List It) := match y with
  | .error k => .error k
  | .ok (L, t) => pHis q f L t
theorem pHis_s {q : QT} {f : Nat} {L : List It} {ts : List Tk} : pHis q (f + 1) L ts = if (hdT ts).1 = 0 then .ok L else pH q f (if isW 15091 ts = true then pTry q L ts else if isW 7622660 ts = true then pNgt L ts else .error (erT 1 ts)) := rfl
theorem pH_ok {q : QT} {f : Nat} {L : List It} {it : It} {t : List Tk} : pH q f (hEnd L (.ok (it, t))) = match pSg 59 t with
    | .error k => .error k
    | .ok t' => pHis q f (L ++ [it]) t' := by
  show pH q f (match pSg 59 t with
    | .error k => .error k
    | .ok t' => .ok (L ++ [it], t')) = _
  cases pSg 59 t <;> rfl
/-- the list as it grows -/
def HsO (lo : Nat) (σ : CM) (L : List It) (da cap : Nat) (x : Nat → Nat) : Prop := ALm σ lo da L.length cap x ∧ (lo ≤ da ∧ 0 < cap ∧ cap ≤ 2 * L.length + 10) ∧ ∀ i, i < L.length → gC σ (x i) = some (.inl (28, trF (L.getD i none))) ∧ lo ≤ x i
section
variable {zs : Nat → Nat} {e : Nat} {σ σ' : CM} {P : CR → Prop} {ra lo : Nat} {C : Nat → Nat} {all : List Tk} {dr : Value} {hg : Int32} {fa : Nat} {tp : Int32} {a dp qa : Nat} {q : QT} {L : List It} {da cap : Nat} {x : Nat → Nat}
theorem HsO.fr {c m : Nat} (h : HsO lo σ L da cap x) (hw : HW σ) (hF : Fr (fun b => b = ra) c m σ σ') (hr : ra < lo) : HsO lo σ' L da cap x := by
  obtain ⟨h1, ⟨h2, h3⟩, h4⟩ := h
  exact ⟨h1.fr hw hF (fun z => by have z : lo = ra := z; omega) (fun z => by have z : da = ra := z; omega) (fun i hi z => by have z : x i = ra := z; have := (h4 i hi).2; omega), ⟨h2, h3⟩, fun i hi => ⟨hF.g (hw _ _ (h4 i hi).1) (fun z => by have z : x i = ra := z; have := (h4 i hi).2; omega) (h4 i hi).1, (h4 i hi).2⟩⟩
/-- the item is added -/
theorem c_hs_ad {it : It} {y : Nat} (hw : HW σ) (h : HsO lo σ L da cap x) (hL : L.length ≤ 36) (hy : gC σ y = some (.inl (28, trF it))) (hyl : lo ≤ y) (hP : ∀ σ' da' cap' x', Fr (fun b => lo ≤ b) 1 200 σ σ' → HsO lo σ' (L ++ [it]) da' cap' x' → P (.inl (some (.int (nI 1))), σ')) : EC zs (Jc zs) (e + 4) cJ2_add (some .boolean) 36 0 0 [some (.ref lo), some (.ref y)] [] σ P := by
  obtain ⟨h1, ⟨h2, h3, h3'⟩, h4⟩ := h
  obtain ⟨mc, ff, L1, L2, -⟩ := id h1
  have ny : y ≠ lo ∧ y ≠ da := ⟨(fun z => by rw [z, L1] at hy; cases hy), (fun z => by rw [z, L2] at hy; cases hy)⟩
  have nx : ∀ i, i < L.length → x i ≠ lo ∧ x i ≠ da := fun i hi => ⟨(fun z => by have := (h4 i hi).1; rw [z, L1] at this; cases this), (fun z => by have := (h4 i hi).1; rw [z, L2] at this; cases this)⟩
  refine c_add h1 (by omega) (Or.inl ⟨_, hy⟩) hw (fun z => by omega) ny nx (fun σ' hA => ?_)
  obtain ⟨d', cap', F, A', hc⟩ := hA
  have kp : ∀ b c, gC σ b = some c → b ≠ lo → b ≠ da → gC σ' b = some c := fun b c hb n1 n2 => F.g (hw _ _ hb) (fun z => by rcases z with z | z; exact n1 z; exact n2 z.1) hb
  have hll := hw _ _ L1
  refine hP σ' d' cap' _ (F.sub (fun b _ z => by show lo ≤ b; rcases z with z | z <;> omega) (by omega) (by omega)) ⟨by rw [List.length_append]; exact A', ⟨by rcases hc with hc | hc <;> omega, by rcases hc with hc | hc <;> omega, by rw [List.length_append]; show cap' ≤ 2 * (L.length + 1) + 10; rcases hc with hc | hc <;> omega⟩, fun i hi => ?_⟩
  rw [List.length_append] at hi
  have hi : i < L.length + 1 := hi
  show gC σ' (if i = L.length then y else x i) = some (.inl (28, trF ((L ++ [it]).getD i none))) ∧ lo ≤ (if i = L.length then y else x i)
  by_cases he : i = L.length
  · subst he
    rw [if_pos rfl, List.getD_eq_getElem?_getD, List.getElem?_append_right (Nat.le_refl _), Nat.sub_self]
    exact ⟨kp _ _ hy ny.1 ny.2, hyl⟩
  · rw [if_neg he, List.getD_eq_getElem?_getD, List.getElem?_append_left (by omega), ← List.getD_eq_getElem?_getD]
    have := nx i (by omega)
    exact ⟨kp _ _ (h4 i (by omega)).1 this.1 this.2, (h4 i (by omega)).2⟩
theorem c_trNew {h d o : Int32} (ho : o = 0 ∨ o = 1) : EC zs (Jc zs) (e + 1) cX40_init none 28 9 0 [some (.ref σ.1), some (.int h), some (.int d), some (.int o)] [] (aC σ 3 (.inl (28, [.int 0, .int 0, .int 0]))) P ↔ P (.inl none, aC σ 3 (.inl (28, [.int h, .int d, .int o]))) := by
  have e1 : ∀ c, gC (aC σ 3 c) σ.1 = some c := fun c => gC_new
  have ho' : (o = 0 ∨ o = 1) = True := eq_true ho
  simp (disch := omega) only [ec_aload_n (i := 0) dX40_init_0 rfl, ec_j11 dX40_init_1 iT_28_1, J_1, ec_aload_n (i := 0) dX40_init_4 rfl, ec_iload_n (i := 1) dX40_init_5 rfl, ec_put dX40_init_6, pw_28_9_7_28, ec_aload_n (i := 0) dX40_init_9 rfl, ec_iload_n (i := 2) dX40_init_10 rfl, ec_put dX40_init_11, pw_28_9_13_28, ec_aload_n (i := 0) dX40_init_14 rfl, ec_iload_n (i := 3) dX40_init_15 rfl, ec_put dX40_init_16, pw_28_9_16_28, ec_vret dX40_init_19, cat1_i, cat1_r, cat1_u, catB_n, catB_i, catB_r, catB_l, catB_u, lg_0, lg_s, ldEI_i, ldEL_l, ldEA_r, ldEA_n, lin_0, lin_s, ls1_0, ls1_1, ls1_s, ls2_0, ls2_1, ls2_s, lcl_i, lcl_r, lcl_l, lcl_u, lcl_n, lent_i, lent_r, lent_l, lent_u, lent_0, lent_s, Option.toList_some, Option.toList_none, List.cons_append, List.nil_append, Nat.reduceAdd, true_and, vin_0, vin_s, aE_0, aE_s, EK_r, EK_t, List.set_cons_zero, List.set_cons_succ, va_rf_s, va_rf_n, pC_1, pC_21, aC_1, aC_21, gC_self, gC_new, eI_, eLg_, eV_, eInc_, eN_, eS_, eJ_, eCl_, nI_add, nI_mul, nI_subI, nI_clampI, inb_t, nI_lt0, nI_0le, nI_m1, nI_m1', nI_ofNat, bI_01, b01_0, b01_1, bI_eq0, bI_eq1, bb_01, true_or, or_true, false_or, or_false, eq_self, Nat.reduceAdd, Nat.reduceMul, Nat.reduceSub, Nat.reduceLT, Nat.reduceLeDiff, Nat.reduceEqDiff, ↓reduceIte, and_true, true_and, and_self, Nat.add_zero, Nat.zero_add, not_false_eq_true, not_true_eq_false, faV_n, faV_s, m1_lt0, m1_0le, m1_eq0, m1_le, le_m1, m1_lt, lt_m1, nI_100k, nI_100, upd_e, upd_n, pC_pC, gC_ne', gC_old', nI_lt_t, nI_lt_f, nI_le_t, nI_le_f, nI_eq_t, nI_eq_f, nI_eq0_t, nI_eq0_f, nI_0lt_t, nI_0lt_f, nI_le0_t, nI_le0_f, nI_eq1_t, nI_eq1_f, e1, aC_pC, ho']
end
