set_option maxRecDepth 100000
/-! THE COMPONENT's reader: all statements of a quarter -/
def QSb (q : QT) : Prop := ∀ k, k < qS q → qA q k < 5 ∧ qB q k < 5
def stE (g : Bool) (x : Except Nat (QT × List Tk)) : Except Nat ((QT × Bool) × List Tk) := match xEnd x with
  | .error k => .error k
  | .ok (q, t) => .ok ((q, g), t)
def pQ (f : Nat) (y : Except Nat ((QT × Bool) × List Tk)) : Except Nat QT := match y with
  | .error k => .error k
  | .ok ((q, g), t) => pQrs f q g t
theorem pQ_ok {f : Nat} {g : Bool} {q : QT} {t : List Tk} : pQ f (stE g (.ok (q, t))) = match pSg 59 t with
    | .error k => .error k
    | .ok t' => pQrs f q g t' := by
  show pQ f (match pEnd q t with
    | .error k => .error k
    | .ok (q, t) => .ok ((q, g), t)) = _
  unfold pEnd
  cases pSg 59 t <;> rfl
theorem pQrs_s {f : Nat} {q : QT} {g : Bool} {ts : List Tk} : pQrs (f + 1) q g ts = if (hdT ts).1 = 0 then .ok q else pQ f (pStm q g ts) := by
  rfl
theorem pStm_hand {q : QT} {g : Bool} {ts : List Tk}  (h0 : isW 158575 ts = true) : pStm q g ts = stE g (xHand q ts) := by
  unfold pStm
  rw [if_pos h0, pHand_x]
  rfl
theorem pStm_door {q : QT} {g : Bool} {ts : List Tk} (h0 : isW 158575 ts = false) (h1 : isW 90090 ts = true) : pStm q g ts = stE g (xDoor q ts) := by
  unfold pStm
  rw [if_neg (by rw [h0]; decide), if_pos h1, pDoor_x]
  rfl
theorem pStm_street {q : QT} {g : Bool} {ts : List Tk} (h0 : isW 158575 ts = false) (h1 : isW 90090 ts = false) (h2 : isW 283616147 ts = true) : pStm q g ts = stE g (xStr q ts) := by
  unfold pStm
  rw [if_neg (by rw [h0]; decide), if_neg (by rw [h1]; decide), if_pos h2, pStr_x]
  rfl
theorem pStm_gossip {q : QT} {g : Bool} {ts : List Tk} (h0 : isW 158575 ts = false) (h1 : isW 90090 ts = false) (h2 : isW 283616147 ts = false) (h3 : isW 108802051 ts = true) : pStm q g ts = stE true (xGos q g ts) := by
  unfold pStm
  rw [if_neg (by rw [h0]; decide), if_neg (by rw [h1]; decide), if_neg (by rw [h2]; decide), if_pos h3, pGos_x]
  rfl
theorem pStm_guard {q : QT} {g : Bool} {ts : List Tk} (h0 : isW 158575 ts = false) (h1 : isW 90090 ts = false) (h2 : isW 283616147 ts = false) (h3 : isW 108802051 ts = false) (h4 : isW 4134649 ts = true) : pStm q g ts = stE g (xGrd q ts) := by
  unfold pStm
  rw [if_neg (by rw [h0]; decide), if_neg (by rw [h1]; decide), if_neg (by rw [h2]; decide), if_neg (by rw [h3]; decide), if_pos h4, pGrd_x]
  rfl
theorem pStm_learn {q : QT} {g : Bool} {ts : List Tk} (h0 : isW 158575 ts = false) (h1 : isW 90090 ts = false) (h2 : isW 283616147 ts = false) (h3 : isW 108802051 ts = false) (h4 : isW 4134649 ts = false) (h5 : isW 6476936 ts = true) : pStm q g ts = stE g (xLaw q 0 ts) := by
  unfold pStm
  rw [if_neg (by rw [h0]; decide), if_neg (by rw [h1]; decide), if_neg (by rw [h2]; decide), if_neg (by rw [h3]; decide), if_neg (by rw [h4]; decide), if_pos h5, pLaw_x]
  rfl
theorem pStm_feel {q : QT} {g : Bool} {ts : List Tk} (h0 : isW 158575 ts = false) (h1 : isW 90090 ts = false) (h2 : isW 283616147 ts = false) (h3 : isW 108802051 ts = false) (h4 : isW 4134649 ts = false) (h5 : isW 6476936 ts = false) (h6 : isW 121890 ts = true) : pStm q g ts = stE g (xLaw q 1 ts) := by
  unfold pStm
  rw [if_neg (by rw [h0]; decide), if_neg (by rw [h1]; decide), if_neg (by rw [h2]; decide), if_neg (by rw [h3]; decide), if_neg (by rw [h4]; decide), if_neg (by rw [h5]; decide), if_pos h6, pLaw_x]
  rfl
theorem pStm_no {q : QT} {g : Bool} {ts : List Tk} (h0 : isW 158575 ts = false) (h1 : isW 90090 ts = false) (h2 : isW 283616147 ts = false) (h3 : isW 108802051 ts = false) (h4 : isW 4134649 ts = false) (h5 : isW 6476936 ts = false) (h6 : isW 121890 ts = false) : pStm q g ts = .error (erT 1 ts) := by
  unfold pStm
  rw [if_neg (by rw [h0]; decide), if_neg (by rw [h1]; decide), if_neg (by rw [h2]; decide), if_neg (by rw [h3]; decide), if_neg (by rw [h4]; decide), if_neg (by rw [h5]; decide), if_neg (by rw [h6]; decide)]
/-- what the reading of a quarter leaves -/
def QrR (zs : Nat → Nat) (all : List Tk) (ra : Nat) (C : Nat → Nat) (tp : Int32) (lo : Nat) (σ : CM) (a : Nat) (x : Except Nat QT) (r : CR) : Prop := match x with
  | .error k => ErR zs σ ra C tp (fun b => b = ra ∨ lo ≤ b) (8 * (all.length - a)) (2100 * (all.length - a)) k r
  | .ok q => ∃ a' σ' w g fa dp, r = (.inl (some (.ref lo)), σ') ∧ RdE zs σ' ra C all (.ref lo) (bI g) fa tp a' dp ∧ Fr (fun b => b = ra ∨ lo ≤ b) (8 * (all.length - a)) (2100 * (all.length - a)) σ σ' ∧ DrO zs w lo ra σ' q a' ∧ QSb q
section
variable {zs w : Nat → Nat} {e : Nat} {σ σ1 : CM} {P : CR → Prop} {ra lo : Nat} {C : Nat → Nat} {all : List Tk} {hg : Int32} {fa : Nat} {tp : Int32} {a dp : Nat} {q : QT} {g : Bool} {dr : Value}
theorem QrR.tr {x : Except Nat QT} {r : CR} {c m a1 : Nat} (hF : Fr (fun b => b = ra ∨ lo ≤ b) c m σ σ1) (h : QrR zs all ra C tp lo σ1 a1 x r) (ha : a ≤ a1) (hl : a1 < all.length) (hc : c ≤ 8 * (a1 - a)) (hm : m ≤ 2100 * (a1 - a)) : QrR zs all ra C tp lo σ a x r := by
  cases x with
  | error k => exact ErR.tr hF h (fun b z => Or.inr z) (by omega) (by omega)
  | ok q =>
    obtain ⟨a', σ', w', g', fa', dp', h1, h2, h3, h4⟩ := h
    exact ⟨a', σ', w', g', fa', dp', h1, h2, (hF.tr h3).sub (fun _ _ z => z) (by omega) (by omega), h4⟩
theorem LgC.fr {c m : Nat} (h : LgC zs σ) (hw : HW σ) (hF : Fr (fun b => b = ra ∨ lo ≤ b) c m σ σ1) (hcb : ∀ i, i < 256 → zs (200 + i) < lo) (hE : RdE zs σ ra C all dr hg fa tp a dp) : LgC zs σ1 := fun v v1 v2 => by
  have h0 := h v v1 v2
  exact hF.g (hw _ _ h0) (fun z => by
    rcases z with z | z
    · rw [z, hE.1] at h0; cases h0
    · have := hcb _ (lc_lt v1 v2); omega) h0
theorem xGos_b {q' : QT} {ts t : List Tk} (h : xGos q g ts = .ok (q', t)) (hQ : QSb q) : QSb q' := by
  unfold xGos at h
  split at h
  · cases h
  · split at h
    · cases h
    · cases h; exact hQ
theorem xGrd_b {q' : QT} {ts t : List Tk} (h : xGrd q ts = .ok (q', t)) (hQ : QSb q) : QSb q' := by
  unfold xGrd at h
  split at h
  · cases h
  · split at h
    · cases h
    · split at h
      · cases h
      · cases h; exact hQ
theorem xLaw_b {q' : QT} {ln : Nat} {ts t : List Tk} (h : xLaw q ln ts = .ok (q', t)) (hQ : QSb q) : QSb q' := by
  unfold xLaw at h
  split at h
  · cases h
  · split at h
    · cases h
    · cases h; exact hQ
theorem xDoor_b {q' : QT} {ts t : List Tk} (h : xDoor q ts = .ok (q', t)) (hQ : QSb q) : QSb q' := by
  unfold xDoor at h
  split at h
  · cases h
  · split at h
    · cases h
    · split at h
      · cases h
      · split at h
        · cases h
        · cases h; exact hQ
theorem xHand_b {q' : QT} {ts t : List Tk} (h : xHand q ts = .ok (q', t)) (hQ : QSb q) : QSb q' := by
  unfold xHand at h
  split at h
  · cases h
  · split at h
    · cases h
    · split at h
      · cases h
      · split at h
        · cases h
        · split at h
          · cases h
          · split at h
            · cases h
            · cases h; exact hQ
theorem pDr_lt {ts : List Tk} {d : Nat} (h : pDr q ts = .ok d) : d < qD q := by
  unfold pDr at h
  split at h
  · split at h
    · rename_i h2
      cases h
      exact fnd_lt h2
    · cases h
  · cases h
theorem xStr_b {q' : QT} {ts t : List Tk} (h5 : qD q ≤ 5) (h : xStr q ts = .ok (q', t)) (hQ : QSb q) : QSb q' := by
  unfold xStr at h
  cases hx : pDr q ts.tail with
  | error k => rw [hx] at h; cases h
  | ok x =>
    rw [hx] at h
    cases hy : pDr q ts.tail.tail with
    | error k => rw [hy] at h; cases h
    | ok y =>
      rw [hy] at h
      have h : (if x = y ∨ hasS q x y (qS q) = true then (.error (erT 3 ts.tail.tail) : Except Nat (QT × List Tk)) else .ok (qC (qV (qV q 7 (qS q) x) 8 (qS q) y) 2 (qS q + 1), ts.tail.tail.tail)) = .ok (q', t) := h
      split at h
      · cases h
      · rename_i hne
        cases h
        have := pDr_lt hx
        have := pDr_lt hy
        intro k hk
        have hk : k < qS q + 1 := hk
        show upN (q.2.1 7) (qS q) x k < 5 ∧ upN (q.2.1 8) (qS q) y k < 5
        by_cases hkk : k = qS q
        · rw [hkk, upN_s, upN_s]; omega
        · rw [upN_n hkk, upN_n hkk]; exact hQ k (by omega)
theorem c_qr_lo (hZ : ZS zs) (hB : TkB all) (hcb : ∀ i, i < 256 → zs (200 + i) < lo) (hC : ∀ k, k < 10 → k ≠ 6 → C k < lo) : ∀ (f : Nat) (σ : CM) (a : Nat) (q : QT) (g : Bool) (w : Nat → Nat) (fa dp : Nat), all.length - a ≤ f → HW σ → LgC zs σ → RdE zs σ ra C all (.ref lo) (bI g) fa tp a dp → DrO zs w lo ra σ q a → QSb q → (∀ r, QrR zs all ra C tp lo σ a (pQrs f q g (all.drop a)) r → P r) → EC zs (Jc zs) (e + 41) cX2_quarter (some (.object "KnowLocks$Quarter")) 1 0 20 [some (.ref ra)] [] σ P
  | 0, σ, a, q, g, w, fa, dp, hf, hw, hLC, hE, hD, hQ, hP => by have := hE.le; omega
  | f + 1, σ, a, q, g, w, fa, dp, hf, hw, hLC, hE, hD, hQ, hP => by
    obtain ⟨⟨l0, l1, l2, l3⟩, ⟨F, f1, f2⟩, -, -⟩ := hE.x
    have hle := hE.le
    have h1 := hE.1
    unfold rdF at h1
    have h5 : qD q ≤ 5 := hD.nm.1.2
    rw [pQrs_s, hd_drop] at hP
    have tl : ∀ (q' : QT) (g' : Bool) (a' : Nat) (σ' : CM) (w' : Nat → Nat) (fa' dp' : Nat), a < a' → RdE zs σ' ra C all (.ref lo) (bI g') fa' tp a' dp' → Fr (fun b => b = ra ∨ lo ≤ b) (8 * (a' - a)) (2100 * (a' - a)) σ σ' → DrO zs w' lo ra σ' q' a' → QSb q' → (∀ r, QrR zs all ra C tp lo σ a (match pSg 59 (all.drop a') with
        | .error k => .error k
        | .ok t' => pQrs f q' g' t') r → P r) → EC zs (Jc zs) (e + 41) cX2_quarter (some (.object "KnowLocks$Quarter")) 1 0 150 [some (.ref ra)] [] σ' P := by
      intro q' g' a' σ' w' fa' dp' ha' hE' hF' hD' hQ' hP2
      have w2 := hF'.2.2.2
      have h1' := hE'.1
      have hle' := hE'.le
      have sg := fun P => c_sign (e := e + 38) (P := P) (c := 59) (by omega) w2 hE'
      cases hgg : isG 59 (all.drop a') with
      | false =>
        have hps : pSg 59 (all.drop a') = .error (erT 1 (all.drop a')) := by unfold pSg; rw [hgg]; rfl
        rw [hps] at hP2
        have fin := hP2 _ (ErR.tr hF' (ErR.w (k := erT 1 (all.drop a')) (S := fun b => b = ra ∨ lo ≤ b) w2 hE') (fun b z => Or.inr z) (by omega) (by omega))
        simp (disch := omega) only [ec_aload_n (i := 0) dX2_quarter_150 rfl, ec_bipush (v := nI 59) dX2_quarter_151 rfl, ec_cv1 dX2_quarter_153 iN_1_213 cna_1_213, vcE_o ccp_1_213_1, ET_0 (thrP_c (o := 1) dX2_quarter_153 rfl), cat1_i, cat1_r, cat1_u, catB_n, catB_i, catB_r, catB_l, catB_u, lg_0, lg_s, ldEI_i, ldEL_l, ldEA_r, ldEA_n, lin_0, lin_s, ls1_0, ls1_1, ls1_s, ls2_0, ls2_1, ls2_s, lcl_i, lcl_r, lcl_l, lcl_u, lcl_n, lent_i, lent_r, lent_l, lent_u, lent_0, lent_s, Option.toList_some, Option.toList_none, List.cons_append, List.nil_append, Nat.reduceAdd, true_and, vin_0, vin_s, aE_0, aE_s, EK_r, EK_t, List.set_cons_zero, List.set_cons_succ, va_rf_s, va_rf_n, pC_1, pC_21, aC_1, aC_21, gC_self, gC_new, eI_, eLg_, eV_, eInc_, eN_, eS_, eJ_, eCl_, nI_add, nI_mul, nI_subI, nI_clampI, inb_t, nI_lt0, nI_0le, nI_m1, nI_m1', nI_ofNat, bI_01, b01_0, b01_1, bI_eq0, bI_eq1, bb_01, true_or, or_true, false_or, or_false, eq_self, Nat.reduceAdd, Nat.reduceMul, Nat.reduceSub, Nat.reduceLT, Nat.reduceLeDiff, Nat.reduceEqDiff, ↓reduceIte, and_true, true_and, and_self, Nat.add_zero, Nat.zero_add, not_false_eq_true, not_true_eq_false, faV_n, faV_s, m1_lt0, m1_0le, m1_eq0, m1_le, le_m1, m1_lt, lt_m1, nI_100k, nI_100, upd_e, upd_n, pC_pC, gC_ne', gC_old', nI_lt_t, nI_lt_f, nI_le_t, nI_le_f, nI_eq_t, nI_eq_f, nI_eq0_t, nI_eq0_f, nI_0lt_t, nI_0lt_f, nI_le0_t, nI_le0_f, nI_eq1_t, nI_eq1_f, h1', sg, hps, exE_er]
        exact fin
      | true =>
        have hps : pSg 59 (all.drop a') = .ok (all.drop (a' + 1)) := by unfold pSg; rw [hgg, tl_drop]; rfl
        rw [hps] at hP2
        have hn' := isG_nx hE' hgg
        have E5 : RdE zs (rdP σ' ra C (.ref lo) (bI g') fa' tp (a' + 1) dp') ra C all (.ref lo) (bI g') fa' tp (a' + 1) dp' := hE'.rp hn'
        have S5 : Fs (fun b => b = ra ∨ lo ≤ b) σ' (rdP σ' ra C (.ref lo) (bI g') fa' tp (a' + 1) dp') := hE'.fs (Or.inl rfl)
        have F5 := hF'.n S5 (fun b z => Or.inr z)
        have D5 : DrO zs w' lo ra (rdP σ' ra C (.ref lo) (bI g') fa' tp (a' + 1) dp') q' (a' + 1) := by
          have b2 : w' ra = 9 := by
            obtain ⟨hd, ch, nd, cn, sd, cs, hx, mx, dx, sx, xl, xe, -, -, -, -, -, -, -, ⟨-, b2, -⟩, -⟩ := hD'
            exact b2
          exact hD'.k (fun b c hb h9 => gC_ne (fun y => by rw [y] at h9; exact h9 b2)) (Nat.le_refl _) (by omega)
        have fin := c_qr_lo hZ hB hcb hC f _ (a' + 1) q' g' w' fa' dp' (by omega) F5.2.2.2 (hLC.fr hw F5 hcb hE) E5 D5 hQ' (fun r hr => hP2 r (QrR.tr F5 hr (by omega) hn' (by omega) (by omega)))
        simp (disch := omega) only [ec_aload_n (i := 0) dX2_quarter_150 rfl, ec_bipush (v := nI 59) dX2_quarter_151 rfl, ec_cv1 dX2_quarter_153 iN_1_213 cna_1_213, vcE_o ccp_1_213_1, ET_0 (thrP_c (o := 1) dX2_quarter_153 rfl), ec_goto (t := 20) dX2_quarter_156 rfl, cat1_i, cat1_r, cat1_u, catB_n, catB_i, catB_r, catB_l, catB_u, lg_0, lg_s, ldEI_i, ldEL_l, ldEA_r, ldEA_n, lin_0, lin_s, ls1_0, ls1_1, ls1_s, ls2_0, ls2_1, ls2_s, lcl_i, lcl_r, lcl_l, lcl_u, lcl_n, lent_i, lent_r, lent_l, lent_u, lent_0, lent_s, Option.toList_some, Option.toList_none, List.cons_append, List.nil_append, Nat.reduceAdd, true_and, vin_0, vin_s, aE_0, aE_s, EK_r, EK_t, List.set_cons_zero, List.set_cons_succ, va_rf_s, va_rf_n, pC_1, pC_21, aC_1, aC_21, gC_self, gC_new, eI_, eLg_, eV_, eInc_, eN_, eS_, eJ_, eCl_, nI_add, nI_mul, nI_subI, nI_clampI, inb_t, nI_lt0, nI_0le, nI_m1, nI_m1', nI_ofNat, bI_01, b01_0, b01_1, bI_eq0, bI_eq1, bb_01, true_or, or_true, false_or, or_false, eq_self, Nat.reduceAdd, Nat.reduceMul, Nat.reduceSub, Nat.reduceLT, Nat.reduceLeDiff, Nat.reduceEqDiff, ↓reduceIte, and_true, true_and, and_self, Nat.add_zero, Nat.zero_add, not_false_eq_true, not_true_eq_false, faV_n, faV_s, m1_lt0, m1_0le, m1_eq0, m1_le, le_m1, m1_lt, lt_m1, nI_100k, nI_100, upd_e, upd_n, pC_pC, gC_ne', gC_old', nI_lt_t, nI_lt_f, nI_le_t, nI_le_f, nI_eq_t, nI_eq_f, nI_eq0_t, nI_eq0_f, nI_0lt_t, nI_0lt_f, nI_le0_t, nI_le0_f, nI_eq1_t, nI_eq1_f, h1', sg, hps, exE_ok]
        exact fin
    have fi := fun P i (h : i < 37) (h' : i ≠ 34) => c_isWord (e := e + 39) (P := P) (i := i) hE hZ h h' (wdN_lt _ h)
    have i0 := fun P => fi P 19 (by omega) (by omega)
    rw [show wdN 19 = 158575 from rfl] at i0
    have i1 := fun P => fi P 22 (by omega) (by omega)
    rw [show wdN 22 = 90090 from rfl] at i1
    have i2 := fun P => fi P 24 (by omega) (by omega)
    rw [show wdN 24 = 283616147 from rfl] at i2
    have i3 := fun P => fi P 25 (by omega) (by omega)
    rw [show wdN 25 = 108802051 from rfl] at i3
    have i4 := fun P => fi P 26 (by omega) (by omega)
    rw [show wdN 26 = 4134649 from rfl] at i4
    have i5 := fun P => fi P 28 (by omega) (by omega)
    rw [show wdN 28 = 6476936 from rfl] at i5
    have i6 := fun P => fi P 29 (by omega) (by omega)
    rw [show wdN 29 = 121890 from rfl] at i6
    rw [ec_aload_n (i := 0) dX2_quarter_20 rfl]
    by_cases hs : (tk all a).1 = 0
    · rw [if_pos hs] at hP
      rw [hs] at f2
      have fin := hP (.inl (some (.ref lo)), σ) ⟨a, σ, w, g, fa, dp, rfl, hE, (Fr.rf hw).sub (fun _ _ z => z) (by omega) (by omega), hD, hQ⟩
      simp (disch := omega) only [ec_get dX2_quarter_21, gw_1_107_1, ec_aload_n (i := 0) dX2_quarter_24 rfl, ec_get dX2_quarter_25, gw_1_156_1, ec_iald dX2_quarter_28, iaE_i, ec_if_eq (t := 159) dX2_quarter_29 rfl, ec_aload_n (i := 0) dX2_quarter_159 rfl, ec_get dX2_quarter_160, gw_1_191_1, ec_aret dX2_quarter_163, ec_aretN dX2_quarter_163, ec_aretA dX2_quarter_163, cat1_i, cat1_r, cat1_u, catB_n, catB_i, catB_r, catB_l, catB_u, lg_0, lg_s, ldEI_i, ldEL_l, ldEA_r, ldEA_n, lin_0, lin_s, ls1_0, ls1_1, ls1_s, ls2_0, ls2_1, ls2_s, lcl_i, lcl_r, lcl_l, lcl_u, lcl_n, lent_i, lent_r, lent_l, lent_u, lent_0, lent_s, Option.toList_some, Option.toList_none, List.cons_append, List.nil_append, Nat.reduceAdd, true_and, vin_0, vin_s, aE_0, aE_s, EK_r, EK_t, List.set_cons_zero, List.set_cons_succ, va_rf_s, va_rf_n, pC_1, pC_21, aC_1, aC_21, gC_self, gC_new, eI_, eLg_, eV_, eInc_, eN_, eS_, eJ_, eCl_, nI_add, nI_mul, nI_subI, nI_clampI, inb_t, nI_lt0, nI_0le, nI_m1, nI_m1', nI_ofNat, bI_01, b01_0, b01_1, bI_eq0, bI_eq1, bb_01, true_or, or_true, false_or, or_false, eq_self, Nat.reduceAdd, Nat.reduceMul, Nat.reduceSub, Nat.reduceLT, Nat.reduceLeDiff, Nat.reduceEqDiff, ↓reduceIte, and_true, true_and, and_self, Nat.add_zero, Nat.zero_add, not_false_eq_true, not_true_eq_false, faV_n, faV_s, m1_lt0, m1_0le, m1_eq0, m1_le, le_m1, m1_lt, lt_m1, nI_100k, nI_100, upd_e, upd_n, pC_pC, gC_ne', gC_old', nI_lt_t, nI_lt_f, nI_le_t, nI_le_f, nI_eq_t, nI_eq_f, nI_eq0_t, nI_eq0_f, nI_0lt_t, nI_0lt_f, nI_le0_t, nI_le0_f, nI_eq1_t, nI_eq1_f, h1, f1, f2]
      exact fin
    · rw [if_neg hs] at hP
      cases b0 : isW 158575 (all.drop a) with
      | true =>
        have hn := isW_nx hE b0
        rw [pStm_hand b0] at hP
        have key : EC zs (Jc zs) (e + 40) cX2_hand none 1 0 0 [some (.ref ra), none, none, none, none, none] [] σ (EK zs (Jc zs) (e + 40 + 1) cX2_quarter (some (.object "KnowLocks$Quarter")) 1 0 42 [some (.ref ra)] [] P) := by
          refine c_hand (e := e + 34) hZ hw hC hE hD hn (fun r hr => ?_)
          cases hx : xHand q (all.drop a) with
          | error k =>
            rw [hx] at hr hP
            obtain ⟨x', σ', rfl, he⟩ := hr
            simp (disch := omega) only [ec_cv0 dX2_quarter_42 iN_1_199 cna_1_199, vcE_o ccp_1_199_1, ET_0 (thrP_c (o := 1) dX2_quarter_42 rfl), cat1_i, cat1_r, cat1_u, catB_n, catB_i, catB_r, catB_l, catB_u, lg_0, lg_s, ldEI_i, ldEL_l, ldEA_r, ldEA_n, lin_0, lin_s, ls1_0, ls1_1, ls1_s, ls2_0, ls2_1, ls2_s, lcl_i, lcl_r, lcl_l, lcl_u, lcl_n, lent_i, lent_r, lent_l, lent_u, lent_0, lent_s, Option.toList_some, Option.toList_none, List.cons_append, List.nil_append, Nat.reduceAdd, true_and, vin_0, vin_s, aE_0, aE_s, EK_r, EK_t, List.set_cons_zero, List.set_cons_succ, va_rf_s, va_rf_n, pC_1, pC_21, aC_1, aC_21, gC_self, gC_new, eI_, eLg_, eV_, eInc_, eN_, eS_, eJ_, eCl_]
            exact hP _ ⟨x', σ', rfl, he⟩
          | ok qt =>
            obtain ⟨q', t⟩ := qt
            rw [hx] at hr
            rw [hx, pQ_ok] at hP
            have hQ' := xHand_b hx hQ
            obtain ⟨a', σ', w', fa', dp', rfl, rfl, ha, E', F', D'⟩ := hr
            simp (disch := omega) only [ec_goto (t := 150) dX2_quarter_45 rfl, cat1_i, cat1_r, cat1_u, catB_n, catB_i, catB_r, catB_l, catB_u, lg_0, lg_s, ldEI_i, ldEL_l, ldEA_r, ldEA_n, lin_0, lin_s, ls1_0, ls1_1, ls1_s, ls2_0, ls2_1, ls2_s, lcl_i, lcl_r, lcl_l, lcl_u, lcl_n, lent_i, lent_r, lent_l, lent_u, lent_0, lent_s, Option.toList_some, Option.toList_none, List.cons_append, List.nil_append, Nat.reduceAdd, true_and, vin_0, vin_s, aE_0, aE_s, EK_r, EK_t, List.set_cons_zero, List.set_cons_succ, va_rf_s, va_rf_n, pC_1, pC_21, aC_1, aC_21, gC_self, gC_new, eI_, eLg_, eV_, eInc_, eN_, eS_, eJ_, eCl_]
            exact tl q' g a' σ' w' fa' dp' ha E' F' D' hQ' hP
        simp (disch := omega) only [ec_get dX2_quarter_21, gw_1_107_1, ec_aload_n (i := 0) dX2_quarter_24 rfl, ec_get dX2_quarter_25, gw_1_156_1, ec_iald dX2_quarter_28, iaE_i, ec_if_eq (t := 159) dX2_quarter_29 rfl, ec_aload_n (i := 0) dX2_quarter_32 rfl, ec_ldcS dX2_quarter_33 rfl scp_64, ec_cv1 dX2_quarter_35 iN_1_168 cna_1_168, vcE_o ccp_1_168_1, ec_if_eq (t := 48) dX2_quarter_38 rfl, ec_aload_n (i := 0) dX2_quarter_41 rfl, ec_cv0 dX2_quarter_42 iN_1_199 cna_1_199, vcE_o ccp_1_199_1, ET_0 (thrP_c (o := 1) dX2_quarter_42 rfl), cat1_i, cat1_r, cat1_u, catB_n, catB_i, catB_r, catB_l, catB_u, lg_0, lg_s, ldEI_i, ldEL_l, ldEA_r, ldEA_n, lin_0, lin_s, ls1_0, ls1_1, ls1_s, ls2_0, ls2_1, ls2_s, lcl_i, lcl_r, lcl_l, lcl_u, lcl_n, lent_i, lent_r, lent_l, lent_u, lent_0, lent_s, Option.toList_some, Option.toList_none, List.cons_append, List.nil_append, Nat.reduceAdd, true_and, vin_0, vin_s, aE_0, aE_s, EK_r, EK_t, List.set_cons_zero, List.set_cons_succ, va_rf_s, va_rf_n, pC_1, pC_21, aC_1, aC_21, gC_self, gC_new, eI_, eLg_, eV_, eInc_, eN_, eS_, eJ_, eCl_, nI_add, nI_mul, nI_subI, nI_clampI, inb_t, nI_lt0, nI_0le, nI_m1, nI_m1', nI_ofNat, bI_01, b01_0, b01_1, bI_eq0, bI_eq1, bb_01, true_or, or_true, false_or, or_false, eq_self, Nat.reduceAdd, Nat.reduceMul, Nat.reduceSub, Nat.reduceLT, Nat.reduceLeDiff, Nat.reduceEqDiff, ↓reduceIte, and_true, true_and, and_self, Nat.add_zero, Nat.zero_add, not_false_eq_true, not_true_eq_false, faV_n, faV_s, m1_lt0, m1_0le, m1_eq0, m1_le, le_m1, m1_lt, lt_m1, nI_100k, nI_100, upd_e, upd_n, pC_pC, gC_ne', gC_old', nI_lt_t, nI_lt_f, nI_le_t, nI_le_f, nI_eq_t, nI_eq_f, nI_eq0_t, nI_eq0_f, nI_0lt_t, nI_0lt_f, nI_le0_t, nI_le0_f, nI_eq1_t, nI_eq1_f, h1, f1, f2, hs, i0, b0, Bool.true_eq_false]
        exact key
      | false =>
        cases b1 : isW 90090 (all.drop a) with
        | true =>
          have hn := isW_nx hE b1
          rw [pStm_door b0 b1] at hP
          have key : EC zs (Jc zs) (e + 40) cX2_door none 1 0 0 [some (.ref ra), none, none, none, none] [] σ (EK zs (Jc zs) (e + 40 + 1) cX2_quarter (some (.object "KnowLocks$Quarter")) 1 0 58 [some (.ref ra)] [] P) := by
            refine c_door (e := e + 35) hZ hLC hcb hw hC hE hD hn (fun r hr => ?_)
            cases hx : xDoor q (all.drop a) with
            | error k =>
              rw [hx] at hr hP
              obtain ⟨x', σ', rfl, he⟩ := hr
              simp (disch := omega) only [ec_cv0 dX2_quarter_58 iN_1_201 cna_1_201, vcE_o ccp_1_201_1, ET_0 (thrP_c (o := 1) dX2_quarter_58 rfl), cat1_i, cat1_r, cat1_u, catB_n, catB_i, catB_r, catB_l, catB_u, lg_0, lg_s, ldEI_i, ldEL_l, ldEA_r, ldEA_n, lin_0, lin_s, ls1_0, ls1_1, ls1_s, ls2_0, ls2_1, ls2_s, lcl_i, lcl_r, lcl_l, lcl_u, lcl_n, lent_i, lent_r, lent_l, lent_u, lent_0, lent_s, Option.toList_some, Option.toList_none, List.cons_append, List.nil_append, Nat.reduceAdd, true_and, vin_0, vin_s, aE_0, aE_s, EK_r, EK_t, List.set_cons_zero, List.set_cons_succ, va_rf_s, va_rf_n, pC_1, pC_21, aC_1, aC_21, gC_self, gC_new, eI_, eLg_, eV_, eInc_, eN_, eS_, eJ_, eCl_]
              exact hP _ ⟨x', σ', rfl, he⟩
            | ok qt =>
              obtain ⟨q', t⟩ := qt
              rw [hx] at hr
              rw [hx, pQ_ok] at hP
              have hQ' := xDoor_b hx hQ
              obtain ⟨a', σ', w', fa', dp', rfl, rfl, ha, E', F', D'⟩ := hr
              simp (disch := omega) only [ec_goto (t := 150) dX2_quarter_61 rfl, cat1_i, cat1_r, cat1_u, catB_n, catB_i, catB_r, catB_l, catB_u, lg_0, lg_s, ldEI_i, ldEL_l, ldEA_r, ldEA_n, lin_0, lin_s, ls1_0, ls1_1, ls1_s, ls2_0, ls2_1, ls2_s, lcl_i, lcl_r, lcl_l, lcl_u, lcl_n, lent_i, lent_r, lent_l, lent_u, lent_0, lent_s, Option.toList_some, Option.toList_none, List.cons_append, List.nil_append, Nat.reduceAdd, true_and, vin_0, vin_s, aE_0, aE_s, EK_r, EK_t, List.set_cons_zero, List.set_cons_succ, va_rf_s, va_rf_n, pC_1, pC_21, aC_1, aC_21, gC_self, gC_new, eI_, eLg_, eV_, eInc_, eN_, eS_, eJ_, eCl_]
              exact tl q' g a' σ' w' fa' dp' ha E' F' D' hQ' hP
          simp (disch := omega) only [ec_get dX2_quarter_21, gw_1_107_1, ec_aload_n (i := 0) dX2_quarter_24 rfl, ec_get dX2_quarter_25, gw_1_156_1, ec_iald dX2_quarter_28, iaE_i, ec_if_eq (t := 159) dX2_quarter_29 rfl, ec_aload_n (i := 0) dX2_quarter_32 rfl, ec_ldcS dX2_quarter_33 rfl scp_64, ec_cv1 dX2_quarter_35 iN_1_168 cna_1_168, vcE_o ccp_1_168_1, ec_if_eq (t := 48) dX2_quarter_38 rfl, ec_aload_n (i := 0) dX2_quarter_48 rfl, ec_ldcS dX2_quarter_49 rfl scp_70, ec_cv1 dX2_quarter_51 iN_1_168 cna_1_168, ec_if_eq (t := 64) dX2_quarter_54 rfl, ec_aload_n (i := 0) dX2_quarter_57 rfl, ec_cv0 dX2_quarter_58 iN_1_201 cna_1_201, vcE_o ccp_1_201_1, ET_0 (thrP_c (o := 1) dX2_quarter_58 rfl), cat1_i, cat1_r, cat1_u, catB_n, catB_i, catB_r, catB_l, catB_u, lg_0, lg_s, ldEI_i, ldEL_l, ldEA_r, ldEA_n, lin_0, lin_s, ls1_0, ls1_1, ls1_s, ls2_0, ls2_1, ls2_s, lcl_i, lcl_r, lcl_l, lcl_u, lcl_n, lent_i, lent_r, lent_l, lent_u, lent_0, lent_s, Option.toList_some, Option.toList_none, List.cons_append, List.nil_append, Nat.reduceAdd, true_and, vin_0, vin_s, aE_0, aE_s, EK_r, EK_t, List.set_cons_zero, List.set_cons_succ, va_rf_s, va_rf_n, pC_1, pC_21, aC_1, aC_21, gC_self, gC_new, eI_, eLg_, eV_, eInc_, eN_, eS_, eJ_, eCl_, nI_add, nI_mul, nI_subI, nI_clampI, inb_t, nI_lt0, nI_0le, nI_m1, nI_m1', nI_ofNat, bI_01, b01_0, b01_1, bI_eq0, bI_eq1, bb_01, true_or, or_true, false_or, or_false, eq_self, Nat.reduceAdd, Nat.reduceMul, Nat.reduceSub, Nat.reduceLT, Nat.reduceLeDiff, Nat.reduceEqDiff, ↓reduceIte, and_true, true_and, and_self, Nat.add_zero, Nat.zero_add, not_false_eq_true, not_true_eq_false, faV_n, faV_s, m1_lt0, m1_0le, m1_eq0, m1_le, le_m1, m1_lt, lt_m1, nI_100k, nI_100, upd_e, upd_n, pC_pC, gC_ne', gC_old', nI_lt_t, nI_lt_f, nI_le_t, nI_le_f, nI_eq_t, nI_eq_f, nI_eq0_t, nI_eq0_f, nI_0lt_t, nI_0lt_f, nI_le0_t, nI_le0_f, nI_eq1_t, nI_eq1_f, h1, f1, f2, hs, i0, i1, b0, b1, Bool.true_eq_false]
          exact key
        | false =>
          cases b2 : isW 283616147 (all.drop a) with
          | true =>
            have hn := isW_nx hE b2
            rw [pStm_street b0 b1 b2] at hP
            have key : EC zs (Jc zs) (e + 40) cX2_street none 1 0 0 [some (.ref ra), none, none, none, none] [] σ (EK zs (Jc zs) (e + 40 + 1) cX2_quarter (some (.object "KnowLocks$Quarter")) 1 0 74 [some (.ref ra)] [] P) := by
              refine c_street (e := e + 35) hZ hw hC hE hD hQ hn (fun r hr => ?_)
              cases hx : xStr q (all.drop a) with
              | error k =>
                rw [hx] at hr hP
                obtain ⟨x', σ', rfl, he⟩ := hr
                simp (disch := omega) only [ec_cv0 dX2_quarter_74 iN_1_203 cna_1_203, vcE_o ccp_1_203_1, ET_0 (thrP_c (o := 1) dX2_quarter_74 rfl), cat1_i, cat1_r, cat1_u, catB_n, catB_i, catB_r, catB_l, catB_u, lg_0, lg_s, ldEI_i, ldEL_l, ldEA_r, ldEA_n, lin_0, lin_s, ls1_0, ls1_1, ls1_s, ls2_0, ls2_1, ls2_s, lcl_i, lcl_r, lcl_l, lcl_u, lcl_n, lent_i, lent_r, lent_l, lent_u, lent_0, lent_s, Option.toList_some, Option.toList_none, List.cons_append, List.nil_append, Nat.reduceAdd, true_and, vin_0, vin_s, aE_0, aE_s, EK_r, EK_t, List.set_cons_zero, List.set_cons_succ, va_rf_s, va_rf_n, pC_1, pC_21, aC_1, aC_21, gC_self, gC_new, eI_, eLg_, eV_, eInc_, eN_, eS_, eJ_, eCl_]
                exact hP _ ⟨x', σ', rfl, he⟩
              | ok qt =>
                obtain ⟨q', t⟩ := qt
                rw [hx] at hr
                rw [hx, pQ_ok] at hP
                have hQ' := xStr_b h5 hx hQ
                obtain ⟨a', σ', w', fa', dp', rfl, rfl, ha, E', F', D'⟩ := hr
                simp (disch := omega) only [ec_goto (t := 150) dX2_quarter_77 rfl, cat1_i, cat1_r, cat1_u, catB_n, catB_i, catB_r, catB_l, catB_u, lg_0, lg_s, ldEI_i, ldEL_l, ldEA_r, ldEA_n, lin_0, lin_s, ls1_0, ls1_1, ls1_s, ls2_0, ls2_1, ls2_s, lcl_i, lcl_r, lcl_l, lcl_u, lcl_n, lent_i, lent_r, lent_l, lent_u, lent_0, lent_s, Option.toList_some, Option.toList_none, List.cons_append, List.nil_append, Nat.reduceAdd, true_and, vin_0, vin_s, aE_0, aE_s, EK_r, EK_t, List.set_cons_zero, List.set_cons_succ, va_rf_s, va_rf_n, pC_1, pC_21, aC_1, aC_21, gC_self, gC_new, eI_, eLg_, eV_, eInc_, eN_, eS_, eJ_, eCl_]
                exact tl q' g a' σ' w' fa' dp' ha E' F' D' hQ' hP
            simp (disch := omega) only [ec_get dX2_quarter_21, gw_1_107_1, ec_aload_n (i := 0) dX2_quarter_24 rfl, ec_get dX2_quarter_25, gw_1_156_1, ec_iald dX2_quarter_28, iaE_i, ec_if_eq (t := 159) dX2_quarter_29 rfl, ec_aload_n (i := 0) dX2_quarter_32 rfl, ec_ldcS dX2_quarter_33 rfl scp_64, ec_cv1 dX2_quarter_35 iN_1_168 cna_1_168, vcE_o ccp_1_168_1, ec_if_eq (t := 48) dX2_quarter_38 rfl, ec_aload_n (i := 0) dX2_quarter_48 rfl, ec_ldcS dX2_quarter_49 rfl scp_70, ec_cv1 dX2_quarter_51 iN_1_168 cna_1_168, ec_if_eq (t := 64) dX2_quarter_54 rfl, ec_aload_n (i := 0) dX2_quarter_64 rfl, ec_ldcS dX2_quarter_65 rfl scp_74, ec_cv1 dX2_quarter_67 iN_1_168 cna_1_168, ec_if_eq (t := 80) dX2_quarter_70 rfl, ec_aload_n (i := 0) dX2_quarter_73 rfl, ec_cv0 dX2_quarter_74 iN_1_203 cna_1_203, vcE_o ccp_1_203_1, ET_0 (thrP_c (o := 1) dX2_quarter_74 rfl), cat1_i, cat1_r, cat1_u, catB_n, catB_i, catB_r, catB_l, catB_u, lg_0, lg_s, ldEI_i, ldEL_l, ldEA_r, ldEA_n, lin_0, lin_s, ls1_0, ls1_1, ls1_s, ls2_0, ls2_1, ls2_s, lcl_i, lcl_r, lcl_l, lcl_u, lcl_n, lent_i, lent_r, lent_l, lent_u, lent_0, lent_s, Option.toList_some, Option.toList_none, List.cons_append, List.nil_append, Nat.reduceAdd, true_and, vin_0, vin_s, aE_0, aE_s, EK_r, EK_t, List.set_cons_zero, List.set_cons_succ, va_rf_s, va_rf_n, pC_1, pC_21, aC_1, aC_21, gC_self, gC_new, eI_, eLg_, eV_, eInc_, eN_, eS_, eJ_, eCl_, nI_add, nI_mul, nI_subI, nI_clampI, inb_t, nI_lt0, nI_0le, nI_m1, nI_m1', nI_ofNat, bI_01, b01_0, b01_1, bI_eq0, bI_eq1, bb_01, true_or, or_true, false_or, or_false, eq_self, Nat.reduceAdd, Nat.reduceMul, Nat.reduceSub, Nat.reduceLT, Nat.reduceLeDiff, Nat.reduceEqDiff, ↓reduceIte, and_true, true_and, and_self, Nat.add_zero, Nat.zero_add, not_false_eq_true, not_true_eq_false, faV_n, faV_s, m1_lt0, m1_0le, m1_eq0, m1_le, le_m1, m1_lt, lt_m1, nI_100k, nI_100, upd_e, upd_n, pC_pC, gC_ne', gC_old', nI_lt_t, nI_lt_f, nI_le_t, nI_le_f, nI_eq_t, nI_eq_f, nI_eq0_t, nI_eq0_f, nI_0lt_t, nI_0lt_f, nI_le0_t, nI_le0_f, nI_eq1_t, nI_eq1_f, h1, f1, f2, hs, i0, i1, i2, b0, b1, b2, Bool.true_eq_false]
            exact key
          | false =>
            cases b3 : isW 108802051 (all.drop a) with
            | true =>
              have hn := isW_nx hE b3
              rw [pStm_gossip b0 b1 b2 b3] at hP
              have key : EC zs (Jc zs) (e + 40) cX2_gossip none 1 0 0 [some (.ref ra)] [] σ (EK zs (Jc zs) (e + 40 + 1) cX2_quarter (some (.object "KnowLocks$Quarter")) 1 0 90 [some (.ref ra)] [] P) := by
                refine c_gossip (e := e + 37) hw hC hE hD hn (fun r hr => ?_)
                cases hx : xGos q g (all.drop a) with
                | error k =>
                  rw [hx] at hr hP
                  obtain ⟨x', σ', rfl, he⟩ := hr
                  simp (disch := omega) only [ec_cv0 dX2_quarter_90 iN_1_205 cna_1_205, vcE_o ccp_1_205_1, ET_0 (thrP_c (o := 1) dX2_quarter_90 rfl), cat1_i, cat1_r, cat1_u, catB_n, catB_i, catB_r, catB_l, catB_u, lg_0, lg_s, ldEI_i, ldEL_l, ldEA_r, ldEA_n, lin_0, lin_s, ls1_0, ls1_1, ls1_s, ls2_0, ls2_1, ls2_s, lcl_i, lcl_r, lcl_l, lcl_u, lcl_n, lent_i, lent_r, lent_l, lent_u, lent_0, lent_s, Option.toList_some, Option.toList_none, List.cons_append, List.nil_append, Nat.reduceAdd, true_and, vin_0, vin_s, aE_0, aE_s, EK_r, EK_t, List.set_cons_zero, List.set_cons_succ, va_rf_s, va_rf_n, pC_1, pC_21, aC_1, aC_21, gC_self, gC_new, eI_, eLg_, eV_, eInc_, eN_, eS_, eJ_, eCl_]
                  exact hP _ ⟨x', σ', rfl, he⟩
                | ok qt =>
                  obtain ⟨q', t⟩ := qt
                  rw [hx] at hr
                  rw [hx, pQ_ok] at hP
                  have hQ' := xGos_b hx hQ
                  obtain ⟨a', σ', w', fa', dp', rfl, rfl, ha, E', F', D'⟩ := hr
                  simp (disch := omega) only [ec_goto (t := 150) dX2_quarter_93 rfl, cat1_i, cat1_r, cat1_u, catB_n, catB_i, catB_r, catB_l, catB_u, lg_0, lg_s, ldEI_i, ldEL_l, ldEA_r, ldEA_n, lin_0, lin_s, ls1_0, ls1_1, ls1_s, ls2_0, ls2_1, ls2_s, lcl_i, lcl_r, lcl_l, lcl_u, lcl_n, lent_i, lent_r, lent_l, lent_u, lent_0, lent_s, Option.toList_some, Option.toList_none, List.cons_append, List.nil_append, Nat.reduceAdd, true_and, vin_0, vin_s, aE_0, aE_s, EK_r, EK_t, List.set_cons_zero, List.set_cons_succ, va_rf_s, va_rf_n, pC_1, pC_21, aC_1, aC_21, gC_self, gC_new, eI_, eLg_, eV_, eInc_, eN_, eS_, eJ_, eCl_]
                  exact tl q' true a' σ' w' fa' dp' ha E' F' D' hQ' hP
              simp (disch := omega) only [ec_get dX2_quarter_21, gw_1_107_1, ec_aload_n (i := 0) dX2_quarter_24 rfl, ec_get dX2_quarter_25, gw_1_156_1, ec_iald dX2_quarter_28, iaE_i, ec_if_eq (t := 159) dX2_quarter_29 rfl, ec_aload_n (i := 0) dX2_quarter_32 rfl, ec_ldcS dX2_quarter_33 rfl scp_64, ec_cv1 dX2_quarter_35 iN_1_168 cna_1_168, vcE_o ccp_1_168_1, ec_if_eq (t := 48) dX2_quarter_38 rfl, ec_aload_n (i := 0) dX2_quarter_48 rfl, ec_ldcS dX2_quarter_49 rfl scp_70, ec_cv1 dX2_quarter_51 iN_1_168 cna_1_168, ec_if_eq (t := 64) dX2_quarter_54 rfl, ec_aload_n (i := 0) dX2_quarter_64 rfl, ec_ldcS dX2_quarter_65 rfl scp_74, ec_cv1 dX2_quarter_67 iN_1_168 cna_1_168, ec_if_eq (t := 80) dX2_quarter_70 rfl, ec_aload_n (i := 0) dX2_quarter_80 rfl, ec_ldcS dX2_quarter_81 rfl scp_76, ec_cv1 dX2_quarter_83 iN_1_168 cna_1_168, ec_if_eq (t := 96) dX2_quarter_86 rfl, ec_aload_n (i := 0) dX2_quarter_89 rfl, ec_cv0 dX2_quarter_90 iN_1_205 cna_1_205, vcE_o ccp_1_205_1, ET_0 (thrP_c (o := 1) dX2_quarter_90 rfl), cat1_i, cat1_r, cat1_u, catB_n, catB_i, catB_r, catB_l, catB_u, lg_0, lg_s, ldEI_i, ldEL_l, ldEA_r, ldEA_n, lin_0, lin_s, ls1_0, ls1_1, ls1_s, ls2_0, ls2_1, ls2_s, lcl_i, lcl_r, lcl_l, lcl_u, lcl_n, lent_i, lent_r, lent_l, lent_u, lent_0, lent_s, Option.toList_some, Option.toList_none, List.cons_append, List.nil_append, Nat.reduceAdd, true_and, vin_0, vin_s, aE_0, aE_s, EK_r, EK_t, List.set_cons_zero, List.set_cons_succ, va_rf_s, va_rf_n, pC_1, pC_21, aC_1, aC_21, gC_self, gC_new, eI_, eLg_, eV_, eInc_, eN_, eS_, eJ_, eCl_, nI_add, nI_mul, nI_subI, nI_clampI, inb_t, nI_lt0, nI_0le, nI_m1, nI_m1', nI_ofNat, bI_01, b01_0, b01_1, bI_eq0, bI_eq1, bb_01, true_or, or_true, false_or, or_false, eq_self, Nat.reduceAdd, Nat.reduceMul, Nat.reduceSub, Nat.reduceLT, Nat.reduceLeDiff, Nat.reduceEqDiff, ↓reduceIte, and_true, true_and, and_self, Nat.add_zero, Nat.zero_add, not_false_eq_true, not_true_eq_false, faV_n, faV_s, m1_lt0, m1_0le, m1_eq0, m1_le, le_m1, m1_lt, lt_m1, nI_100k, nI_100, upd_e, upd_n, pC_pC, gC_ne', gC_old', nI_lt_t, nI_lt_f, nI_le_t, nI_le_f, nI_eq_t, nI_eq_f, nI_eq0_t, nI_eq0_f, nI_0lt_t, nI_0lt_f, nI_le0_t, nI_le0_f, nI_eq1_t, nI_eq1_f, h1, f1, f2, hs, i0, i1, i2, i3, b0, b1, b2, b3, Bool.true_eq_false]
              exact key
            | false =>
              cases b4 : isW 4134649 (all.drop a) with
              | true =>
                have hn := isW_nx hE b4
                rw [pStm_guard b0 b1 b2 b3 b4] at hP
                have key : EC zs (Jc zs) (e + 40) cX2_guard none 1 0 0 [some (.ref ra)] [] σ (EK zs (Jc zs) (e + 40 + 1) cX2_quarter (some (.object "KnowLocks$Quarter")) 1 0 106 [some (.ref ra)] [] P) := by
                  refine c_guard (e := e + 35) hZ hw hC hE hD hn (fun r hr => ?_)
                  cases hx : xGrd q (all.drop a) with
                  | error k =>
                    rw [hx] at hr hP
                    obtain ⟨x', σ', rfl, he⟩ := hr
                    simp (disch := omega) only [ec_cv0 dX2_quarter_106 iN_1_207 cna_1_207, vcE_o ccp_1_207_1, ET_0 (thrP_c (o := 1) dX2_quarter_106 rfl), cat1_i, cat1_r, cat1_u, catB_n, catB_i, catB_r, catB_l, catB_u, lg_0, lg_s, ldEI_i, ldEL_l, ldEA_r, ldEA_n, lin_0, lin_s, ls1_0, ls1_1, ls1_s, ls2_0, ls2_1, ls2_s, lcl_i, lcl_r, lcl_l, lcl_u, lcl_n, lent_i, lent_r, lent_l, lent_u, lent_0, lent_s, Option.toList_some, Option.toList_none, List.cons_append, List.nil_append, Nat.reduceAdd, true_and, vin_0, vin_s, aE_0, aE_s, EK_r, EK_t, List.set_cons_zero, List.set_cons_succ, va_rf_s, va_rf_n, pC_1, pC_21, aC_1, aC_21, gC_self, gC_new, eI_, eLg_, eV_, eInc_, eN_, eS_, eJ_, eCl_]
                    exact hP _ ⟨x', σ', rfl, he⟩
                  | ok qt =>
                    obtain ⟨q', t⟩ := qt
                    rw [hx] at hr
                    rw [hx, pQ_ok] at hP
                    have hQ' := xGrd_b hx hQ
                    obtain ⟨a', σ', w', fa', dp', rfl, rfl, ha, E', F', D'⟩ := hr
                    simp (disch := omega) only [ec_goto (t := 150) dX2_quarter_109 rfl, cat1_i, cat1_r, cat1_u, catB_n, catB_i, catB_r, catB_l, catB_u, lg_0, lg_s, ldEI_i, ldEL_l, ldEA_r, ldEA_n, lin_0, lin_s, ls1_0, ls1_1, ls1_s, ls2_0, ls2_1, ls2_s, lcl_i, lcl_r, lcl_l, lcl_u, lcl_n, lent_i, lent_r, lent_l, lent_u, lent_0, lent_s, Option.toList_some, Option.toList_none, List.cons_append, List.nil_append, Nat.reduceAdd, true_and, vin_0, vin_s, aE_0, aE_s, EK_r, EK_t, List.set_cons_zero, List.set_cons_succ, va_rf_s, va_rf_n, pC_1, pC_21, aC_1, aC_21, gC_self, gC_new, eI_, eLg_, eV_, eInc_, eN_, eS_, eJ_, eCl_]
                    exact tl q' g a' σ' w' fa' dp' ha E' F' D' hQ' hP
                simp (disch := omega) only [ec_get dX2_quarter_21, gw_1_107_1, ec_aload_n (i := 0) dX2_quarter_24 rfl, ec_get dX2_quarter_25, gw_1_156_1, ec_iald dX2_quarter_28, iaE_i, ec_if_eq (t := 159) dX2_quarter_29 rfl, ec_aload_n (i := 0) dX2_quarter_32 rfl, ec_ldcS dX2_quarter_33 rfl scp_64, ec_cv1 dX2_quarter_35 iN_1_168 cna_1_168, vcE_o ccp_1_168_1, ec_if_eq (t := 48) dX2_quarter_38 rfl, ec_aload_n (i := 0) dX2_quarter_48 rfl, ec_ldcS dX2_quarter_49 rfl scp_70, ec_cv1 dX2_quarter_51 iN_1_168 cna_1_168, ec_if_eq (t := 64) dX2_quarter_54 rfl, ec_aload_n (i := 0) dX2_quarter_64 rfl, ec_ldcS dX2_quarter_65 rfl scp_74, ec_cv1 dX2_quarter_67 iN_1_168 cna_1_168, ec_if_eq (t := 80) dX2_quarter_70 rfl, ec_aload_n (i := 0) dX2_quarter_80 rfl, ec_ldcS dX2_quarter_81 rfl scp_76, ec_cv1 dX2_quarter_83 iN_1_168 cna_1_168, ec_if_eq (t := 96) dX2_quarter_86 rfl, ec_aload_n (i := 0) dX2_quarter_96 rfl, ec_ldcS dX2_quarter_97 rfl scp_78, ec_cv1 dX2_quarter_99 iN_1_168 cna_1_168, ec_if_eq (t := 112) dX2_quarter_102 rfl, ec_aload_n (i := 0) dX2_quarter_105 rfl, ec_cv0 dX2_quarter_106 iN_1_207 cna_1_207, vcE_o ccp_1_207_1, ET_0 (thrP_c (o := 1) dX2_quarter_106 rfl), cat1_i, cat1_r, cat1_u, catB_n, catB_i, catB_r, catB_l, catB_u, lg_0, lg_s, ldEI_i, ldEL_l, ldEA_r, ldEA_n, lin_0, lin_s, ls1_0, ls1_1, ls1_s, ls2_0, ls2_1, ls2_s, lcl_i, lcl_r, lcl_l, lcl_u, lcl_n, lent_i, lent_r, lent_l, lent_u, lent_0, lent_s, Option.toList_some, Option.toList_none, List.cons_append, List.nil_append, Nat.reduceAdd, true_and, vin_0, vin_s, aE_0, aE_s, EK_r, EK_t, List.set_cons_zero, List.set_cons_succ, va_rf_s, va_rf_n, pC_1, pC_21, aC_1, aC_21, gC_self, gC_new, eI_, eLg_, eV_, eInc_, eN_, eS_, eJ_, eCl_, nI_add, nI_mul, nI_subI, nI_clampI, inb_t, nI_lt0, nI_0le, nI_m1, nI_m1', nI_ofNat, bI_01, b01_0, b01_1, bI_eq0, bI_eq1, bb_01, true_or, or_true, false_or, or_false, eq_self, Nat.reduceAdd, Nat.reduceMul, Nat.reduceSub, Nat.reduceLT, Nat.reduceLeDiff, Nat.reduceEqDiff, ↓reduceIte, and_true, true_and, and_self, Nat.add_zero, Nat.zero_add, not_false_eq_true, not_true_eq_false, faV_n, faV_s, m1_lt0, m1_0le, m1_eq0, m1_le, le_m1, m1_lt, lt_m1, nI_100k, nI_100, upd_e, upd_n, pC_pC, gC_ne', gC_old', nI_lt_t, nI_lt_f, nI_le_t, nI_le_f, nI_eq_t, nI_eq_f, nI_eq0_t, nI_eq0_f, nI_0lt_t, nI_0lt_f, nI_le0_t, nI_le0_f, nI_eq1_t, nI_eq1_f, h1, f1, f2, hs, i0, i1, i2, i3, i4, b0, b1, b2, b3, b4, Bool.true_eq_false]
                exact key
              | false =>
                cases b5 : isW 6476936 (all.drop a) with
                | true =>
                  have hn := isW_nx hE b5
                  rw [pStm_learn b0 b1 b2 b3 b4 b5] at hP
                  have key : EC zs (Jc zs) (e + 40) cX2_learn none 1 0 0 [some (.ref ra)] [] σ (EK zs (Jc zs) (e + 40 + 1) cX2_quarter (some (.object "KnowLocks$Quarter")) 1 0 122 [some (.ref ra)] [] P) := by
                    refine c_learn (e := e) hZ hB hw hC hE hD hn (fun r hr => ?_)
                    cases hx : xLaw q 0 (all.drop a) with
                    | error k =>
                      rw [hx] at hr hP
                      obtain ⟨x', σ', rfl, he⟩ := hr
                      simp (disch := omega) only [ec_cv0 dX2_quarter_122 iN_1_209 cna_1_209, vcE_o ccp_1_209_1, ET_0 (thrP_c (o := 1) dX2_quarter_122 rfl), cat1_i, cat1_r, cat1_u, catB_n, catB_i, catB_r, catB_l, catB_u, lg_0, lg_s, ldEI_i, ldEL_l, ldEA_r, ldEA_n, lin_0, lin_s, ls1_0, ls1_1, ls1_s, ls2_0, ls2_1, ls2_s, lcl_i, lcl_r, lcl_l, lcl_u, lcl_n, lent_i, lent_r, lent_l, lent_u, lent_0, lent_s, Option.toList_some, Option.toList_none, List.cons_append, List.nil_append, Nat.reduceAdd, true_and, vin_0, vin_s, aE_0, aE_s, EK_r, EK_t, List.set_cons_zero, List.set_cons_succ, va_rf_s, va_rf_n, pC_1, pC_21, aC_1, aC_21, gC_self, gC_new, eI_, eLg_, eV_, eInc_, eN_, eS_, eJ_, eCl_]
                      exact hP _ ⟨x', σ', rfl, he⟩
                    | ok qt =>
                      obtain ⟨q', t⟩ := qt
                      rw [hx] at hr
                      rw [hx, pQ_ok] at hP
                      have hQ' := xLaw_b hx hQ
                      obtain ⟨a', σ', w', fa', dp', rfl, rfl, ha, E', F', D'⟩ := hr
                      simp (disch := omega) only [ec_goto (t := 150) dX2_quarter_125 rfl, cat1_i, cat1_r, cat1_u, catB_n, catB_i, catB_r, catB_l, catB_u, lg_0, lg_s, ldEI_i, ldEL_l, ldEA_r, ldEA_n, lin_0, lin_s, ls1_0, ls1_1, ls1_s, ls2_0, ls2_1, ls2_s, lcl_i, lcl_r, lcl_l, lcl_u, lcl_n, lent_i, lent_r, lent_l, lent_u, lent_0, lent_s, Option.toList_some, Option.toList_none, List.cons_append, List.nil_append, Nat.reduceAdd, true_and, vin_0, vin_s, aE_0, aE_s, EK_r, EK_t, List.set_cons_zero, List.set_cons_succ, va_rf_s, va_rf_n, pC_1, pC_21, aC_1, aC_21, gC_self, gC_new, eI_, eLg_, eV_, eInc_, eN_, eS_, eJ_, eCl_]
                      exact tl q' g a' σ' w' fa' dp' ha E' F' D' hQ' hP
                  simp (disch := omega) only [ec_get dX2_quarter_21, gw_1_107_1, ec_aload_n (i := 0) dX2_quarter_24 rfl, ec_get dX2_quarter_25, gw_1_156_1, ec_iald dX2_quarter_28, iaE_i, ec_if_eq (t := 159) dX2_quarter_29 rfl, ec_aload_n (i := 0) dX2_quarter_32 rfl, ec_ldcS dX2_quarter_33 rfl scp_64, ec_cv1 dX2_quarter_35 iN_1_168 cna_1_168, vcE_o ccp_1_168_1, ec_if_eq (t := 48) dX2_quarter_38 rfl, ec_aload_n (i := 0) dX2_quarter_48 rfl, ec_ldcS dX2_quarter_49 rfl scp_70, ec_cv1 dX2_quarter_51 iN_1_168 cna_1_168, ec_if_eq (t := 64) dX2_quarter_54 rfl, ec_aload_n (i := 0) dX2_quarter_64 rfl, ec_ldcS dX2_quarter_65 rfl scp_74, ec_cv1 dX2_quarter_67 iN_1_168 cna_1_168, ec_if_eq (t := 80) dX2_quarter_70 rfl, ec_aload_n (i := 0) dX2_quarter_80 rfl, ec_ldcS dX2_quarter_81 rfl scp_76, ec_cv1 dX2_quarter_83 iN_1_168 cna_1_168, ec_if_eq (t := 96) dX2_quarter_86 rfl, ec_aload_n (i := 0) dX2_quarter_96 rfl, ec_ldcS dX2_quarter_97 rfl scp_78, ec_cv1 dX2_quarter_99 iN_1_168 cna_1_168, ec_if_eq (t := 112) dX2_quarter_102 rfl, ec_aload_n (i := 0) dX2_quarter_112 rfl, ec_ldcS dX2_quarter_113 rfl scp_82, ec_cv1 dX2_quarter_115 iN_1_168 cna_1_168, ec_if_eq (t := 128) dX2_quarter_118 rfl, ec_aload_n (i := 0) dX2_quarter_121 rfl, ec_cv0 dX2_quarter_122 iN_1_209 cna_1_209, vcE_o ccp_1_209_1, ET_0 (thrP_c (o := 1) dX2_quarter_122 rfl), cat1_i, cat1_r, cat1_u, catB_n, catB_i, catB_r, catB_l, catB_u, lg_0, lg_s, ldEI_i, ldEL_l, ldEA_r, ldEA_n, lin_0, lin_s, ls1_0, ls1_1, ls1_s, ls2_0, ls2_1, ls2_s, lcl_i, lcl_r, lcl_l, lcl_u, lcl_n, lent_i, lent_r, lent_l, lent_u, lent_0, lent_s, Option.toList_some, Option.toList_none, List.cons_append, List.nil_append, Nat.reduceAdd, true_and, vin_0, vin_s, aE_0, aE_s, EK_r, EK_t, List.set_cons_zero, List.set_cons_succ, va_rf_s, va_rf_n, pC_1, pC_21, aC_1, aC_21, gC_self, gC_new, eI_, eLg_, eV_, eInc_, eN_, eS_, eJ_, eCl_, nI_add, nI_mul, nI_subI, nI_clampI, inb_t, nI_lt0, nI_0le, nI_m1, nI_m1', nI_ofNat, bI_01, b01_0, b01_1, bI_eq0, bI_eq1, bb_01, true_or, or_true, false_or, or_false, eq_self, Nat.reduceAdd, Nat.reduceMul, Nat.reduceSub, Nat.reduceLT, Nat.reduceLeDiff, Nat.reduceEqDiff, ↓reduceIte, and_true, true_and, and_self, Nat.add_zero, Nat.zero_add, not_false_eq_true, not_true_eq_false, faV_n, faV_s, m1_lt0, m1_0le, m1_eq0, m1_le, le_m1, m1_lt, lt_m1, nI_100k, nI_100, upd_e, upd_n, pC_pC, gC_ne', gC_old', nI_lt_t, nI_lt_f, nI_le_t, nI_le_f, nI_eq_t, nI_eq_f, nI_eq0_t, nI_eq0_f, nI_0lt_t, nI_0lt_f, nI_le0_t, nI_le0_f, nI_eq1_t, nI_eq1_f, h1, f1, f2, hs, i0, i1, i2, i3, i4, i5, b0, b1, b2, b3, b4, b5, Bool.true_eq_false]
                  exact key
                | false =>
                  cases b6 : isW 121890 (all.drop a) with
                  | true =>
                    have hn := isW_nx hE b6
                    rw [pStm_feel b0 b1 b2 b3 b4 b5 b6] at hP
                    have key : EC zs (Jc zs) (e + 40) cX2_feel none 1 0 0 [some (.ref ra)] [] σ (EK zs (Jc zs) (e + 40 + 1) cX2_quarter (some (.object "KnowLocks$Quarter")) 1 0 138 [some (.ref ra)] [] P) := by
                      refine c_feel (e := e) hZ hB hw hC hE hD hn (fun r hr => ?_)
                      cases hx : xLaw q 1 (all.drop a) with
                      | error k =>
                        rw [hx] at hr hP
                        obtain ⟨x', σ', rfl, he⟩ := hr
                        simp (disch := omega) only [ec_cv0 dX2_quarter_138 iN_1_211 cna_1_211, vcE_o ccp_1_211_1, ET_0 (thrP_c (o := 1) dX2_quarter_138 rfl), cat1_i, cat1_r, cat1_u, catB_n, catB_i, catB_r, catB_l, catB_u, lg_0, lg_s, ldEI_i, ldEL_l, ldEA_r, ldEA_n, lin_0, lin_s, ls1_0, ls1_1, ls1_s, ls2_0, ls2_1, ls2_s, lcl_i, lcl_r, lcl_l, lcl_u, lcl_n, lent_i, lent_r, lent_l, lent_u, lent_0, lent_s, Option.toList_some, Option.toList_none, List.cons_append, List.nil_append, Nat.reduceAdd, true_and, vin_0, vin_s, aE_0, aE_s, EK_r, EK_t, List.set_cons_zero, List.set_cons_succ, va_rf_s, va_rf_n, pC_1, pC_21, aC_1, aC_21, gC_self, gC_new, eI_, eLg_, eV_, eInc_, eN_, eS_, eJ_, eCl_]
                        exact hP _ ⟨x', σ', rfl, he⟩
                      | ok qt =>
                        obtain ⟨q', t⟩ := qt
                        rw [hx] at hr
                        rw [hx, pQ_ok] at hP
                        have hQ' := xLaw_b hx hQ
                        obtain ⟨a', σ', w', fa', dp', rfl, rfl, ha, E', F', D'⟩ := hr
                        simp (disch := omega) only [ec_goto (t := 150) dX2_quarter_141 rfl, cat1_i, cat1_r, cat1_u, catB_n, catB_i, catB_r, catB_l, catB_u, lg_0, lg_s, ldEI_i, ldEL_l, ldEA_r, ldEA_n, lin_0, lin_s, ls1_0, ls1_1, ls1_s, ls2_0, ls2_1, ls2_s, lcl_i, lcl_r, lcl_l, lcl_u, lcl_n, lent_i, lent_r, lent_l, lent_u, lent_0, lent_s, Option.toList_some, Option.toList_none, List.cons_append, List.nil_append, Nat.reduceAdd, true_and, vin_0, vin_s, aE_0, aE_s, EK_r, EK_t, List.set_cons_zero, List.set_cons_succ, va_rf_s, va_rf_n, pC_1, pC_21, aC_1, aC_21, gC_self, gC_new, eI_, eLg_, eV_, eInc_, eN_, eS_, eJ_, eCl_]
                        exact tl q' g a' σ' w' fa' dp' ha E' F' D' hQ' hP
                    simp (disch := omega) only [ec_get dX2_quarter_21, gw_1_107_1, ec_aload_n (i := 0) dX2_quarter_24 rfl, ec_get dX2_quarter_25, gw_1_156_1, ec_iald dX2_quarter_28, iaE_i, ec_if_eq (t := 159) dX2_quarter_29 rfl, ec_aload_n (i := 0) dX2_quarter_32 rfl, ec_ldcS dX2_quarter_33 rfl scp_64, ec_cv1 dX2_quarter_35 iN_1_168 cna_1_168, vcE_o ccp_1_168_1, ec_if_eq (t := 48) dX2_quarter_38 rfl, ec_aload_n (i := 0) dX2_quarter_48 rfl, ec_ldcS dX2_quarter_49 rfl scp_70, ec_cv1 dX2_quarter_51 iN_1_168 cna_1_168, ec_if_eq (t := 64) dX2_quarter_54 rfl, ec_aload_n (i := 0) dX2_quarter_64 rfl, ec_ldcS dX2_quarter_65 rfl scp_74, ec_cv1 dX2_quarter_67 iN_1_168 cna_1_168, ec_if_eq (t := 80) dX2_quarter_70 rfl, ec_aload_n (i := 0) dX2_quarter_80 rfl, ec_ldcS dX2_quarter_81 rfl scp_76, ec_cv1 dX2_quarter_83 iN_1_168 cna_1_168, ec_if_eq (t := 96) dX2_quarter_86 rfl, ec_aload_n (i := 0) dX2_quarter_96 rfl, ec_ldcS dX2_quarter_97 rfl scp_78, ec_cv1 dX2_quarter_99 iN_1_168 cna_1_168, ec_if_eq (t := 112) dX2_quarter_102 rfl, ec_aload_n (i := 0) dX2_quarter_112 rfl, ec_ldcS dX2_quarter_113 rfl scp_82, ec_cv1 dX2_quarter_115 iN_1_168 cna_1_168, ec_if_eq (t := 128) dX2_quarter_118 rfl, ec_aload_n (i := 0) dX2_quarter_128 rfl, ec_ldcS dX2_quarter_129 rfl scp_84, ec_cv1 dX2_quarter_131 iN_1_168 cna_1_168, ec_if_eq (t := 144) dX2_quarter_134 rfl, ec_aload_n (i := 0) dX2_quarter_137 rfl, ec_cv0 dX2_quarter_138 iN_1_211 cna_1_211, vcE_o ccp_1_211_1, ET_0 (thrP_c (o := 1) dX2_quarter_138 rfl), cat1_i, cat1_r, cat1_u, catB_n, catB_i, catB_r, catB_l, catB_u, lg_0, lg_s, ldEI_i, ldEL_l, ldEA_r, ldEA_n, lin_0, lin_s, ls1_0, ls1_1, ls1_s, ls2_0, ls2_1, ls2_s, lcl_i, lcl_r, lcl_l, lcl_u, lcl_n, lent_i, lent_r, lent_l, lent_u, lent_0, lent_s, Option.toList_some, Option.toList_none, List.cons_append, List.nil_append, Nat.reduceAdd, true_and, vin_0, vin_s, aE_0, aE_s, EK_r, EK_t, List.set_cons_zero, List.set_cons_succ, va_rf_s, va_rf_n, pC_1, pC_21, aC_1, aC_21, gC_self, gC_new, eI_, eLg_, eV_, eInc_, eN_, eS_, eJ_, eCl_, nI_add, nI_mul, nI_subI, nI_clampI, inb_t, nI_lt0, nI_0le, nI_m1, nI_m1', nI_ofNat, bI_01, b01_0, b01_1, bI_eq0, bI_eq1, bb_01, true_or, or_true, false_or, or_false, eq_self, Nat.reduceAdd, Nat.reduceMul, Nat.reduceSub, Nat.reduceLT, Nat.reduceLeDiff, Nat.reduceEqDiff, ↓reduceIte, and_true, true_and, and_self, Nat.add_zero, Nat.zero_add, not_false_eq_true, not_true_eq_false, faV_n, faV_s, m1_lt0, m1_0le, m1_eq0, m1_le, le_m1, m1_lt, lt_m1, nI_100k, nI_100, upd_e, upd_n, pC_pC, gC_ne', gC_old', nI_lt_t, nI_lt_f, nI_le_t, nI_le_f, nI_eq_t, nI_eq_f, nI_eq0_t, nI_eq0_f, nI_0lt_t, nI_0lt_f, nI_le0_t, nI_le0_f, nI_eq1_t, nI_eq1_f, h1, f1, f2, hs, i0, i1, i2, i3, i4, i5, i6, b0, b1, b2, b3, b4, b5, b6, Bool.true_eq_false]
                    exact key
                  | false =>
                    rw [pStm_no b0 b1 b2 b3 b4 b5 b6] at hP
                    have wr := fun P => c_wrong (e := e + 39) (P := P) (k := 1) (by omega) hw hE
                    have fin := hP _ (ErR.tr (Fr.rf hw) (ErR.w (k := erT 1 (all.drop a)) (S := fun b => b = ra ∨ lo ≤ b) hw hE) (fun b z => Or.inr z) (by omega) (by omega))
                    simp (disch := omega) only [ec_get dX2_quarter_21, gw_1_107_1, ec_aload_n (i := 0) dX2_quarter_24 rfl, ec_get dX2_quarter_25, gw_1_156_1, ec_iald dX2_quarter_28, iaE_i, ec_if_eq (t := 159) dX2_quarter_29 rfl, ec_aload_n (i := 0) dX2_quarter_32 rfl, ec_ldcS dX2_quarter_33 rfl scp_64, ec_cv1 dX2_quarter_35 iN_1_168 cna_1_168, vcE_o ccp_1_168_1, ec_if_eq (t := 48) dX2_quarter_38 rfl, ec_aload_n (i := 0) dX2_quarter_48 rfl, ec_ldcS dX2_quarter_49 rfl scp_70, ec_cv1 dX2_quarter_51 iN_1_168 cna_1_168, ec_if_eq (t := 64) dX2_quarter_54 rfl, ec_aload_n (i := 0) dX2_quarter_64 rfl, ec_ldcS dX2_quarter_65 rfl scp_74, ec_cv1 dX2_quarter_67 iN_1_168 cna_1_168, ec_if_eq (t := 80) dX2_quarter_70 rfl, ec_aload_n (i := 0) dX2_quarter_80 rfl, ec_ldcS dX2_quarter_81 rfl scp_76, ec_cv1 dX2_quarter_83 iN_1_168 cna_1_168, ec_if_eq (t := 96) dX2_quarter_86 rfl, ec_aload_n (i := 0) dX2_quarter_96 rfl, ec_ldcS dX2_quarter_97 rfl scp_78, ec_cv1 dX2_quarter_99 iN_1_168 cna_1_168, ec_if_eq (t := 112) dX2_quarter_102 rfl, ec_aload_n (i := 0) dX2_quarter_112 rfl, ec_ldcS dX2_quarter_113 rfl scp_82, ec_cv1 dX2_quarter_115 iN_1_168 cna_1_168, ec_if_eq (t := 128) dX2_quarter_118 rfl, ec_aload_n (i := 0) dX2_quarter_128 rfl, ec_ldcS dX2_quarter_129 rfl scp_84, ec_cv1 dX2_quarter_131 iN_1_168 cna_1_168, ec_if_eq (t := 144) dX2_quarter_134 rfl, ec_aload_n (i := 0) dX2_quarter_144 rfl, ec_iconst (v := nI 1) dX2_quarter_145 rfl, ec_cv1 dX2_quarter_146 iN_1_178 cna_1_178, vcE_o ccp_1_178_1, ec_athrow dX2_quarter_149, ET_0 (thrP_a dX2_quarter_149), cat1_i, cat1_r, cat1_u, catB_n, catB_i, catB_r, catB_l, catB_u, lg_0, lg_s, ldEI_i, ldEL_l, ldEA_r, ldEA_n, lin_0, lin_s, ls1_0, ls1_1, ls1_s, ls2_0, ls2_1, ls2_s, lcl_i, lcl_r, lcl_l, lcl_u, lcl_n, lent_i, lent_r, lent_l, lent_u, lent_0, lent_s, Option.toList_some, Option.toList_none, List.cons_append, List.nil_append, Nat.reduceAdd, true_and, vin_0, vin_s, aE_0, aE_s, EK_r, EK_t, List.set_cons_zero, List.set_cons_succ, va_rf_s, va_rf_n, pC_1, pC_21, aC_1, aC_21, gC_self, gC_new, eI_, eLg_, eV_, eInc_, eN_, eS_, eJ_, eCl_, nI_add, nI_mul, nI_subI, nI_clampI, inb_t, nI_lt0, nI_0le, nI_m1, nI_m1', nI_ofNat, bI_01, b01_0, b01_1, bI_eq0, bI_eq1, bb_01, true_or, or_true, false_or, or_false, eq_self, Nat.reduceAdd, Nat.reduceMul, Nat.reduceSub, Nat.reduceLT, Nat.reduceLeDiff, Nat.reduceEqDiff, ↓reduceIte, and_true, true_and, and_self, Nat.add_zero, Nat.zero_add, not_false_eq_true, not_true_eq_false, faV_n, faV_s, m1_lt0, m1_0le, m1_eq0, m1_le, le_m1, m1_lt, lt_m1, nI_100k, nI_100, upd_e, upd_n, pC_pC, gC_ne', gC_old', nI_lt_t, nI_lt_f, nI_le_t, nI_le_f, nI_eq_t, nI_eq_f, nI_eq0_t, nI_eq0_f, nI_0lt_t, nI_0lt_f, nI_le0_t, nI_le0_f, nI_eq1_t, nI_eq1_f, h1, f1, f2, hs, i0, i1, i2, i3, i4, i5, i6, b0, b1, b2, b3, b4, b5, b6, wr]
                    exact fin
end
