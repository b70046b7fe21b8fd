/-! NUMBERS: small ones as nI n -/
theorem nI_mul (a b : Nat) : nI a * nI b = nI (a * b) := (Int32.ofNat_mul a b).symm
theorem nI_subI {a b : Nat} (h : b ≤ a) : nI a - nI b = nI (a - b) := by
  have e : nI a = nI (a - b) + nI b := by rw [nI_add, Nat.sub_add_cancel h]
  rw [e, Int32.add_sub_cancel]
theorem nI_clampI {n : Nat} (h : n < 2 ^ 31) : (nI n).toNatClampNeg = n := nI_clamp h
theorem nI_lt0 {n : Nat} (h : n < 2 ^ 31) : (nI n < 0) = False := eq_false (nI_pos h)
theorem nI_0le {n : Nat} (h : n < 2 ^ 31) : (0 ≤ nI n) = True := eq_true (nI_pos' h)
theorem nI_eqI {a b : Nat} (ha : a < 2 ^ 31) (hb : b < 2 ^ 31) : (nI a = nI b) ↔ (a = b) := nI_eq ha hb
theorem nI_eq0 {n : Nat} (h : n < 2 ^ 31) : (nI n = 0) ↔ (n = 0) := by rw [← nI_0]; exact nI_eq h (by omega)
theorem nI_0lt {n : Nat} (h : n < 2 ^ 31) : (0 < nI n) ↔ (0 < n) := by rw [← nI_0]; exact nI_ltI (by omega) h
theorem nI_le0 {n : Nat} (h : n < 2 ^ 31) : (nI n ≤ 0) ↔ (n = 0) := by rw [← nI_0, nI_leI h (by omega)]; omega
theorem nI_m1 {n : Nat} (h : n < 2 ^ 31) : (nI n = -1) = False := by
  refine eq_false (fun z => ?_)
  have := congrArg Int32.toInt z
  rw [nI_toInt h] at this
  have e : (-1 : Int32).toInt = -1 := by decide
  omega
theorem nI_m1' {n : Nat} (h : n < 2 ^ 31) : ((-1 : Int32) = nI n) = False := eq_false (fun z => of_eq_false (nI_m1 h) z.symm)
theorem nI_ofNat (n : Nat) : Int32.ofNat n = nI n := rfl
theorem inb_nI {i n : Nat} (h : i < 2 ^ 31) : (inb (nI i) n = true) ↔ (i < n) := by
  rw [inb_in]
  unfold vp_in
  rw [nI_clamp h]
  have := nI_pos h
  constructor
  · intro z; exact Nat.not_le.mp fun q => z (Or.inr q)
  · intro z q
    rcases q with q | q
    · exact this q
    · omega
def bI (b : Bool) : Int32 := nI b.toNat
theorem bI_01 {b : Bool} : (bI b = 0 ∨ bI b = 1) = True := by cases b <;> exact eq_true (by decide)
theorem b01_0 : (nI 0 = 0 ∨ nI 0 = 1) = True := eq_true (by decide)
theorem b01_1 : (nI 1 = 0 ∨ nI 1 = 1) = True := eq_true (by decide)
theorem bI_eq0 {b : Bool} : (bI b = 0) ↔ (b = false) := by cases b <;> decide
theorem bI_t : nI 1 = bI true := rfl
theorem bI_f : nI 0 = bI false := rfl
theorem bI_dec {c : Prop} [Decidable c] : bI (decide c) = if c then nI 1 else nI 0 := by by_cases h : c <;> simp [h, bI]
/-- what is small is some nI -/
theorem nI_ex {x : Int32} {n : Nat} (h0 : 0 ≤ x) (h : x < nI n) (hn : n < 2 ^ 31) : ∃ j, j < n ∧ x = nI j := by
  obtain ⟨j, hj, rfl⟩ := nI_of (x := x) (fun z => Int32.lt_irrefl (Int32.lt_of_lt_of_le z h0))
  exact ⟨j, (nI_ltI hj hn).mp h, rfl⟩
/-! THE MODEL's MEMORY: what has changed -/
def Kp (L F : List Nat) (M M' : MM) : Prop := (∀ k, k ≠ 0 → L.contains k = false → rI M' k = rI M k) ∧ (∀ i, F.contains i = false → rI M' 0 i = rI M 0 i) ∧ M'.2 = M.2
theorem Kp.rf {L F : List Nat} {M : MM} : Kp L F M M := ⟨fun _ _ _ => rfl, fun _ _ => rfl, rfl⟩
theorem Kp.w {L F : List Nat} {M M' : MM} {k i : Nat} {v : Int32} (h : Kp L F M M') (hk : L.contains k = true) (h0 : Nat.blt 0 k = true) : Kp L F M (wI M' k i v) := by
  have h0 : 0 < k := Nat.le_of_ble_eq_true h0
  refine ⟨fun j hj hc => ?_, fun j hj => ?_, h.2.2⟩
  · rw [wI_off (fun e => by rw [e, hk] at hc; cases hc)]; exact h.1 j hj hc
  · rw [wI_off (Nat.ne_of_lt h0)]; exact h.2.1 j hj
theorem Kp.f {L F : List Nat} {M M' : MM} {i : Nat} {v : Int32} (h : Kp L F M M') (hk : F.contains i = true) : Kp L F M (wI M' 0 i v) := by
  refine ⟨fun j hj hc => ?_, fun j hj => ?_, h.2.2⟩
  · rw [wI_off hj]; exact h.1 j hj hc
  · rw [wI_self, pk_un (fun e => by rw [e, hk] at hj; cases hj)]; exact h.2.1 j hj
theorem Kp.tr {L F : List Nat} {M M' M'' : MM} (h : Kp L F M M') (h' : Kp L F M' M'') : Kp L F M M'' := ⟨fun k a b => (h'.1 k a b).trans (h.1 k a b), fun i a => (h'.2.1 i a).trans (h.2.1 i a), h'.2.2.trans h.2.2⟩
theorem sub_c {L L' : List Nat} (h : L.all (fun k => L'.contains k) = true) {k : Nat} (hc : L'.contains k = false) : L.contains k = false := by
  cases hk : L.contains k with
  | false => rfl
  | true =>
    rw [List.all_eq_true] at h
    have := h k (List.contains_iff_mem.mp hk)
    rw [this] at hc
    cases hc
theorem Kp.sub {L F L' F' : List Nat} {M M' : MM} (h : Kp L F M M') (hL : L.all (fun k => L'.contains k) = true) (hF : F.all (fun k => F'.contains k) = true) : Kp L' F' M M' := ⟨fun k a b => h.1 k a (sub_c hL b), fun i a => h.2.1 i (sub_c hF a), h.2.2⟩
/-- reads behind writes -/
theorem rI_ws {M : MM} {k i j : Nat} {v : Int32} : rI (wI M k i v) k j = if j = i then v else rI M k j := by rw [wI_self]; rfl
theorem rI_wo {M : MM} {k k' i j : Nat} {v : Int32} (h : Nat.beq k' k = false) : rI (wI M k i v) k' j = rI M k' j := by rw [wI_off (Nat.ne_of_beq_eq_false h)]
theorem rI_wL {M : MM} {k k' i j : Nat} {v : Int64} : rI (wL M k i v) k' j = rI M k' j := rfl
theorem rL_ws {M : MM} {k i j : Nat} {v : Int64} : rL (wL M k i v) k j = if j = i then v else rL M k j := by rw [wL_self]; rfl
theorem rL_wo {M : MM} {k k' i j : Nat} {v : Int64} (h : Nat.beq k' k = false) : rL (wL M k i v) k' j = rL M k' j := by rw [wL_off (Nat.ne_of_beq_eq_false h)]
theorem rL_wI {M : MM} {k k' i j : Nat} {v : Int32} : rL (wI M k i v) k' j = rL M k' j := rfl
/-! ROWS of doors: 80 numbers each in a long row -/
def upN (f : Nat → Nat) (k x : Nat) : Nat → Nat := fun j => if j = k then x else f j
theorem upN_s {f : Nat → Nat} {k x : Nat} : upN f k x k = x := if_pos rfl
theorem upN_n {f : Nat → Nat} {k x j : Nat} (h : j ≠ k) : upN f k x j = f j := if_neg h
def rowOf (s : Nat → Nat) (d : Nat) : Nat → Nat := fun i => if i < 80 then s (80 * d + i) else 0
def setRow (s : Nat → Nat) (d : Nat) (r : Nat → Nat) : Nat → Nat := fun j => if 80 * d ≤ j ∧ j < 80 * d + 80 then r (j - 80 * d) else s j
def Cn (r : Nat → Nat) : Prop := ∀ i, 80 ≤ i → r i = 0
theorem Cn.row {s : Nat → Nat} {d : Nat} : Cn (rowOf s d) := fun i hi => if_neg (by omega)
theorem Cn.up {r : Nat → Nat} {i v : Nat} (h : Cn r) (hi : i < 80) : Cn (upN r i v) := fun j hj => by rw [upN_n (by omega)]; exact h j hj
theorem rowOf_at {s : Nat → Nat} {d i : Nat} (h : i < 80) : rowOf s d i = s (80 * d + i) := if_pos h
theorem row_set {s : Nat → Nat} {d : Nat} {r : Nat → Nat} (h : Cn r) : rowOf (setRow s d r) d = r := by
  funext i
  unfold rowOf
  split
  · unfold setRow
    rw [if_pos (by omega)]
    congr 1
    omega
  · exact (h i (by omega)).symm
theorem row_off {s : Nat → Nat} {d d' : Nat} {r : Nat → Nat} (h : d' ≠ d) : rowOf (setRow s d r) d' = rowOf s d' := by
  funext i
  unfold rowOf setRow
  split
  · rw [if_neg (by omega)]
  · rfl
theorem set_set {s : Nat → Nat} {d : Nat} {r r' : Nat → Nat} : setRow (setRow s d r) d r' = setRow s d r' := by
  funext j
  unfold setRow
  split <;> rfl
theorem set_off {s : Nat → Nat} {d j : Nat} {r : Nat → Nat} (h : ¬ (80 * d ≤ j ∧ j < 80 * d + 80)) : setRow s d r j = s j := if_neg h
theorem up_row {s : Nat → Nat} {d i v : Nat} (h : i < 80) : upN s (80 * d + i) v = setRow s d (upN (rowOf s d) i v) := by
  funext j
  unfold setRow upN rowOf
  by_cases h1 : 80 * d ≤ j ∧ j < 80 * d + 80
  · rw [if_pos h1]
    by_cases h2 : j = 80 * d + i
    · rw [if_pos h2, if_pos (by omega)]
    · rw [if_neg h2, if_neg (by omega), if_pos (by omega)]
      congr 1
      omega
  · rw [if_neg h1, if_neg (by omega)]
theorem set_self {s : Nat → Nat} {d : Nat} : setRow s d (rowOf s d) = s := by
  funext j
  unfold setRow rowOf
  split
  · rw [if_pos (by omega)]; congr 1; omega
  · rfl
/-- an array that holds small numbers -/
def SM (M : MM) (k n : Nat) (s : Nat → Nat) : Prop := ∀ j, j < n → rI M k j = nI (s j)
theorem SM.w {M : MM} {k n i v : Nat} {s : Nat → Nat} (h : SM M k n s) : SM (wI M k i (nI v)) k n (upN s i v) := by
  intro j hj
  rw [rI_ws]
  unfold upN
  split
  · rfl
  · exact h j hj
theorem SM.o {M : MM} {k k' n i : Nat} {v : Int32} {s : Nat → Nat} (h : SM M k n s) (hk : Nat.beq k k' = false) : SM (wI M k' i v) k n s := fun j hj => by rw [rI_wo hk]; exact h j hj
theorem SM.k {M M' : MM} {k n : Nat} {s : Nat → Nat} (h : SM M k n s) (e : rI M' k = rI M k) : SM M' k n s := fun j hj => by rw [e]; exact h j hj
theorem nI_div {a b : Nat} (ha : a < 2 ^ 31) (hb : b < 2 ^ 31) (h0 : 0 < b) : nI a / nI b = nI (a / b) := by
  apply Int32.toInt_inj.mp
  have hab : a / b ≤ a := Nat.div_le_self a b
  rw [Int32.toInt_div_of_ne_right, nI_toInt ha, nI_toInt hb, nI_toInt (by omega)]
  · exact (Int.ofNat_tdiv a b).symm
  · intro z
    have := congrArg Int32.toInt z
    rw [nI_toInt hb] at this
    have e : (-1 : Int32).toInt = -1 := by decide
    omega
theorem nI_rem {a b : Nat} (ha : a < 2 ^ 31) (hb : b < 2 ^ 31) (h0 : 0 < b) : nI a - nI a / nI b * nI b = nI (a % b) := by
  rw [nI_div ha hb h0, nI_mul, nI_subI (Nat.div_mul_le_self a b)]
  congr 1
  have := Nat.div_add_mod a b
  rw [Nat.mul_comm] at this
  omega
theorem nI_eq1 {n : Nat} (h : n < 2 ^ 31) : (nI n = 1) ↔ (n = 1) := nI_eq (b := 1) h (by omega)
theorem al_1 : alen 1 = 1000 := rfl
theorem al_2 : alen 2 = 36 := rfl
theorem al_3 : alen 3 = 42 := rfl
theorem al_4 : alen 4 = 30 := rfl
theorem al_5 : alen 5 = 168 := rfl
theorem al_6 : alen 6 = 42 := rfl
theorem al_7 : alen 7 = 42 := rfl
theorem al_8 : alen 8 = 42 := rfl
theorem al_9 : alen 9 = 30 := rfl
theorem al_10 : alen 10 = 30 := rfl
theorem al_11 : alen 11 = 60 := rfl
theorem al_12 : alen 12 = 60 := rfl
theorem al_13 : alen 13 = 12 := rfl
theorem al_14 : alen 14 = 12 := rfl
theorem al_15 : alen 15 = 6000 := rfl
theorem al_16 : alen 16 = 18 := rfl
theorem al_17 : alen 17 = 216 := rfl
theorem al_18 : alen 18 = 216 := rfl
theorem al_19 : alen 19 = 216 := rfl
theorem al_20 : alen 20 = 7 := rfl
theorem al_21 : alen 21 = 7 := rfl
theorem al_22 : alen 22 = 7 := rfl
theorem al_23 : alen 23 = 7 := rfl
theorem al_24 : alen 24 = 7 := rfl
theorem al_25 : alen 25 = 7 := rfl
theorem al_26 : alen 26 = 7 := rfl
theorem al_27 : alen 27 = 7 := rfl
theorem al_28 : alen 28 = 7 := rfl
theorem al_29 : alen 29 = 7 := rfl
theorem al_30 : alen 30 = 7 := rfl
theorem al_31 : alen 31 = 20 := rfl
theorem al_32 : alen 32 = 402 := rfl
theorem al_33 : alen 33 = 2412 := rfl
theorem al_34 : alen 34 = 1608 := rfl
theorem al_35 : alen 35 = 6432 := rfl
theorem al_36 : alen 36 = 4 := rfl
theorem al_37 : alen 37 = 4 := rfl
theorem al_38 : alen 38 = 20 := rfl
theorem al_39 : alen 39 = 5 := rfl
theorem al_40 : alen 40 = 4 := rfl
theorem al_41 : alen 41 = 100 := rfl
theorem al_42 : alen 42 = 100 := rfl
theorem al_43 : alen 43 = 7 := rfl
theorem al_44 : alen 44 = 63 := rfl
theorem al_45 : alen 45 = 63 := rfl
theorem al_46 : alen 46 = 4 := rfl
theorem inb_t {i n : Nat} (h : i < n) (hn : n < 2 ^ 31) : inb (nI i) n = true := (inb_nI (by omega)).mpr h
section
variable {a b : Nat}
theorem nI_lt_t (h : a < b) (hb : b < 2 ^ 31) : (nI a < nI b) = True := eq_true (nI_lt h hb)
theorem nI_lt_f (h : b ≤ a) (hb : a < 2 ^ 31) : (nI a < nI b) = False := eq_false (nI_nlt h hb)
theorem nI_le_t (h : a ≤ b) (hb : b < 2 ^ 31) : (nI a ≤ nI b) = True := eq_true (nI_le h hb)
theorem nI_le_f (h : b < a) (hb : a < 2 ^ 31) : (nI a ≤ nI b) = False := eq_false (nI_ge h hb)
theorem nI_eq_t (h : a = b) : (nI a = nI b) = True := eq_true (by rw [h])
theorem nI_eq_f (h : a ≠ b) (ha : a < 2 ^ 31) (hb : b < 2 ^ 31) : (nI a = nI b) = False := eq_false (fun z => h ((nI_eq ha hb).mp z))
theorem nI_eq0_t (h : a = 0) : (nI a = 0) = True := by subst h; exact eq_true nI_0
theorem nI_eq0_f (h : 0 < a) (ha : a < 2 ^ 31) : (nI a = 0) = False := eq_false (nI_ne0 h ha)
theorem nI_0lt_t (h : 0 < a) (ha : a < 2 ^ 31) : (0 < nI a) = True := eq_true ((nI_0lt ha).mpr h)
theorem nI_0lt_f (h : a = 0) : (0 < nI a) = False := by subst h; exact eq_false (by decide)
theorem nI_le0_t (h : a = 0) : (nI a ≤ 0) = True := by subst h; exact eq_true (by decide)
theorem nI_le0_f (h : 0 < a) (ha : a < 2 ^ 31) : (nI a ≤ 0) = False := eq_false (nI_nle h ha)
theorem nI_eq1_t (h : a = 1) : (nI a = 1) = True := by subst h; exact eq_true rfl
theorem nI_eq1_f (h : a ≠ 1) (ha : a < 2 ^ 31) : (nI a = 1) = False := eq_false (fun z => h ((nI_eq1 ha).mp z))
theorem nP {P : MR → Prop} {M : MM} (h : a = b) : P (some (.int (nI a)), M) ↔ P (some (.int (nI b)), M) := by rw [h]
end
theorem rI_we {M : MM} {k i : Nat} {v : Int32} : rI (wI M k i v) k i = v := by rw [rI_ws, if_pos rfl]
theorem rI_wn {M : MM} {k i j : Nat} {v : Int32} (h : j ≠ i) : rI (wI M k i v) k j = rI M k j := by rw [rI_ws, if_neg h]
theorem rI_wo' {M : MM} {k k' i j : Nat} {v : Int32} (h : k' ≠ k) : rI (wI M k i v) k' j = rI M k' j := by rw [wI_off h]
theorem SM.rw {M : MM} {s r : Nat → Nat} {d i v : Nat} (h : SM M 32 402 (setRow s d r)) (hi : i < 80) (hd : d < 5) : SM (wI M 32 (80 * d + i) (nI v)) 32 402 (setRow s d (upN r i v)) := by
  have e : setRow s d (upN r i v) = upN (setRow s d r) (80 * d + i) v := by
    funext j
    unfold setRow upN
    dsimp only
    by_cases h1 : 80 * d ≤ j ∧ j < 80 * d + 80
    · rw [if_pos h1, if_pos h1]
      by_cases h2 : j = 80 * d + i
      · rw [if_pos h2, if_pos (by omega)]
      · rw [if_neg h2, if_neg (by omega)]
    · rw [if_neg h1, if_neg h1, if_neg (by omega)]
  rw [e]
  exact h.w
theorem SM.rd {M : MM} {s r : Nat → Nat} {d i : Nat} (h : SM M 32 402 (setRow s d r)) (hi : i < 80) (hd : d < 5) : rI M 32 (80 * d + i) = nI (r i) := by
  rw [h _ (by omega)]
  unfold setRow
  rw [if_pos (by omega), Nat.add_sub_cancel_left]
theorem SM.st {M : MM} {s : Nat → Nat} {d : Nat} (h : SM M 32 402 s) : SM M 32 402 (setRow s d (rowOf s d)) := by rw [set_self]; exact h
theorem SM.of {M : MM} {k n : Nat} {s s' : Nat → Nat} (h : SM M k n s) (e : s = s') : SM M k n s' := e ▸ h
theorem m1_lt0 : ((-1 : Int32) < 0) = True := eq_true (by decide)
theorem m1_0le : (0 ≤ (-1 : Int32)) = False := eq_false (by decide)
theorem m1_eq0 : ((-1 : Int32) = 0) = False := eq_false (by decide)
theorem m1_lt {n : Nat} (h : n < 2 ^ 31) : ((-1 : Int32) < nI n) = True := eq_true (by
  rw [Int32.lt_iff_toInt_lt, nI_toInt h, show (-1 : Int32).toInt = -1 by decide]; omega)
theorem m1_le {n : Nat} (h : n < 2 ^ 31) : ((-1 : Int32) ≤ nI n) = True := eq_true (Int32.le_of_lt (of_eq_true (m1_lt h)))
theorem le_m1 {n : Nat} (h : n < 2 ^ 31) : (nI n ≤ (-1 : Int32)) = False := eq_false (Int32.not_le.mpr (of_eq_true (m1_lt h)))
theorem lt_m1 {n : Nat} (h : n < 2 ^ 31) : (nI n < (-1 : Int32)) = False := eq_false (fun z => of_eq_false (le_m1 h) (Int32.le_of_lt z))
def faV (o : Option Nat) : Int32 := match o with
  | none => -1
  | some n => nI n
theorem faV_n : faV none = -1 := rfl
theorem faV_s {n : Nat} : faV (some n) = nI n := rfl
theorem bI_eq1 {b : Bool} : (bI b = 1) ↔ (b = true) := by cases b <;> decide
theorem bb_01 {b : Bool} : (b = false ∨ b = true) = True := by cases b <;> exact eq_true (by decide)
