/-! BOUNDS of rows -/
section
variable {B C kd m : Nat} {r f : Nat → Nat}
theorem anS_ext {r r' : Nat → Nat} {a : Nat} : ∀ {n : Nat}, (∀ i, i < n → r (a + i) = r' (a + i)) → anS r a n = anS r' a n
  | 0, _ => rfl
  | n + 1, h => by
    unfold anS
    rw [anS_ext (fun i hi => h i (by omega)), h n (by omega)]
theorem anS_pos {r r' : Nat → Nat} {a : Nat} : ∀ {n : Nat}, (∀ i, i < n → (0 < r (a + i) ↔ 0 < r' (a + i))) → anS r a n = anS r' a n
  | 0, _ => rfl
  | n + 1, h => by
    unfold anS
    rw [anS_pos (fun i hi => h i (by omega)), decide_eq_decide.mpr (h n (by omega))]
theorem anS_true {r : Nat → Nat} {a i : Nat} : ∀ {n : Nat}, i < n → 0 < r (a + i) → anS r a n = true
  | 0, h, _ => by omega
  | n + 1, h, hp => by
    unfold anS
    by_cases hi : i = n
    · subst hi; simp [hp]
    · rw [anS_true (n := n) (by omega) hp]; rfl
theorem RO.le (h : RO B r) (hC : B ≤ C) : RO C r := ⟨fun i hi => Nat.le_trans (h.1 i hi) hC, h.2⟩
theorem lrS_RO (h : RO B r) (hf : ∀ k, k < 4 → f k ≤ 9) (hm : m ≤ 9) : RO (B + 81) (lrS kd r f m) := by
  obtain ⟨h1, h2, h3, h4, h5, h6⟩ := h
  have f0 := hf 0 (by omega)
  have f1 := hf 1 (by omega)
  have f2 := hf 2 (by omega)
  have f3 := hf 3 (by omega)
  unfold lrS
  split
  · exact ⟨fun i hi => Nat.le_trans (h1 i hi) (by omega), h2, h3, h4, h5, h6⟩
  · split
    · have b0 := h1 (36 + f 0) (by omega)
      have b1 := h1 (46 + f 1) (by omega)
      have b2 := h1 (56 + f 2) (by omega)
      have b3 := h1 (66 + f 3) (by omega)
      refine ⟨fun i hi => ?_, ?_, ?_, ?_, fun i hi => ?_, fun k hk => ?_⟩
      · have := h1 i hi
        unfold upN
        repeat' split
        all_goals omega
      · rw [upN_n (by omega), upN_n (by omega), upN_n (by omega), upN_n (by omega)]; exact h2
      · rw [upN_n (by omega), upN_n (by omega), upN_n (by omega), upN_n (by omega)]; exact h3
      · rw [upN_n (by omega), upN_n (by omega), upN_n (by omega), upN_n (by omega)]; exact h4
      · rw [upN_n (by omega), upN_n (by omega), upN_n (by omega), upN_n (by omega)]; exact h5 i hi
      · by_cases hm0 : m = 0
        · have e : ∀ a, anS (upN (upN (upN (upN r (36 + f 0) (min 9999 (r (36 + f 0) + m))) (46 + f 1) (min 9999 (r (46 + f 1) + m))) (56 + f 2) (min 9999 (r (56 + f 2) + m))) (66 + f 3) (min 9999 (r (66 + f 3) + m))) a 10 = anS r a 10 := fun a => anS_pos (fun i hi => by
            unfold upN
            repeat' split
            all_goals first | omega | (rename_i z; rw [z]; omega) | (rename_i _ z; rw [z]; omega))
          rw [e, e]
          exact h6 k hk
        · have key : ∀ k, k < 4 → anS (upN (upN (upN (upN r (36 + f 0) (min 9999 (r (36 + f 0) + m))) (46 + f 1) (min 9999 (r (46 + f 1) + m))) (56 + f 2) (min 9999 (r (56 + f 2) + m))) (66 + f 3) (min 9999 (r (66 + f 3) + m))) (36 + 10 * k) 10 = true := by
            intro k hk
            have : k = 0 ∨ k = 1 ∨ k = 2 ∨ k = 3 := by omega
            rcases this with rfl | rfl | rfl | rfl
            · refine anS_true (i := f 0) (by omega) ?_
              rw [upN_n (by omega), upN_n (by omega), upN_n (by omega), upN_s]
              omega
            · refine anS_true (i := f 1) (by omega) ?_
              rw [upN_n (by omega), upN_n (by omega), upN_s]
              omega
            · refine anS_true (i := f 2) (by omega) ?_
              rw [upN_n (by omega), upN_s]
              omega
            · refine anS_true (i := f 3) (by omega) ?_
              rw [upN_s]
              omega
          rw [key k hk]
          exact (key 0 (by omega)).symm
    · split
      · split
        · exact ⟨fun i hi => Nat.le_trans (h1 i hi) (by omega), h2, h3, h4, h5, h6⟩
        · have hs : ∀ i, i < 80 → shS r 0 i ≤ B := fun i hi => by
            unfold shS
            split
            · exact h1 _ (by omega)
            · exact h1 i hi
          refine ⟨fun i hi => ?_, ?_, ?_, ?_, fun i hi => ?_, fun k hk => ?_⟩
          · have := hs i hi
            unfold upN
            repeat' split
            all_goals omega
          · rw [upN_n (by omega), upN_n (by omega), upN_n (by omega), upN_n (by omega), upN_n (by omega)]; exact h2
          · rw [upN_n (by omega), upN_n (by omega), upN_n (by omega), upN_n (by omega), upN_n (by omega)]; exact h3
          · rw [upN_s]; omega
          · rw [upN_n (by omega)]
            unfold upN
            split
            · exact f3
            · split
              · exact f2
              · split
                · exact f1
                · split
                  · exact f0
                  · unfold shS
                    split
                    · have := h5 (i - 4) (by omega)
                      rw [show 12 + (i - 4) = 12 + i - 4 by omega] at this
                      exact this
                    · exact h5 i hi
          · have e : ∀ a, 36 ≤ a → anS (upN (upN (upN (upN (upN (shS r 0) 12 (f 0)) 13 (f 1)) 14 (f 2)) 15 (f 3)) 11 (min 6 (r 11 + 1))) a 10 = anS r a 10 := fun a ha => anS_ext (fun i hi => by
              rw [upN_n (by omega), upN_n (by omega), upN_n (by omega), upN_n (by omega), upN_n (by omega)]
              unfold shS
              rw [if_neg (by omega)])
            rw [e _ (by omega), e _ (by omega)]
            exact h6 k hk
      · have p0 := mulle hm f0
        have p1 := mulle hm f1
        have p2 := mulle hm f2
        have p3 := mulle hm f3
        refine ⟨fun i hi => ?_, ?_, ?_, ?_, fun i hi => ?_, fun k hk => ?_⟩
        · have := h1 i hi
          have := h1 6 (by omega)
          have := h1 7 (by omega)
          have := h1 8 (by omega)
          have := h1 9 (by omega)
          have := h1 10 (by omega)
          unfold upN
          repeat' split
          all_goals omega
        · rw [upN_n (by omega), upN_n (by omega), upN_n (by omega), upN_n (by omega), upN_n (by omega)]; exact h2
        · rw [upN_n (by omega), upN_n (by omega), upN_n (by omega), upN_n (by omega), upN_n (by omega)]; exact h3
        · rw [upN_n (by omega), upN_n (by omega), upN_n (by omega), upN_n (by omega), upN_n (by omega)]; exact h4
        · rw [upN_n (by omega), upN_n (by omega), upN_n (by omega), upN_n (by omega), upN_n (by omega)]; exact h5 i hi
        · have e : ∀ a, 36 ≤ a → anS (upN (upN (upN (upN (upN r 6 (r 6 + m * f 0)) 7 (r 7 + m * f 1)) 8 (r 8 + m * f 2)) 9 (r 9 + m * f 3)) 10 (r 10 + m)) a 10 = anS r a 10 := fun a ha => anS_ext (fun i hi => by rw [upN_n (by omega), upN_n (by omega), upN_n (by omega), upN_n (by omega), upN_n (by omega)])
          rw [e _ (by omega), e _ (by omega)]
          exact h6 k hk
theorem up_RO (h : RO B r) {i v : Nat} (hi : i < 5) (h0 : 0 < i) (hv : v ≤ C) (hC : B ≤ C) : RO C (upN r i v) := by
  obtain ⟨h1, h2, h3, h4, h5, h6⟩ := h
  refine ⟨fun j hj => ?_, by rw [upN_n (by omega)]; exact h2, by rw [upN_n (by omega)]; exact h3, by rw [upN_n (by omega)]; exact h4, fun j hj => by rw [upN_n (by omega)]; exact h5 j hj, fun k hk => ?_⟩
  · have := h1 j hj
    unfold upN
    split <;> omega
  · rw [anS_ext (r := upN r i v) (r' := r) (fun j hj => upN_n (by omega)), anS_ext (r := upN r i v) (r' := r) (fun j hj => upN_n (by omega))]
    exact h6 k hk
theorem up5_RO (h : RO B r) {v : Nat} (hv : v ≤ 1) (hB : 1 ≤ B) : RO B (upN r 5 v) := by
  obtain ⟨h1, h2, h3, h4, h5, h6⟩ := h
  refine ⟨fun j hj => ?_, by rw [upN_n (by omega)]; exact h2, by rw [upN_s]; exact hv, by rw [upN_n (by omega)]; exact h4, fun j hj => by rw [upN_n (by omega)]; exact h5 j hj, fun k hk => ?_⟩
  · have := h1 j hj
    unfold upN
    split <;> omega
  · rw [anS_ext (r := upN r 5 v) (r' := r) (fun j hj => upN_n (by omega)), anS_ext (r := upN r 5 v) (r' := r) (fun j hj => upN_n (by omega))]
    exact h6 k hk
theorem up0_RO (h : RO B r) {v : Nat} (hv : v ≤ 99) (hB : 99 ≤ B) : RO B (upN r 0 v) := by
  obtain ⟨h1, h2, h3, h4, h5, h6⟩ := h
  refine ⟨fun j hj => ?_, by rw [upN_s]; exact hv, by rw [upN_n (by omega)]; exact h3, by rw [upN_n (by omega)]; exact h4, fun j hj => by rw [upN_n (by omega)]; exact h5 j hj, fun k hk => ?_⟩
  · have := h1 j hj
    unfold upN
    split <;> omega
  · rw [anS_ext (r := upN r 0 v) (r' := r) (fun j hj => upN_n (by omega)), anS_ext (r := upN r 0 v) (r' := r) (fun j hj => upN_n (by omega))]
    exact h6 k hk
theorem cnS_RO {is : Bool} (h : RO B r) : RO (B + 1) (cnS kd is r) := by
  have b1 := h.1 1 (by omega)
  have b2 := h.1 2 (by omega)
  have b3 := h.1 3 (by omega)
  have b4 := h.1 4 (by omega)
  have ht : is.toNat ≤ 1 := by cases is <;> decide
  have base : RO (B + 1) (upN (upN (upN (upN r 1 (r 1 + 1)) 2 (r 2 + 1)) 3 (r 3 + is.toNat)) 4 (if is = true then 0 else r 4 + 1)) := by
    refine up_RO (B := B + 1) (up_RO (B := B + 1) (up_RO (B := B + 1) (up_RO h (by omega) (by omega) (by omega) (by omega)) (by omega) (by omega) (by omega) (by omega)) (by omega) (by omega) (by omega) (by omega)) (by omega) (by omega) ?_ (by omega)
    split <;> omega
  unfold cnS
  split
  · exact up5_RO base (by omega) (by omega)
  · exact base
theorem hwS_le {L : Option Law} {is : Bool} {a b : Nat} {x : Option Nat} {c e : Nat} : hwS L is a b x c e ≤ 9 := by
  unfold hwS
  split
  · split <;> omega
  · exact clpN_le (by omega)
theorem trS_RO {L : Option Law} {hk bel a b : Nat} (h : RO B r) (hf : ∀ k, k < 4 → f k ≤ 9) : RO (B + 82) (trS L kd hk bel r f a b) := by
  unfold trS
  split
  · exact (cnS_RO h).le (by omega)
  · exact (cnS_RO (lrS_RO h hf hwS_le)).le (by omega)
theorem mdS_RO (h : RO B r) (hB : 1 ≤ B) : RO B (mdS kd r) := by
  unfold mdS
  have hv : RO B (hvS r) := by
    obtain ⟨h1, h2, h3, h4, h5, h6⟩ := h
    unfold hvS
    refine ⟨fun i hi => ?_, ?_, ?_, ?_, fun i hi => ?_, fun k hk => ?_⟩
    · have := h1 i hi
      have := h1 6 (by omega)
      have := h1 7 (by omega)
      have := h1 8 (by omega)
      have := h1 9 (by omega)
      have := h1 10 (by omega)
      unfold upN
      repeat' split
      all_goals omega
    · rw [upN_n (by omega), upN_n (by omega), upN_n (by omega), upN_n (by omega), upN_n (by omega)]; exact h2
    · rw [upN_n (by omega), upN_n (by omega), upN_n (by omega), upN_n (by omega), upN_n (by omega)]; exact h3
    · rw [upN_n (by omega), upN_n (by omega), upN_n (by omega), upN_n (by omega), upN_n (by omega)]; exact h4
    · rw [upN_n (by omega), upN_n (by omega), upN_n (by omega), upN_n (by omega), upN_n (by omega)]; exact h5 i hi
    · have e : ∀ a, 36 ≤ a → anS (upN (upN (upN (upN (upN r 6 (r 6 / 2)) 7 (r 7 / 2)) 8 (r 8 / 2)) 9 (r 9 / 2)) 10 (r 10 / 2)) a 10 = anS r a 10 := fun a ha => anS_ext (fun i hi => by rw [upN_n (by omega), upN_n (by omega), upN_n (by omega), upN_n (by omega), upN_n (by omega)])
      rw [e _ (by omega), e _ (by omega)]
      exact h6 k hk
  have h0 : RO B (if kd = 3 then hvS r else r) := by
    split
    · exact hv
    · exact h
  exact up5_RO (up_RO (C := B) (up_RO (C := B) h0 (by omega) (by omega) (by omega) (by omega)) (by omega) (by omega) (by omega) (by omega)) (by omega) hB
theorem mxS_lt {a : Nat} : ∀ {n : Nat}, 0 < n → mxS r a n < n
  | 0, h => by omega
  | n + 1, _ => by
    unfold mxS
    split
    · omega
    · by_cases hn : n = 0
      · subst hn; simp [mxS]
      · have := mxS_lt (a := a) (n := n) (by omega); omega
theorem tvS_le (h : RO B r) {k : Nat} (hk : k < 4) : tvS kd r k ≤ 9 := by
  unfold tvS
  split
  · have := mxS_lt (r := r) (a := 36 + 10 * k) (n := 10) (by omega); omega
  · split
    · exact h.2.2.2.2.1 k (by omega)
    · omega
end
/-- all doors' rows -/
def SO (B : Nat) (s : Nat → Nat) : Prop := ∀ d, d < 5 → RO B (rowOf s d)
section
variable {B C : Nat} {q : QT} {s s1 : Nat → Nat}
theorem SO.le (h : SO B s) (hC : B ≤ C) : SO C s := fun d hd => (h d hd).le hC
theorem SO.set (h : SO B s) (hC : B ≤ C) {d : Nat} {r : Nat → Nat} (hr : RO C r) (hc : Cn r) : SO C (setRow s d r) := by
  intro d' hd
  by_cases e : d' = d
  · subst e; rw [row_set hc]; exact hr
  · rw [row_off e]; exact (h d' hd).le hC
theorem Cn.lr {kd m : Nat} {r f : Nat → Nat} (h : Cn r) (hf : ∀ k, k < 4 → f k ≤ 9) : Cn (lrS kd r f m) := by
  have f0 := hf 0 (by omega)
  have f1 := hf 1 (by omega)
  have f2 := hf 2 (by omega)
  have f3 := hf 3 (by omega)
  unfold lrS
  split
  · exact h
  · split
    · exact (((h.up (by omega)).up (by omega)).up (by omega)).up (by omega)
    · split
      · split
        · exact h
        · have : Cn (shS r 0) := fun i hi => by unfold shS; rw [if_neg (by omega)]; exact h i hi
          exact ((((this.up (by omega)).up (by omega)).up (by omega)).up (by omega)).up (by omega)
      · exact ((((h.up (by omega)).up (by omega)).up (by omega)).up (by omega)).up (by omega)
theorem Cn.cn {kd : Nat} {is : Bool} {r : Nat → Nat} (h : Cn r) : Cn (cnS kd is r) := by
  unfold cnS
  split
  · exact ((((h.up (by omega)).up (by omega)).up (by omega)).up (by omega)).up (by omega)
  · exact (((h.up (by omega)).up (by omega)).up (by omega)).up (by omega)
theorem Cn.tr {L : Option Law} {kd hk bel a b : Nat} {r f : Nat → Nat} (h : Cn r) (hf : ∀ k, k < 4 → f k ≤ 9) : Cn (trS L kd hk bel r f a b) := by
  unfold trS
  split
  · exact h.cn
  · exact (h.lr hf).cn
theorem Cn.md {kd : Nat} {r : Nat → Nat} (h : Cn r) : Cn (mdS kd r) := by
  unfold mdS hvS
  split
  · exact (((((((h.up (by omega)).up (by omega)).up (by omega)).up (by omega)).up (by omega)).up (by omega)).up (by omega)).up (by omega)
  · exact ((h.up (by omega)).up (by omega)).up (by omega)
theorem m1_next {j : Nat} : setRow (m1T q s j) j (mdS (qDk q j) (rowOf s j)) = m1T q s (j + 1) := by
  funext i
  unfold setRow m1T
  by_cases h1 : 80 * j ≤ i ∧ i < 80 * j + 80
  · rw [if_pos h1, if_pos (by omega), show i / 80 = j by omega, show i % 80 = i - 80 * j by omega]
  · rw [if_neg h1]
    by_cases h2 : i < 80 * j
    · rw [if_pos h2, if_pos (by omega)]
    · rw [if_neg h2, if_neg (by omega)]
theorem m1_row {j d : Nat} (h : j ≤ d) : rowOf (m1T q s j) d = rowOf s d := by
  funext i
  unfold rowOf m1T
  split
  · rw [if_neg (by omega)]
  · rfl
theorem m1_row' {j d : Nat} (h : d < j) : rowOf (m1T q s j) d = mdS (qDk q d) (rowOf s d) := by
  funext i
  by_cases hi : i < 80
  · rw [rowOf_at hi]
    unfold m1T
    rw [if_pos (by omega), show (80 * d + i) / 80 = d by omega, show (80 * d + i) % 80 = i by omega]
  · have e1 : rowOf (m1T q s j) d i = 0 := Cn.row i (by omega)
    rw [e1]
    exact (Cn.row.md i (by omega)).symm
theorem m1_0 : m1T q s 0 = s := by funext i; unfold m1T; rw [if_neg (by omega)]
theorem m1_hd {i n : Nat} (hn : n ≤ 5) (hi : 400 ≤ i) : m1T q s n i = s i := by unfold m1T; rw [if_neg (by omega)]
theorem m1_SO (h : SO B s) (hB : 1 ≤ B) {n : Nat} : SO B (m1T q s n) := by
  intro d hd
  by_cases hn : d < n
  · rw [m1_row' hn]; exact mdS_RO (h d hd) hB
  · rw [m1_row (by omega)]; exact h d hd
theorem heS_SO {a b : Nat} (h : SO B s) (h1 : SO C s1) (ha : a < 5) (hb : b < 5) (hG : qG q ≤ 9) : SO (B + 81) (heS q s1 a b s) := by
  unfold heS
  split
  · exact h.set (by omega) (lrS_RO (h b hb) (fun k hk => tvS_le (h1 a ha) hk) hG) (Cn.row.lr (fun k hk => tvS_le (h1 a ha) hk))
  · exact h.le (by omega)
theorem heS_hd {a b i : Nat} (hb : b < 5) (hi : 400 ≤ i) : heS q s1 a b s i = s i := by
  unfold heS
  split
  · exact set_off (by omega)
  · rfl
theorem stS_SO (hq : QOK q) (h : SO B s1) : ∀ n, n ≤ qS q → SO (B + 162 * n) (stS q s1 n)
  | 0, _ => h
  | n + 1, hn => by
    obtain ⟨h1, h2, -⟩ := hq.2.2.2.2 n (by omega)
    have hD := hq.1.2.1
    exact (heS_SO (heS_SO (stS_SO hq h n (by omega)) h (by omega) (by omega) hq.1.2.2.2.2) h (by omega) (by omega) hq.1.2.2.2.2).le (by omega)
theorem stS_hd (hq : QOK q) {i : Nat} (hi : 400 ≤ i) : ∀ n, n ≤ qS q → stS q s1 n i = s1 i
  | 0, _ => rfl
  | n + 1, hn => by
    obtain ⟨h1, h2, -⟩ := hq.2.2.2.2 n (by omega)
    have hD := hq.1.2.1
    unfold stS
    rw [heS_hd (by omega) hi, heS_hd (by omega) hi]
    exact stS_hd hq hi n (by omega)
theorem mn_SO (hq : QOK q) (h : SO B s) (hB : 1 ≤ B) : SO (B + 1620) (mnS q s) := by
  have := stS_SO hq (m1_SO (q := q) (n := qD q) h hB) (qS q) (Nat.le_refl _)
  have hS := hq.1.2.2.1
  exact this.le (by omega)
theorem mn_hd (hq : QOK q) {i : Nat} (hi : 400 ≤ i) : mnS q s i = s i := by
  unfold mnS m1S
  rw [stS_hd hq hi _ (Nat.le_refl _)]
  exact m1_hd hq.1.2.1 hi
theorem SO.hd (h : SO B s) {i v : Nat} (hi : 400 ≤ i) : SO B (upN s i v) := by
  intro d hd
  have : rowOf (upN s i v) d = rowOf s d := by
    funext j
    unfold rowOf upN
    split
    · rw [if_neg (by omega)]
    · rfl
  rw [this]
  exact h d hd
theorem ps_SO (hq : QOK q) (h : SO B s) (hB : 1 ≤ B) : SO (B + 1620) (psS q s) := by
  unfold psS
  split
  · exact (h.hd (by omega)).le (by omega)
  · exact mn_SO hq ((h.hd (by omega)).hd (by omega)) hB
theorem tS_SO {d h : Nat} {g : Nat → Nat} (hs : SO B s) (hd : d < 5) : SO (B + 82) (tS q s d h g) := hs.set (by omega) (trS_RO (hs d hd) (fun k _ => ftS_le)) (Cn.row.tr (fun k _ => ftS_le))
theorem tS_hd {d h i : Nat} {g : Nat → Nat} (hd : d < 5) (hi : 400 ≤ i) : tS q s d h g i = s i := set_off (by omega)
end
