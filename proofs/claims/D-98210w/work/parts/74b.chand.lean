set_option maxRecDepth 100000
/-! READS AND CASTS of a hand of any kind (printed by gen/chand.py) -/
section
variable {σ : CM} {ha hk : Nat} {nm : Int64} {ma sl tr : Nat}
theorem gH_0_177 (h : HandAt σ ha hk nm ma sl tr) (hk4 : hk ≤ 4) {K : Value → Prop} : gE 0 177 (gC σ ha) K = K (.int (nI sl)) := by
  unfold HandAt at h
  have : hk = 0 ∨ hk = 1 ∨ hk = 2 ∨ hk = 3 ∨ hk = 4 := by omega
  rcases this with rfl | rfl | rfl | rfl | rfl <;> rw [h] <;> first | rfl | (simp only [Nat.reduceAdd, gw_0_177_12, gw_0_177_13, gw_0_177_14, gw_0_177_15, gw_0_177_16]; rfl)
theorem gH_0_183 (h : HandAt σ ha hk nm ma sl tr) (hk4 : hk ≤ 4) {K : Value → Prop} : gE 0 183 (gC σ ha) K = K (.ref ma) := by
  unfold HandAt at h
  have : hk = 0 ∨ hk = 1 ∨ hk = 2 ∨ hk = 3 ∨ hk = 4 := by omega
  rcases this with rfl | rfl | rfl | rfl | rfl <;> rw [h] <;> first | rfl | (simp only [Nat.reduceAdd, gw_0_183_12, gw_0_183_13, gw_0_183_14, gw_0_183_15, gw_0_183_16]; rfl)
theorem gH_1_258 (h : HandAt σ ha hk nm ma sl tr) (hk4 : hk ≤ 4) {K : Value → Prop} : gE 1 258 (gC σ ha) K = K (.ref ma) := by
  unfold HandAt at h
  have : hk = 0 ∨ hk = 1 ∨ hk = 2 ∨ hk = 3 ∨ hk = 4 := by omega
  rcases this with rfl | rfl | rfl | rfl | rfl <;> rw [h] <;> first | rfl | (simp only [Nat.reduceAdd, gw_1_258_12, gw_1_258_13, gw_1_258_14, gw_1_258_15, gw_1_258_16]; rfl)
theorem gH_2_92 (h : HandAt σ ha hk nm ma sl tr) (hk4 : hk ≤ 4) {K : Value → Prop} : gE 2 92 (gC σ ha) K = K (.ref ma) := by
  unfold HandAt at h
  have : hk = 0 ∨ hk = 1 ∨ hk = 2 ∨ hk = 3 ∨ hk = 4 := by omega
  rcases this with rfl | rfl | rfl | rfl | rfl <;> rw [h] <;> first | rfl | (simp only [Nat.reduceAdd, gw_2_92_12, gw_2_92_13, gw_2_92_14, gw_2_92_15, gw_2_92_16]; rfl)
theorem gH_3_57 (h : HandAt σ ha hk nm ma sl tr) (hk4 : hk ≤ 4) {K : Value → Prop} : gE 3 57 (gC σ ha) K = K (.long nm) := by
  unfold HandAt at h
  have : hk = 0 ∨ hk = 1 ∨ hk = 2 ∨ hk = 3 ∨ hk = 4 := by omega
  rcases this with rfl | rfl | rfl | rfl | rfl <;> rw [h] <;> first | rfl | (simp only [Nat.reduceAdd, gw_3_57_12, gw_3_57_13, gw_3_57_14, gw_3_57_15, gw_3_57_16]; rfl)
theorem gH_31_53 (h : HandAt σ ha hk nm ma sl tr) (hk4 : hk ≤ 4) {K : Value → Prop} : gE 31 53 (gC σ ha) K = K (.int (nI sl)) := by
  unfold HandAt at h
  have : hk = 0 ∨ hk = 1 ∨ hk = 2 ∨ hk = 3 ∨ hk = 4 := by omega
  rcases this with rfl | rfl | rfl | rfl | rfl <;> rw [h] <;> first | rfl | (simp only [Nat.reduceAdd, gw_31_53_12, gw_31_53_13, gw_31_53_14, gw_31_53_15, gw_31_53_16]; rfl)
theorem kH_0_27 (h : HandAt σ ha hk nm ma sl tr) (hk4 : hk ≤ 4) {K : Prop} : kE 0 27 (gC σ ha) K ↔ K := by
  unfold HandAt at h
  have : hk = 0 ∨ hk = 1 ∨ hk = 2 ∨ hk = 3 ∨ hk = 4 := by omega
  rcases this with rfl | rfl | rfl | rfl | rfl <;> rw [h]
  · exact kE_o kcc_0_27_12
  · exact kE_o kcc_0_27_13
  · exact kE_o kcc_0_27_14
  · exact kE_o kcc_0_27_15
  · exact kE_o kcc_0_27_16
theorem kH_1_256 (h : HandAt σ ha hk nm ma sl tr) (hk4 : hk ≤ 4) {K : Prop} : kE 1 256 (gC σ ha) K ↔ K := by
  unfold HandAt at h
  have : hk = 0 ∨ hk = 1 ∨ hk = 2 ∨ hk = 3 ∨ hk = 4 := by omega
  rcases this with rfl | rfl | rfl | rfl | rfl <;> rw [h]
  · exact kE_o kcc_1_256_12
  · exact kE_o kcc_1_256_13
  · exact kE_o kcc_1_256_14
  · exact kE_o kcc_1_256_15
  · exact kE_o kcc_1_256_16
theorem kH_2_86 (h : HandAt σ ha hk nm ma sl tr) (hk4 : hk ≤ 4) {K : Prop} : kE 2 86 (gC σ ha) K ↔ K := by
  unfold HandAt at h
  have : hk = 0 ∨ hk = 1 ∨ hk = 2 ∨ hk = 3 ∨ hk = 4 := by omega
  rcases this with rfl | rfl | rfl | rfl | rfl <;> rw [h]
  · exact kE_o kcc_2_86_12
  · exact kE_o kcc_2_86_13
  · exact kE_o kcc_2_86_14
  · exact kE_o kcc_2_86_15
  · exact kE_o kcc_2_86_16
theorem kH_3_55 (h : HandAt σ ha hk nm ma sl tr) (hk4 : hk ≤ 4) {K : Prop} : kE 3 55 (gC σ ha) K ↔ K := by
  unfold HandAt at h
  have : hk = 0 ∨ hk = 1 ∨ hk = 2 ∨ hk = 3 ∨ hk = 4 := by omega
  rcases this with rfl | rfl | rfl | rfl | rfl <;> rw [h]
  · exact kE_o kcc_3_55_12
  · exact kE_o kcc_3_55_13
  · exact kE_o kcc_3_55_14
  · exact kE_o kcc_3_55_15
  · exact kE_o kcc_3_55_16
theorem kH_31_51 (h : HandAt σ ha hk nm ma sl tr) (hk4 : hk ≤ 4) {K : Prop} : kE 31 51 (gC σ ha) K ↔ K := by
  unfold HandAt at h
  have : hk = 0 ∨ hk = 1 ∨ hk = 2 ∨ hk = 3 ∨ hk = 4 := by omega
  rcases this with rfl | rfl | rfl | rfl | rfl <;> rw [h]
  · exact kE_o kcc_31_51_12
  · exact kE_o kcc_31_51_13
  · exact kE_o kcc_31_51_14
  · exact kE_o kcc_31_51_15
  · exact kE_o kcc_31_51_16
theorem kH_33_96 (h : HandAt σ ha hk nm ma sl tr) (hk4 : hk ≤ 4) {K : Prop} : kE 33 96 (gC σ ha) K ↔ K := by
  unfold HandAt at h
  have : hk = 0 ∨ hk = 1 ∨ hk = 2 ∨ hk = 3 ∨ hk = 4 := by omega
  rcases this with rfl | rfl | rfl | rfl | rfl <;> rw [h]
  · exact kE_o kcc_33_96_12
  · exact kE_o kcc_33_96_13
  · exact kE_o kcc_33_96_14
  · exact kE_o kcc_33_96_15
  · exact kE_o kcc_33_96_16
theorem kH_34_62 (h : HandAt σ ha hk nm ma sl tr) (hk4 : hk ≤ 4) {K : Prop} : kE 34 62 (gC σ ha) K ↔ K := by
  unfold HandAt at h
  have : hk = 0 ∨ hk = 1 ∨ hk = 2 ∨ hk = 3 ∨ hk = 4 := by omega
  rcases this with rfl | rfl | rfl | rfl | rfl <;> rw [h]
  · exact kE_o kcc_34_62_12
  · exact kE_o kcc_34_62_13
  · exact kE_o kcc_34_62_14
  · exact kE_o kcc_34_62_15
  · exact kE_o kcc_34_62_16
end
