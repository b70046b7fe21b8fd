set_option maxRecDepth 100000
/-! THE MODEL's draft of a quarter, at place 1 -/
theorem PlS.w {M : MM} {r k i : Nat} {v : Int32} (h : (k = 2 → ¬ (6 * r ≤ i ∧ i < 6 * r + 6)) ∧ (k = 5 → ¬ (28 * r ≤ i ∧ i < 28 * r + 28)) ∧ (k = 6 ∨ k = 7 ∨ k = 8 → ¬ (7 * r ≤ i ∧ i < 7 * r + 7)) ∧ (k = 9 ∨ k = 10 → ¬ (5 * r ≤ i ∧ i < 5 * r + 5)) ∧ (k = 11 ∨ k = 12 → ¬ (10 * r ≤ i ∧ i < 10 * r + 10)) ∧ (k = 13 ∨ k = 14 → ¬ (2 * r ≤ i ∧ i < 2 * r + 2)) ∧ (k = 15 → ¬ (1000 * r ≤ i ∧ i < 1000 * r + 1000))) : PlS M r (wI M k i v) r := by
  have key : ∀ k' j, ¬ (k' = k ∧ j = i) → rI (wI M k i v) k' j = rI M k' j := by
    intro k' j hn
    by_cases hk : k' = k
    · subst hk; exact rI_wn (fun z => hn ⟨rfl, z⟩)
    · exact rI_wo' hk
  refine ⟨?_, ⟨?_, ?_, ?_, ?_⟩, ⟨?_, ?_⟩, ⟨?_, ?_⟩, ⟨?_, ?_⟩, ?_, ?_, ?_⟩
  case refine_10 => intro j hj; rw [rLw]
  case refine_11 => intro j hj; rw [rLw]
  case refine_13 => intro j hj; rw [nI_sh0]; exact key _ _ (by omega)
  case refine_14 => intro j hj; rw [nI_sh0]; exact key _ _ (by omega)
  all_goals
    intro j hj
    exact key _ _ (by omega)
theorem PlS.wl {M : MM} {r k i : Nat} {v : Int64} (h : (k = 3 → ¬ (7 * r ≤ i ∧ i < 7 * r + 7)) ∧ (k = 4 → ¬ (5 * r ≤ i ∧ i < 5 * r + 5))) : PlS M r (wL M k i v) r := by
  have key : ∀ k' j, ¬ (k' = k ∧ j = i) → rL (wL M k i v) k' j = rL M k' j := by
    intro k' j hn
    by_cases hk : k' = k
    · subst hk; rw [rL_ws, if_neg (fun z => hn ⟨rfl, z⟩)]
    · rw [wL_off hk]
  refine ⟨?_, ⟨?_, ?_, ?_, ?_⟩, ⟨?_, ?_⟩, ⟨?_, ?_⟩, ⟨?_, ?_⟩, ?_, ?_, ?_⟩
  case refine_10 => intro j hj; exact key _ _ (by omega)
  case refine_11 => intro j hj; exact key _ _ (by omega)
  case refine_13 => intro j hj; rw [nI_sh0, rI_wL]
  case refine_14 => intro j hj; rw [nI_sh0, rI_wL]
  all_goals
    intro j hj
    rw [rI_wL]
theorem PlS.tr {M M1 M2 : MM} {r : Nat} (h : PlS M r M1 r) (g : PlS M1 r M2 r) : PlS M r M2 r := by
  obtain ⟨a0, ⟨a1, a2, a3, a4⟩, ⟨a5, a6⟩, ⟨a7, a8⟩, ⟨a9, a10⟩, a11, a12, a13⟩ := h
  obtain ⟨b0, ⟨b1, b2, b3, b4⟩, ⟨b5, b6⟩, ⟨b7, b8⟩, ⟨b9, b10⟩, b11, b12, b13⟩ := g
  exact ⟨fun j hj => (b0 j hj).trans (a0 j hj), ⟨fun j hj => (b1 j hj).trans (a1 j hj), fun j hj => (b2 j hj).trans (a2 j hj), fun j hj => (b3 j hj).trans (a3 j hj), fun j hj => (b4 j hj).trans (a4 j hj)⟩, ⟨fun j hj => (b5 j hj).trans (a5 j hj), fun j hj => (b6 j hj).trans (a6 j hj)⟩, ⟨fun j hj => (b7 j hj).trans (a7 j hj), fun j hj => (b8 j hj).trans (a8 j hj)⟩, ⟨fun j hj => (b9 j hj).trans (a9 j hj), fun j hj => (b10 j hj).trans (a10 j hj)⟩, fun j hj => (b11 j hj).trans (a11 j hj), fun j hj => by rw [b12 j hj, a12 j hj, nI_sh0], fun j hj => by rw [b13 j hj, a13 j hj, nI_sh0]⟩
/-- what reading a quarter may change -/
def KQ (M M' : MM) : Prop := (∀ k, k ≠ 0 → k < 2 ∨ 15 < k → k ≠ 20 → k ≠ 21 → rI M' k = rI M k) ∧ (∀ i, FP.contains i = false → rI M' 0 i = rI M 0 i) ∧ ∀ r, r ≠ 1 → PlS M r M' r
theorem KQ.rf {M : MM} : KQ M M := ⟨fun _ _ _ _ _ => rfl, fun _ _ => rfl, fun r _ => PlS.rf (fun _ _ _ => rfl) (fun _ _ => rfl)⟩
theorem KQ.tr {M M1 M2 : MM} (h : KQ M M1) (g : KQ M1 M2) : KQ M M2 := ⟨fun k a b c d => (g.1 k a b c d).trans (h.1 k a b c d), fun i a => (g.2.1 i a).trans (h.2.1 i a), fun r hr => (h.2.2 r hr).tr (g.2.2 r hr)⟩
theorem KL.D {M M' : MM} (h : KL [] FP M M') : KQ M M' := ⟨fun k a _ _ _ => h.1 k a rfl, h.2.1, fun r _ => PlS.rf (fun k a b => h.1 k (by omega) rfl) h.2.2⟩
theorem KX.D {M M' : MM} {c d dc : Nat} (h : KX c d dc M M') (hc : 1000 ≤ c) : KQ M M' := by
  refine ⟨fun k a b c d => h.1.1 k a ?_, fun i a => h.1.2.1 i (sub_c (L := [4, 5, 6, 8, 9, 28]) (L' := FP) rfl a), fun r hr => ?_⟩
  · simp only [List.contains_cons, List.contains_nil, Bool.or_false, Bool.or_eq_false_iff, beq_eq_false_iff_ne]
    exact ⟨by omega, c, d⟩
  · have hk : ∀ k, 2 ≤ k → k ≤ 14 → rI M' k = rI M k := fun k a b => h.1.1 k (by omega) (by
      simp only [List.contains_cons, List.contains_nil, Bool.or_false, Bool.or_eq_false_iff, beq_eq_false_iff_ne]
      exact ⟨by omega, by omega, by omega⟩)
    have hz := PlS.rf (M := M) (M' := (fun k => if k = 15 then rI M 15 else M'.1 k, M'.2)) (r := r) (fun k a b => by
      show (if k = 15 then rI M 15 else M'.1 k) = _
      by_cases h15 : k = 15
      · rw [if_pos h15, h15]
      · rw [if_neg h15]; exact hk k a (by omega)) h.1.2.2
    obtain ⟨a0, a1, a5, a7, a9, a11, a12, a13⟩ := hz
    refine ⟨a0, a1, a5, a7, a9, fun j hj => ?_, a12, a13⟩
    rcases Nat.lt_or_ge r 1 with h1 | h1
    · exact h.2.1 _ (by omega)
    · exact h.2.1 _ (by omega)

