set_option maxRecDepth 100000
/-! THE MODEL: calls that ask, on all that it holds -/
section
variable {mb e : Nat} {M M' : MM} {P : MR → Prop} {q : QT} {s : Nat → Nat} {Li : List It} {n B : Nat} {u : Nat → Nat → Nat} {mk : MkT} {T : TP}
theorem kpA_c : ∀ k, kpA k = true → LPc.contains k = false := by
  intro k hk
  have h : (1 ≤ k ∧ k ≤ 19) ∨ k = 34 ∨ k = 46 := by
    unfold kpA at hk
    rw [Bool.or_eq_true, Bool.or_eq_true] at hk
    rcases hk with (z | z) | z
    · exact Or.inl (of_decide_eq_true z)
    · exact Or.inr (Or.inl (of_decide_eq_true z))
    · exact Or.inr (Or.inr (of_decide_eq_true z))
  have hb : k < 47 := by omega
  have key : ((List.range 47).all (fun k => !(decide ((1 ≤ k ∧ k ≤ 19) ∨ k = 34 ∨ k = 46)) || !(LPc.contains k))) = true := by decide
  have := List.all_eq_true.mp key k (List.mem_range.mpr hb)
  rw [decide_eq_true h] at this
  simpa using this
theorem MI.ask {F : List Nat} (h : MI M q s Li n u mk T) (K : KL LPc F M M') (h1 : F.contains 1 = false) (h48 : F.contains 48 = false) (hS : SM M' 32 402 s) : MI M' q s Li n u mk T := h.k K kpA_c h1 hS (h.2.1.kl K rfl h48)
end
