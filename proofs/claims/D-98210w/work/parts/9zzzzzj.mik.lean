set_option maxRecDepth 100000
/-! THE MODEL: what it holds is kept -/
section
variable {M M' : MM} {q : QT} {s s' : Nat → Nat} {Li : List It} {n n' : Nat} {u u' : Nat → Nat → Nat} {mk : MkT} {T : TP}
/-- arrays that no asking changes -/
def kpA (k : Nat) : Bool := decide (1 ≤ k ∧ k ≤ 19) || decide (k = 34) || decide (k = 46)
theorem MI.k {L F : List Nat} (h : MI M q s Li n u mk T) (K : KL L F M M') (hL : ∀ k, kpA k = true → L.contains k = false) (hF : F.contains 1 = false) (hS : SM M' 32 402 s') (hU : UM M' n' u') : MI M' q s' Li n' u' mk T := by
  obtain ⟨⟨a, b, c⟩, d, f, g⟩ := h
  have e0 : ∀ k, kpA k = true → rI M' k = rI M k := fun k hk => K.1 k (fun z => by subst z; cases hk) (hL k hk)
  have e1 : ∀ k, 1 ≤ k → k ≤ 19 → rI M' k = rI M k := fun k h1 h2 => e0 k (by unfold kpA; rw [decide_eq_true (show 1 ≤ k ∧ k ≤ 19 from ⟨h1, h2⟩)]; rfl)
  exact ⟨⟨a.c (PlS.rf (fun k x y => e1 k (by omega) (by omega)) K.2.2), hS, c.c (PhS.rf (fun k x y => e1 k (by omega) (by omega)))⟩, hU, f.k (fun k x y => e1 k (by omega) (by omega)) (e0 34 rfl) (e0 46 rfl) K.2.2, ⟨(K.2.1 1 hF).trans g.1, g.2.k (e1 1 (by omega) (by omega))⟩⟩
/-- the steps back are kept -/
theorem UM.kl {L F : List Nat} (h : UM M n u) (K : KL L F M M') (h35 : L.contains 35 = false) (hF : F.contains 48 = false) : UM M' n u := ⟨(K.2.1 48 hF).trans h.1, h.2.1, fun i hi => (h.2.2 i hi).r (K.1 35 (by omega) h35)⟩
end
