set_option maxRecDepth 100000
/-! THE WHOLE COMPONENT: the new quarter is entered -/
section
variable {zs : Nat → Nat} {e : Nat} {σ σ1 σ2 : CM} {P : CR → Prop} {x0 B : Nat} {G : Gh} {a : Ab} {q' : QT}
/-- tags while a quarter is entered -/
def owQ (G : Gh) (n n2 : Nat) : Nat → Nat := fun b => if b < n then mow G.ow (n + 21) b else if b < n + 11 then G.w else if b = n + 21 then 1 else if b < n2 then 0 else 39
/-- the night begun over the draft -/
theorem CI.beg {w : Nat → Nat} {a' : Nat} (hI : CI zs σ x0 G a) (hN : NNew σ σ1) {c m : Nat} (F : Fr (CuS (G.A 0) G.C) c m σ1 σ2) (D : DrO zs w σ1.1 (G.A 0) σ2 q' a') : QC (owQ G σ.1 σ2.1) σ2 (σ.1 + 11) (σ.1 + 21) q' ∧ FX (owQ G σ.1 σ2.1) G.w σ2 σ.1 [.null, .int 0, .int 0, .ref (σ.1 + 1), .ref (σ.1 + 2), .ref (σ.1 + 3), .ref (σ.1 + 4), .ref (σ.1 + 10)] (fun _ => none) (fun _ => none) ∧ σ.1 + 11 ≤ σ2.1 := by
  have hw := hI.hw
  obtain ⟨⟨-, t2, t3, t4, t5, -⟩, -, -, -, ⟨hd0, hK, hC, h79, oA, oC⟩, -, -, -, hz⟩ := id hI
  obtain ⟨N1, N2, N3, B1, B2, B3, B4, B5, B6⟩ := hN
  rw [N2] at D
  have w2 := F.2.2.2
  have hl : σ.1 + 11 ≤ σ2.1 := by have := F.1.1; omega
  have nC : ∀ b, σ.1 ≤ b → ¬ CuS (G.A 0) G.C b := fun b hb z => by
    have := t4 b hb
    rcases z with z | z | z | z
    · rw [z, oA] at this; omega
    · rw [z, oC 7 (by omega)] at this; omega
    · rw [z, oC 8 (by omega)] at this; omega
    · rw [z, oC 9 (by omega)] at this; omega
  have k : ∀ i, i < 11 → gC σ2 (σ.1 + i) = gC σ1 (σ.1 + i) := fun i hi => F.2.2.1 _ (by omega) (nC _ (by omega))
  have ot : ∀ b, σ.1 ≤ b → b < σ.1 + 11 → owQ G σ.1 σ2.1 b = G.w := fun b h1 h2 => by
    unfold owQ
    rw [if_neg (by omega), if_pos h2]
  refine ⟨D.qc w2 (fun b h1 h2 h3 => ?_) ?_ (fun i hi => ?_), ⟨(k 0 (by omega)).trans N3, ⟨(k 1 (by omega)).trans B1, (k 2 (by omega)).trans B2, ?_, (k 4 (by omega)).trans B4, fun j hj => ?_, ?_⟩, ot, by omega, fun i _ => Or.inl rfl⟩, hl⟩
  · unfold owQ
    rw [if_neg (by omega), if_neg (by omega), if_neg (by omega), if_pos h2]
  · unfold owQ
    rw [if_neg (by omega), if_neg (by omega), if_pos (by omega)]
  · have h0 := hz.2.1 i hi
    have hlt : zs (200 + i) < σ.1 := by
      by_cases h : zs (200 + i) < σ.1
      · exact h
      · have := t4 _ (Nat.le_of_not_lt h); omega
    unfold owQ
    rw [if_pos hlt]
    unfold mow
    rw [if_neg (by omega), if_neg (by omega)]
    exact h0
  · obtain ⟨F3, hF⟩ := B3; exact ⟨F3, (k 3 (by omega)).trans hF⟩
  · obtain ⟨F3, hF⟩ := B5 j hj; exact ⟨F3, by rw [Nat.add_assoc] at hF ⊢; exact (k (5 + j) (by omega)).trans hF⟩
  · obtain ⟨F3, hF⟩ := B6; exact ⟨F3, (k 10 (by omega)).trans hF⟩
end
