set_option maxRecDepth 100000
/-! THE WHOLE COMPONENT: a history is read -/
section
variable {zs : Nat → Nat} {e : Nat} {σ σ' : CM} {P : CR → Prop} {x0 B : Nat} {G : Gh} {a : Ab}
theorem pw_0_2_77_0 {x : Nat} {a : Nat} {σ : CM} {fs : List Value} {K : CM → Prop} : pE 0 2 77 a (.ref x) σ (some (.inl (0, fs))) K ↔ vin fs 2 = true ∧ K (pC σ a (.inl (0, fs.set 2 (.ref x)))) := by
  simp only [pE, show fpk 0 77 0 = some 2 from rfl]
  exact ⟨fun h => ⟨h.1.1, h.2⟩, fun h => ⟨⟨h.1, by decide, rfl, rfl⟩, h.2⟩⟩
theorem pw_0_1_77_0 {x : Nat} {a : Nat} {σ : CM} {fs : List Value} {K : CM → Prop} : pE 0 1 77 a (.ref x) σ (some (.inl (0, fs))) K ↔ vin fs 2 = true ∧ K (pC σ a (.inl (0, fs.set 2 (.ref x)))) := by
  simp only [pE, show fpk 0 77 0 = some 2 from rfl]
  exact ⟨fun h => ⟨h.1.1, h.2⟩, fun h => ⟨⟨h.1, by decide, rfl, rfl⟩, h.2⟩⟩
theorem pw_0_1_70_0 {x : Nat} {a : Nat} {σ : CM} {fs : List Value} {K : CM → Prop} : pE 0 1 70 a (.ref x) σ (some (.inl (0, fs))) K ↔ vin fs 1 = true ∧ K (pC σ a (.inl (0, fs.set 1 (.ref x)))) := by
  simp only [pE, show fpk 0 70 0 = some 1 from rfl]
  exact ⟨fun h => ⟨h.1.1, h.2⟩, fun h => ⟨⟨h.1, by decide, rfl, rfl⟩, h.2⟩⟩
/-- the quarter at hand can be asked for names -/
theorem CI.nm (hI : CI zs σ x0 G a) (hA : AOK B a) : NmQ σ G.qa a.q := by
  obtain ⟨-, hQ, -⟩ := id hI.2.2.1
  obtain ⟨hl, nl, ka, na, sl, fo, xl, xe, hx, mx, dx, sx, ⟨a1, a2⟩, ⟨b1, b2⟩, ⟨c1, c2, -⟩, -⟩ := hQ
  have tr : ∀ {l n : Nat} {x : Nat → Nat}, AL (Zo G.ow) σ l n x → AL (fun _ => True) σ l n x := fun {l n x} h => by
    obtain ⟨mc, d, cap, f, k1, k2, k3, k4, -, -⟩ := h
    exact ⟨mc, d, cap, f, k1, k2, k3, k4, trivial, trivial⟩
  exact ⟨⟨hA.1.1.1.1, hA.1.1.1.2.1⟩, hl, nl, ka, na, sl, fo, xl, xe, hx, mx, dx, a1, tr b1, fun h hh => ⟨(b2 h hh).1, (hA.1.1.2.2.1 h hh).1⟩, tr c1, fun d hd => (c2 d hd).1⟩
end
