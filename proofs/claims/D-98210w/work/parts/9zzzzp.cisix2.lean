set_option maxRecDepth 100000
/-! THE WHOLE COMPONENT: breaks, trained, best, rests -/
section
variable {zs ow' : Nat → Nat} {e : Nat} {σ σ' : CM} {P : CR → Prop} {x0 B : Nat} {G : Gh} {a : Ab} {k : Nat → Bool}
theorem CI.sxp (hI : CI zs σ x0 G a) : NightAt (six G.ow k) G.t G.tl σ G.n0 G.qa G.fx a.q a.s G.L ∧ six G.ow k x0 = 2 ∧ Apt (six G.ow k) G.tl G.t a.q (fun b => b = x0) ∧ ∀ b, b < σ.1 → six G.ow k b < G.w := by
  have h40 := hI.h40
  have x2 := hI.x2
  have e2 : six G.ow k x0 = 2 := by rw [six_n (by omega)]; exact x2
  refine ⟨hI.2.2.1.sx h40, e2, fun b hb => ?_, fun b _ => ?_⟩
  · have hb : b = x0 := hb
    rw [hb, e2]
    exact ⟨by omega, by omega, by omega, fun d hd => by have := h40.2 d hd; omega⟩
  · have := hI.1.2.1 b
    have := hI.1.2.2.2.2.1
    unfold six
    split <;> omega
/-- what Breaks and Trained have in common -/
theorem CI.brk {σ' : CM} (hI : CI zs σ x0 G a) {rw lk rw' lk' : Nat} (b1 : BrX σ G.ow x0 (G.A 2) rw lk) (b2 : TnX σ G.ow x0 (G.A 5) rw' lk') (b3 : rw ≠ rw') (b4 : lk ≠ lk') : ∀ b, (b = G.A 2 ∨ b = rw ∨ b = lk) → ¬ (b = G.A 5 ∨ b = rw' ∨ b = lk') ∧ (cdO (gC σ b) = 31 ∨ cdO (gC σ b) = 1004 ∨ cdO (gC σ b) = 51005) ∧ G.ow b = 6 := by
  obtain ⟨v, F, g1, ⟨lf, g2⟩, g3, o1, o2, o3⟩ := b1
  obtain ⟨F', g1', ⟨lf', g2'⟩, g3', o1', o2', o3'⟩ := b2
  intro b hb
  have c1 : cdO (gC σ (G.A 2)) = 31 := by rw [g1]; rfl
  have c2 : cdO (gC σ rw) = 1004 := by rw [g3]; rfl
  have c3 : cdO (gC σ lk) = 51005 := by rw [g2]; rfl
  have c1' : cdO (gC σ (G.A 5)) = 32 := by rw [g1']; rfl
  have c2' : cdO (gC σ rw') = 1004 := by rw [g3']; rfl
  have c3' : cdO (gC σ lk') = 51005 := by rw [g2']; rfl
  rcases hb with rfl | rfl | rfl
  · refine ⟨fun z => ?_, Or.inl c1, o1⟩
    rcases z with z | z | z
    · rw [z, c1'] at c1; cases c1
    · rw [z, c2'] at c1; cases c1
    · rw [z, c3'] at c1; cases c1
  · refine ⟨fun z => ?_, Or.inr (Or.inl c2), o3⟩
    rcases z with z | z | z
    · rw [z, c1'] at c2; cases c2
    · exact b3 z
    · rw [z, c3'] at c2; cases c2
  · refine ⟨fun z => ?_, Or.inr (Or.inr c3), o2⟩
    rcases z with z | z | z
    · rw [z, c1'] at c3; cases c3
    · rw [z, c2'] at c3; cases c3
    · exact b4 z
theorem CI.trn (hI : CI zs σ x0 G a) {rw lk rw' lk' : Nat} (b1 : BrX σ G.ow x0 (G.A 2) rw lk) (b2 : TnX σ G.ow x0 (G.A 5) rw' lk') (b3 : rw ≠ rw') (b4 : lk ≠ lk') : ∀ b, (b = G.A 5 ∨ b = rw' ∨ b = lk') → ¬ (b = G.A 2 ∨ b = rw ∨ b = lk) ∧ (cdO (gC σ b) = 32 ∨ cdO (gC σ b) = 1004 ∨ cdO (gC σ b) = 51005) ∧ G.ow b = 6 := by
  have hb := hI.brk (σ' := σ) b1 b2 b3 b4
  obtain ⟨F', g1', ⟨lf', g2'⟩, g3', o1', o2', o3'⟩ := b2
  intro b hb'
  refine ⟨fun z => (hb b z).1 hb', ?_⟩
  rcases hb' with rfl | rfl | rfl
  · exact ⟨Or.inl (by rw [g1']; rfl), o1'⟩
  · exact ⟨Or.inr (Or.inl (by rw [g3']; rfl)), o3'⟩
  · exact ⟨Or.inr (Or.inr (by rw [g2']; rfl)), o2'⟩
theorem ci_breaks {d h v : Int32} (hI : CI zs σ x0 G a) (hA : AOK B a) (hP : ∀ σ', CO zs x0 σ G a a σ' → P (.inl (some (.int (spBreaks a.q a.s d h v))), σ')) : EC zs (Jc zs) (e + 134) cX1_breaks (some .int) 0 0 0 [some (.ref x0), some (.int d), some (.int h), some (.int v), none] [] σ P := by
  obtain ⟨⟨rw, lk, rw', lk', b1, b2, b3, b4⟩, b5, b6, b7⟩ := id hI.2.2.2.2.2.2.2.1
  have hw := hI.hw
  have fam := hI.brk (σ' := σ) b1 b2 b3 b4
  have ofam := hI.trn b1 b2 b3 b4
  obtain ⟨v, F, g1, ⟨lf, g2⟩, g3, o1, o2, o3⟩ := id b1
  obtain ⟨N6, x6, ap6, tg6⟩ := hI.sxp (k := fun b => decide (b = G.A 2 ∨ b = rw ∨ b = lk))
  have hk1 := (show decide (G.A 2 = G.A 2 ∨ G.A 2 = rw ∨ G.A 2 = lk) = true from decide_eq_true (Or.inl rfl))
  have hk2 := (show decide (rw = G.A 2 ∨ rw = rw ∨ rw = lk) = true from decide_eq_true (Or.inr (Or.inl rfl)))
  have hk3 := (show decide (lk = G.A 2 ∨ lk = rw ∨ lk = lk) = true from decide_eq_true (Or.inr (Or.inr rfl)))
  refine c_pbreaks (ow := six G.ow (fun b => decide (b = G.A 2 ∨ b = rw ∨ b = lk))) (w := G.w) hA.1.1 hw hA.1.2.2.2.1 (by have := hA.2.2.2.2.2; omega) hI.rt ap6 N6 x6 hI.h40 tg6 ⟨rw, lk, v, F, g1, ⟨lf, g2⟩, g3, by rw [six_k hk1]; exact o1, by rw [six_k hk3]; exact o2, by rw [six_k hk2]; exact o3⟩ (fun σ' ow' L6 r' X' => hP σ' ?_)
  obtain ⟨eo, F', N'⟩ := L6
  obtain ⟨rw1, lk1, v1, F1, h1, ⟨lf1, h2⟩, h3, p1, p2, p3⟩ := X'
  have hw' := F'.2.2.2
  have e2 : ∀ b, b < σ.1 → nw2 G.ow ow' σ.1 σ'.1 b = G.ow b := fun b hb => nw2_o hb
  have ow6 : ∀ b, b < σ.1 → (b = G.fx ∨ b = G.n0 + 3 ∨ six G.ow (fun b => decide (b = G.A 2 ∨ b = rw ∨ b = lk)) b = 6) → G.ow b = 6 → b = G.A 2 ∨ b = rw ∨ b = lk := fun b _ hs h6 => of_decide_eq_true (hI.s6 hs h6)
  have nn : ∀ y, (y = G.A 5 ∨ y = rw' ∨ y = lk') → ∀ z, z = y → ow' z = 6 → False := fun y hy z hz h6 => by
    obtain ⟨n1, -, n3⟩ := ofam y hy
    rw [hz] at h6
    have hl : y < σ.1 := by
      obtain ⟨_, hcd, _⟩ := ofam y hy
      cases hg : gC σ y with
      | none => rw [hg] at hcd; rcases hcd with q | q | q <;> cases q
      | some c => exact hw _ _ hg
    rw [eo y hl] at h6
    exact n1 (of_decide_eq_true (six_6 h6).2)
  refine hI.sx eo F' N' r' ⟨⟨rw1, lk1, rw', lk', ⟨v1, F1, h1, ⟨lf1, h2⟩, h3, nw2_6 eo (hw' _ _ h1) p1, nw2_6 eo (hw' _ _ h2) p2, nw2_6 eo (hw' _ _ h3) p3⟩, b2.fr hw F' e2 (fun b hb hs => ?_), fun z => nn rw' (Or.inr (Or.inl rfl)) rw1 z p3, fun z => nn lk' (Or.inr (Or.inr rfl)) lk1 z p2⟩, b5.f2 hw F' e2 (fun b hb hs h6 => ?_), b6.fr hw F' e2 (fun b hb hs => ?_), b7.f2 hw F' e2 (fun b hb hs h6 => ?_)⟩ (by omega) (by omega)
  · have nf : ∀ y, y = b → (y = G.A 5 ∨ y = rw' ∨ y = lk') → False := fun y hy ho => by
      obtain ⟨n1, -, n3⟩ := ofam y ho
      rw [hy] at n1 n3
      exact n1 (ow6 b hb hs n3)
    exact ⟨fun z => nf _ z.symm (Or.inl rfl), fun z => nf _ z.symm (Or.inr (Or.inl rfl)), fun z => nf _ z.symm (Or.inr (Or.inr rfl))⟩
  · obtain ⟨-, hc, -⟩ := fam b (ow6 b hb hs h6)
    omega
  · have h40 := hI.h40
    have f1 := hI.fx1
    have n3 := hI.n3
    rcases hs with z | z | z
    · rw [z, f1]; omega
    · rw [z, n3]; omega
    · rw [(six_6 z).1]; omega
  · obtain ⟨-, hc, -⟩ := fam b (ow6 b hb hs h6)
    omega
theorem ci_trained {d o p v : Int32} (hI : CI zs σ x0 G a) (hA : AOK B a) (hP : ∀ σ', CO zs x0 σ G a a σ' → P (.inl (some (.int (spTrained a.q a.s d o p v))), σ')) : EC zs (Jc zs) (e + 135) cX1_trained (some .int) 0 0 0 [some (.ref x0), some (.int d), some (.int o), some (.int p), some (.int v), none] [] σ P := by
  obtain ⟨⟨rw, lk, rw', lk', b1, b2, b3, b4⟩, b5, b6, b7⟩ := id hI.2.2.2.2.2.2.2.1
  have hw := hI.hw
  have fam := hI.trn b1 b2 b3 b4
  have ofam := hI.brk (σ' := σ) b1 b2 b3 b4
  obtain ⟨F, g1, ⟨lf, g2⟩, g3, o1, o2, o3⟩ := id b2
  obtain ⟨N6, x6, ap6, tg6⟩ := hI.sxp (k := fun b => decide (b = G.A 5 ∨ b = rw' ∨ b = lk'))
  have hk1 := (show decide (G.A 5 = G.A 5 ∨ G.A 5 = rw' ∨ G.A 5 = lk') = true from decide_eq_true (Or.inl rfl))
  have hk2 := (show decide (rw' = G.A 5 ∨ rw' = rw' ∨ rw' = lk') = true from decide_eq_true (Or.inr (Or.inl rfl)))
  have hk3 := (show decide (lk' = G.A 5 ∨ lk' = rw' ∨ lk' = lk') = true from decide_eq_true (Or.inr (Or.inr rfl)))
  refine c_ptrained (ow := six G.ow (fun b => decide (b = G.A 5 ∨ b = rw' ∨ b = lk'))) (w := G.w) hA.1.1 hw hA.1.2.2.2.1 (by have := hA.2.2.2.2.2; omega) hI.rt ap6 N6 x6 hI.h40 tg6 ⟨rw', lk', F, g1, ⟨lf, g2⟩, g3, by rw [six_k hk1]; exact o1, by rw [six_k hk3]; exact o2, by rw [six_k hk2]; exact o3⟩ (fun σ' ow' L6 r' X' => hP σ' ?_)
  obtain ⟨eo, F', N'⟩ := L6
  obtain ⟨rw1, lk1, F1, h1, ⟨lf1, h2⟩, h3, p1, p2, p3⟩ := X'
  have hw' := F'.2.2.2
  have e2 : ∀ b, b < σ.1 → nw2 G.ow ow' σ.1 σ'.1 b = G.ow b := fun b hb => nw2_o hb
  have ow6 : ∀ b, b < σ.1 → (b = G.fx ∨ b = G.n0 + 3 ∨ six G.ow (fun b => decide (b = G.A 5 ∨ b = rw' ∨ b = lk')) b = 6) → G.ow b = 6 → b = G.A 5 ∨ b = rw' ∨ b = lk' := fun b _ hs h6 => of_decide_eq_true (hI.s6 hs h6)
  have nn : ∀ y, (y = G.A 2 ∨ y = rw ∨ y = lk) → ∀ z, z = y → ow' z = 6 → False := fun y hy z hz h6 => by
    obtain ⟨n1, -, n3⟩ := ofam y hy
    rw [hz] at h6
    have hl : y < σ.1 := by
      obtain ⟨_, hcd, _⟩ := ofam y hy
      cases hg : gC σ y with
      | none => rw [hg] at hcd; rcases hcd with q | q | q <;> cases q
      | some c => exact hw _ _ hg
    rw [eo y hl] at h6
    exact n1 (of_decide_eq_true (six_6 h6).2)
  refine hI.sx eo F' N' r' ⟨⟨rw, lk, rw1, lk1, b1.fr hw F' e2 (fun b hb hs => ?_), ⟨F1, h1, ⟨lf1, h2⟩, h3, nw2_6 eo (hw' _ _ h1) p1, nw2_6 eo (hw' _ _ h2) p2, nw2_6 eo (hw' _ _ h3) p3⟩, fun z => nn rw (Or.inr (Or.inl rfl)) rw1 z.symm p3, fun z => nn lk (Or.inr (Or.inr rfl)) lk1 z.symm p2⟩, b5.f2 hw F' e2 (fun b hb hs h6 => ?_), b6.fr hw F' e2 (fun b hb hs => ?_), b7.f2 hw F' e2 (fun b hb hs h6 => ?_)⟩ (by omega) (by omega)
  · have nf : ∀ y, y = b → (y = G.A 2 ∨ y = rw ∨ y = lk) → False := fun y hy ho => by
      obtain ⟨n1, -, n3⟩ := ofam y ho
      rw [hy] at n1 n3
      exact n1 (ow6 b hb hs n3)
    exact ⟨fun z => nf _ z.symm (Or.inl rfl), fun z => nf _ z.symm (Or.inr (Or.inl rfl)), fun z => nf _ z.symm (Or.inr (Or.inr rfl))⟩
  · obtain ⟨-, hc, -⟩ := fam b (ow6 b hb hs h6)
    omega
  · have h40 := hI.h40
    have f1 := hI.fx1
    have n3 := hI.n3
    rcases hs with z | z | z
    · rw [z, f1]; omega
    · rw [z, n3]; omega
    · rw [(six_6 z).1]; omega
  · obtain ⟨-, hc, -⟩ := fam b (ow6 b hb hs h6)
    omega
end
