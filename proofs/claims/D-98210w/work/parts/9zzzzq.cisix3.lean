set_option maxRecDepth 100000
/-! THE WHOLE COMPONENT: best, rests -/
section
variable {zs ow' : Nat → Nat} {e : Nat} {σ σ' : CM} {P : CR → Prop} {x0 B : Nat} {G : Gh} {a : Ab}
theorem CI.xs {k : Nat → Bool} {c m : Nat} (hI : CI zs σ x0 G a) (hF : Fr (fun b => b = G.fx ∨ b = G.n0 + 3 ∨ six G.ow k b = 6) c m σ σ') : gC σ' x0 = some (.inl (0, rtF G.n0 G.hl G.op G.al G.gg G.A)) := hF.g (hI.hw _ _ hI.rt) (fun z => by
  rcases z with z | z | z
  · exact hI.xne.1 z
  · exact hI.xne.2 z
  · have := (six_6 z).1; have := hI.x2; omega) hI.rt
/-- Breaks, Trained, the fitted night stand -/
theorem CI.bt {k : Nat → Bool} {c m : Nat} (hI : CI zs σ x0 G a) (hF : Fr (fun b => b = G.fx ∨ b = G.n0 + 3 ∨ six G.ow k b = 6) c m σ σ') (e2 : ∀ b, b < σ.1 → ow' b = G.ow b) (hk : ∀ b, k b = true → cdO (gC σ b) ≠ 31 ∧ cdO (gC σ b) ≠ 32 ∧ cdO (gC σ b) ≠ 1004 ∧ cdO (gC σ b) ≠ 51005) : (∃ rw lk rw' lk', BrX σ' ow' x0 (G.A 2) rw lk ∧ TnX σ' ow' x0 (G.A 5) rw' lk' ∧ rw ≠ rw' ∧ lk ≠ lk') ∧ FtA ow' σ' (G.A 4) G.m0 := by
  obtain ⟨⟨rw, lk, rw', lk', b1, b2, b3, b4⟩, b5, b6, b7⟩ := id hI.2.2.2.2.2.2.2.1
  have hw := hI.hw
  have br := hI.brk (σ' := σ) b1 b2 b3 b4
  have tn := hI.trn b1 b2 b3 b4
  have nk : ∀ b y, (b = G.fx ∨ b = G.n0 + 3 ∨ six G.ow k b = 6) → b = y → G.ow y = 6 → k y = true := fun b y hs hy h6 => by subst hy; exact hI.s6 hs h6
  refine ⟨⟨rw, lk, rw', lk', b1.fr hw hF e2 (fun b hb hs => ?_), b2.fr hw hF e2 (fun b hb hs => ?_), b3, b4⟩, b6.fr hw hF e2 (fun b hb hs => ?_)⟩
  · have nf : ∀ y, b = y → (y = G.A 2 ∨ y = rw ∨ y = lk) → False := fun y hy ho => by
      obtain ⟨-, n2, n3⟩ := br y ho
      have := hk y (nk b y hs hy n3)
      omega
    exact ⟨fun z => nf _ z (Or.inl rfl), fun z => nf _ z (Or.inr (Or.inl rfl)), fun z => nf _ z (Or.inr (Or.inr rfl))⟩
  · have nf : ∀ y, b = y → (y = G.A 5 ∨ y = rw' ∨ y = lk') → False := fun y hy ho => by
      obtain ⟨-, n2, n3⟩ := tn y ho
      have := hk y (nk b y hs hy n3)
      omega
    exact ⟨fun z => nf _ z (Or.inl rfl), fun z => nf _ z (Or.inr (Or.inl rfl)), fun z => nf _ z (Or.inr (Or.inr rfl))⟩
  · have h40 := hI.h40
    have f1 := hI.fx1
    have n3 := hI.n3
    rcases hs with z | z | z
    · rw [z, f1]; omega
    · rw [z, n3]; omega
    · rw [(six_6 z).1]; omega
theorem ci_best {d o p v : Int32} (hI : CI zs σ x0 G a) (hA : AOK B a) (hP : ∀ σ', CO zs x0 σ G a a σ' → P (.inl (some (.int (spBest a.q a.s d o p v))), σ')) : EC zs (Jc zs) (e + 131) cX1_best (some .int) 0 0 0 [some (.ref x0), some (.int d), some (.int o), some (.int p), some (.int v), none, none] [] σ P := by
  obtain ⟨-, b5, b6, b7⟩ := id hI.2.2.2.2.2.2.2.1
  have hw := hI.hw
  obtain ⟨fa, mn, l, ab, be, ff, f0, f1, F0, F1, Gf, h1, h2, h3, ⟨h4, h5, h6⟩, o1, o2, o3, o4, o5⟩ := id b5
  obtain ⟨N6, x6, ap6, tg6⟩ := hI.sxp (k := fun b => decide (b = G.A 3 ∨ b = fa ∨ b = f0 ∨ b = f1 ∨ b = mn))
  have k1 : (fun b => decide (b = G.A 3 ∨ b = fa ∨ b = f0 ∨ b = f1 ∨ b = mn)) (G.A 3) = true := decide_eq_true (Or.inl rfl)
  have k2 : (fun b => decide (b = G.A 3 ∨ b = fa ∨ b = f0 ∨ b = f1 ∨ b = mn)) fa = true := decide_eq_true (Or.inr (Or.inl rfl))
  have k3 : (fun b => decide (b = G.A 3 ∨ b = fa ∨ b = f0 ∨ b = f1 ∨ b = mn)) f0 = true := decide_eq_true (Or.inr (Or.inr (Or.inl rfl)))
  have k4 : (fun b => decide (b = G.A 3 ∨ b = fa ∨ b = f0 ∨ b = f1 ∨ b = mn)) f1 = true := decide_eq_true (Or.inr (Or.inr (Or.inr (Or.inl rfl))))
  have k5 : (fun b => decide (b = G.A 3 ∨ b = fa ∨ b = f0 ∨ b = f1 ∨ b = mn)) mn = true := decide_eq_true (Or.inr (Or.inr (Or.inr (Or.inr rfl))))
  have hk : ∀ b, (fun b => decide (b = G.A 3 ∨ b = fa ∨ b = f0 ∨ b = f1 ∨ b = mn)) b = true → cdO (gC σ b) = 33 ∨ cdO (gC σ b) = 81002 ∨ cdO (gC σ b) = 3401 ∨ cdO (gC σ b) = 1002 := fun b hb => by
    rcases of_decide_eq_true hb with z | z | z | z | z
    · rw [z, h1]; exact Or.inl rfl
    · rw [z, h2]; exact Or.inr (Or.inl rfl)
    · rw [z, h4]; exact Or.inr (Or.inr (Or.inl rfl))
    · rw [z, h5]; exact Or.inr (Or.inr (Or.inl rfl))
    · rw [z, h6]; exact Or.inr (Or.inr (Or.inr rfl))
  refine c_pbest (ow := six G.ow (fun b => decide (b = G.A 3 ∨ b = fa ∨ b = f0 ∨ b = f1 ∨ b = mn))) hA.1.1 hw hA.1.2.2.2.1 (by have := hA.2.2.2.2.2; omega) hI.rt ap6 x6 hI.h40 N6 ⟨fa, mn, l, ab, be, ff, f0, f1, F0, F1, Gf, h1, h2, h3, ⟨h4, h5, h6⟩, by rw [six_k k1]; exact o1, by rw [six_k k2]; exact o2, by rw [six_k k3]; exact o3, by rw [six_k k4]; exact o4, by rw [six_k k5]; exact o5⟩ (fun σ' S' N' E' => hP σ' ?_)
  have F' := S'.fr hw
  have hw' := S'.hw hw
  have eo : ∀ b, b < σ.1 → six G.ow (fun b => decide (b = G.A 3 ∨ b = fa ∨ b = f0 ∨ b = f1 ∨ b = mn)) b = six G.ow (fun b => decide (b = G.A 3 ∨ b = fa ∨ b = f0 ∨ b = f1 ∨ b = mn)) b := fun _ _ => rfl
  have e2 : ∀ b, b < σ.1 → nw2 G.ow (six G.ow (fun b => decide (b = G.A 3 ∨ b = fa ∨ b = f0 ∨ b = f1 ∨ b = mn))) σ.1 σ'.1 b = G.ow b := fun b hb => nw2_o hb
  obtain ⟨bt1, bt2⟩ := hI.bt F' e2 (fun b hb => by have := hk b hb; omega)
  obtain ⟨fa', mn', l', ab', be', ff', f0', f1', F0', F1', Gf', h1', h2', h3', ⟨h4', h5', h6'⟩, o1', o2', o3', o4', o5'⟩ := E'
  exact hI.sx eo F' N' (hI.xs F') ⟨bt1, ⟨fa', mn', l', ab', be', ff', f0', f1', F0', F1', Gf', h1', h2', h3', ⟨h4', h5', h6'⟩, nw2_6 eo (hw' _ _ h1') o1', nw2_6 eo (hw' _ _ h2') o2', nw2_6 eo (hw' _ _ h4') o3', nw2_6 eo (hw' _ _ h5') o4', nw2_6 eo (hw' _ _ h6') o5'⟩, bt2, b7.f2 hw F' e2 (fun b hb hs h6 => by have := hk b (hI.s6 hs h6); omega)⟩ (by omega) (by omega)
theorem ci_rests {d v : Int32} (hI : CI zs σ x0 G a) (hA : AOK B a) (hP : ∀ σ', CO zs x0 σ G a a σ' → P (.inl (some (.int (spRests a.q a.s d v))), σ')) : EC zs (Jc zs) (e + 130) cX1_rests (some .int) 0 0 0 [some (.ref x0), some (.int d), some (.int v), none, none, none] [] σ P := by
  obtain ⟨-, b5, b6, b7⟩ := id hI.2.2.2.2.2.2.2.1
  have hw := hI.hw
  obtain ⟨pa, py, F, Gf, h1, h2, h3, o1, o2, o3⟩ := id b7
  obtain ⟨N6, x6, ap6, tg6⟩ := hI.sxp (k := fun b => decide (b = G.A 6 ∨ b = pa ∨ b = py))
  have k1 : (fun b => decide (b = G.A 6 ∨ b = pa ∨ b = py)) (G.A 6) = true := decide_eq_true (Or.inl rfl)
  have k2 : (fun b => decide (b = G.A 6 ∨ b = pa ∨ b = py)) pa = true := decide_eq_true (Or.inr (Or.inl rfl))
  have k3 : (fun b => decide (b = G.A 6 ∨ b = pa ∨ b = py)) py = true := decide_eq_true (Or.inr (Or.inr rfl))
  have hk : ∀ b, (fun b => decide (b = G.A 6 ∨ b = pa ∨ b = py)) b = true → cdO (gC σ b) = 34 ∨ cdO (gC σ b) = 1070 ∨ cdO (gC σ b) = 1010 := fun b hb => by
    rcases of_decide_eq_true hb with z | z | z
    · rw [z, h1]; exact Or.inl rfl
    · rw [z, h2]; exact Or.inr (Or.inl rfl)
    · rw [z, h3]; exact Or.inr (Or.inr rfl)
  refine c_prests (ow := six G.ow (fun b => decide (b = G.A 6 ∨ b = pa ∨ b = py))) hA.1.1 hw hA.1.2.2.2 hA.2.2.2.2.1 (by have := hA.2.2.2.2.2; omega) hI.rt x6 hI.h40 N6 ⟨pa, py, F, Gf, h1, h2, h3, by rw [six_k k1]; exact o1, by rw [six_k k2]; exact o2, by rw [six_k k3]; exact o3⟩ (fun σ' ow' L6 X' => hP σ' ?_)
  obtain ⟨eo, F', N'⟩ := L6
  have hw' := F'.2.2.2
  have e2 : ∀ b, b < σ.1 → nw2 G.ow ow' σ.1 σ'.1 b = G.ow b := fun b hb => nw2_o hb
  obtain ⟨bt1, bt2⟩ := hI.bt F' e2 (fun b hb => by have := hk b hb; omega)
  obtain ⟨pa', py', F1, Gf', h1', h2', h3', o1', o2', o3'⟩ := X'
  exact hI.sx eo F' N' (hI.xs F') ⟨bt1, b5.f2 hw F' e2 (fun b hb hs h6 => by have := hk b (hI.s6 hs h6); omega), bt2, ⟨pa', py', F1, Gf', h1', h2', h3', nw2_6 eo (hw' _ _ h1') o1', nw2_6 eo (hw' _ _ h2') o2', nw2_6 eo (hw' _ _ h3') o3'⟩⟩ (by omega) (by omega)
end
