set_option maxRecDepth 100000
/-! THE WHOLE COMPONENT: calls that ask -/
/-- what the abstract state obeys -/
def AOK (B : Nat) (a : Ab) : Prop := (QOK a.q ∧ TQ a.q ∧ HOK a.q a.Li ∧ WS B a.s) ∧ (∀ i, i < a.n → WS B (a.u i)) ∧ (∀ k, k < 4 → ∀ qm sm Lm, a.mk k = some (qm, sm, Lm) → QOK qm ∧ TQ qm ∧ HOK qm Lm ∧ WS B sm) ∧ TOK a.T ∧ 99 ≤ B ∧ B ≤ 4400000
/-- what a call may cost -/
def Gr (σ : CM) (G : Gh) (a : Ab) (σ' : CM) (G' : Gh) (a' : Ab) : Prop := (σ.1 ≤ σ'.1 ∧ σ'.1 + 3 * G'.m0 + 8 * a'.T.1 ≤ σ.1 + 3 * G.m0 + 8 * a.T.1 + 400) ∧ σ.2.1 ≤ σ'.2.1 ∧ σ'.2.1 + 49 * G'.m0 + 2100 * a'.T.1 ≤ σ.2.1 + 49 * G.m0 + 2100 * a.T.1 + 56000
/-- what a call leaves -/
def CO (zs : Nat → Nat) (x0 : Nat) (σ : CM) (G : Gh) (a a' : Ab) (σ' : CM) : Prop := ∃ G', CI zs σ' x0 G' a' ∧ Gr σ G a σ' G' a'
section
variable {zs ow' : Nat → Nat} {e : Nat} {σ σ' : CM} {P : CR → Prop} {S : Nat → Prop} {c m x0 B : Nat} {G : Gh} {a : Ab}
theorem CI.fx1 (h : CI zs σ x0 G a) : G.ow G.fx = 1 := by
  obtain ⟨-, -, hn, -⟩ := h
  obtain ⟨-, hQ, -⟩ := hn
  obtain ⟨hl, nl, ka, na, sl, fo, xl, xe, hx, mx, dx, sx, -, -, -, -, -, -, -, f3, -⟩ := hQ
  exact f3
theorem CI.n3 (h : CI zs σ x0 G a) : G.ow (G.n0 + 3) = G.t := h.2.2.1.2.2.2.2.1 _ (by omega) (by omega)
theorem CI.hw (h : CI zs σ x0 G a) : HW σ := h.1.1
theorem CI.rt (h : CI zs σ x0 G a) : gC σ x0 = some (.inl (0, rtF G.n0 G.hl G.op G.al G.gg G.A)) := h.2.1.1
/-- the root is apart from the night -/
theorem CI.ap (h : CI zs σ x0 G a) {b : Nat} (hb : 2 ≤ G.ow b ∧ G.ow b ≤ 39) : Apt G.ow G.tl G.t a.q (fun z => z = b) := fun z hz => by
  have hz : z = b := hz
  rw [hz]
  have := h.1.2.2.2.2
  exact ⟨by omega, by omega, by omega, fun d hd => by have := h.1.2.2.2.2.2.2 d hd; omega⟩
theorem CI.x2 (h : CI zs σ x0 G a) : G.ow x0 = 2 := h.2.1.2
theorem CI.h40 (h : CI zs σ x0 G a) : 39 < G.t ∧ ∀ d, d < qD a.q → 39 < G.tl d := ⟨h.1.2.2.2.2.2.1, h.1.2.2.2.2.2.2⟩
theorem CI.tg (h : CI zs σ x0 G a) : Tgs σ G.ow G.fx G.w := ⟨fun b _ => h.1.2.1 b, fun b _ => h.1.2.2.1 b⟩
theorem CIo.fr {r : Int32 × Int32 × Int64} {w : Nat} (h : CIo σ x0 G) (hw : HW σ) (hF : Fr S c m σ σ') (hn : ∀ b, b < σ.1 → S b → G.ow b ≠ 6 ∧ (G.ow b < 8 ∨ 38 < G.ow b)) (eo : ∀ b, b < σ.1 → ow' b = G.ow b) : CIo σ' x0 (Gup G ow' r G.m0 w) := by
  obtain ⟨⟨rw, lk, rw', lk', h1, h2, h3, h4⟩, h5, h6, h7⟩ := h
  refine ⟨⟨rw, lk, rw', lk', h1.fr hw hF eo (fun b hb hs => ?_), h2.fr hw hF eo (fun b hb hs => ?_), h3, h4⟩, h5.fr hw hF eo (fun b hb hs => (hn b hb hs).1), h6.fr hw hF eo (fun b hb hs => (hn b hb hs).2), h7.fr hw hF eo (fun b hb hs => (hn b hb hs).1)⟩
  · obtain ⟨v, G', -, -, -, o1, o2, o3⟩ := h1
    have := (hn b hb hs).1
    exact ⟨fun z => by rw [z] at this; exact this o1, fun z => by rw [z] at this; exact this o3, fun z => by rw [z] at this; exact this o2⟩
  · obtain ⟨G', -, -, -, o1, o2, o3⟩ := h2
    have := (hn b hb hs).1
    exact ⟨fun z => by rw [z] at this; exact this o1, fun z => by rw [z] at this; exact this o3, fun z => by rw [z] at this; exact this o2⟩
theorem CI.q {r : Int32 × Int32 × Int64} {m0 : Nat} (h : CI zs σ x0 G a) (hF : Fr S c m σ σ') (hS : ∀ b, b < σ.1 → S b → b = G.fx ∨ b = G.n0 + 3 ∨ G.ow b = 2 ∨ G.ow b = 6 ∨ (8 ≤ G.ow b ∧ G.ow b ≤ 38)) (h3 : ∃ F, gC σ' (G.n0 + 3) = some (.inr (0, 4, .inl F))) (hf : ∃ Φ, gC σ' G.fx = some (.inr (0, 6, .inl Φ))) (hr : gC σ' x0 = some (.inl (0, rtF G.n0 G.hl r.1 r.2.1 r.2.2 G.A))) (eo : ∀ b, b < σ.1 → ow' b = G.ow b) (en : ∀ b, σ.1 ≤ b → (6 ≤ ow' b ∧ ow' b ≤ 38) ∨ ow' b = 39) (e9 : ∀ b, σ'.1 ≤ b → ow' b = 39) (ho : CIo σ' x0 (Gup G ow' r m0 G.w)) : CI zs σ' x0 (Gup G ow' r m0 G.w) a := by
  have hw := h.hw
  have h40 := h.h40
  have f1 := h.fx1
  have n3 := h.n3
  obtain ⟨⟨-, t2, t3, t4, t5, t6, t7⟩, ⟨r1, r2⟩, hn, hh, hd, hu, hm, -, hz⟩ := id h
  have hxl := hw _ _ r1
  have tn : ∀ b, b < σ.1 → S b → (G.ow b ≠ 0 ∧ G.ow b ≠ 3 ∧ G.ow b ≠ 4 ∧ G.ow b ≠ 5 ∧ G.ow b ≠ 39) ∧ (b = G.fx ∨ b = G.n0 + 3 ∨ (2 ≤ G.ow b ∧ G.ow b ≤ 38)) := fun b hb hs => by
    rcases hS b hb hs with z | z | z | z | z
    · subst z; rw [f1]; exact ⟨⟨by omega, by omega, by omega, by omega, by omega⟩, Or.inl rfl⟩
    · subst z; rw [n3]; exact ⟨⟨by omega, by omega, by omega, by omega, by omega⟩, Or.inr (Or.inl rfl)⟩
    · rw [z]; exact ⟨⟨by omega, by omega, by omega, by omega, by omega⟩, Or.inr (Or.inr ⟨by omega, by omega⟩)⟩
    · rw [z]; exact ⟨⟨by omega, by omega, by omega, by omega, by omega⟩, Or.inr (Or.inr ⟨by omega, by omega⟩)⟩
    · exact ⟨⟨by omega, by omega, by omega, by omega, by omega⟩, Or.inr (Or.inr ⟨by omega, by omega⟩)⟩
  have nu : ∀ b, b < σ.1 → S b → ∀ i, i < a.n → G.ow b ≠ G.ul i := fun b hb hs i hi z => by
    obtain ⟨-, -, ⟨-, b7, b8, -⟩, -⟩ := hu.2.2 i hi
    rcases (tn b hb hs).2 with y | y | y
    · rw [y, f1] at z; omega
    · rw [y, n3] at z; exact b8 (Or.inl z.symm)
    · omega
  refine ⟨⟨hF.2.2.2, fun b => ?_, fun b hb => ?_, e9, t5, t6, t7⟩, ⟨hr, (eo _ hxl).trans r2⟩, ?_, ?_, hd.fr hw hF (fun b hb hs => (tn b hb hs).1.2.1) eo, hu.fr hz hw hF (fun b hb hs => ⟨(tn b hb hs).1.2.2.1, (tn b hb hs).1.2.2.2.2, (tn b hb hs).1.1, nu b hb hs⟩) eo, hm.fr hw hF (fun b hb hs => ⟨?_, (tn b hb hs).1.2.2.2.1⟩) h40 f1 hf eo, ho, hz.fr hw hF (fun b hb hs => (tn b hb hs).1.1) eo⟩
  · show ow' b < G.w
    by_cases hb : b < σ.1
    · rw [eo b hb]; exact t2 b
    · rcases en b (by omega) with z | z <;> omega
  · have hb : ow' b = 1 := hb
    by_cases hb' : b < σ.1
    · rw [eo b hb'] at hb; exact t3 b hb
    · rcases en b (by omega) with z | z <;> omega
  · have N1 : NightAt ow' G.t G.tl σ G.n0 G.qa G.fx a.q a.s G.L := hn.own hw eo
    refine N1.f3 hw hF (fun b hb hs => ?_) h3 hf
    rw [eo b hb]
    rcases (tn b hb hs).2 with y | y | y
    · exact Or.inl y
    · exact Or.inr (Or.inl y)
    · exact Or.inr (Or.inr ⟨by omega, by omega, by omega, fun d hd => by have := t7 d hd; omega⟩)
  · exact HiA.fr hh hw eo hF (fun b hb hs => (tn b hb hs).1.1)
  · rcases (tn b hb hs).2 with y | y | y
    · exact Or.inl y
    · exact Or.inr (Or.inr (Or.inl (by rw [y]; exact n3)))
    · exact Or.inr (Or.inl y)
/-- no objects of its own are touched -/
theorem CI.q0 {r : Int32 × Int32 × Int64} (h : CI zs σ x0 G a) (hF : Fr S c m σ σ') (hS : ∀ b, b < σ.1 → S b → b = G.fx ∨ b = G.n0 + 3 ∨ b = x0) (h3 : ∃ F, gC σ' (G.n0 + 3) = some (.inr (0, 4, .inl F))) (hf : ∃ Φ, gC σ' G.fx = some (.inr (0, 6, .inl Φ))) (hr : gC σ' x0 = some (.inl (0, rtF G.n0 G.hl r.1 r.2.1 r.2.2 G.A))) (hc : c ≤ 400) (hm : m ≤ 56000) : CO zs x0 σ G a a σ' := by
  have hw := h.hw
  have h40 := h.h40
  have f1 := h.fx1
  have n3 := h.n3
  have x2 := h.x2
  refine ⟨Gup G G.ow r G.m0 G.w, h.q hF (fun b hb hs => ?_) h3 hf hr (fun _ _ => rfl) (fun b hb => Or.inr (h.1.2.2.2.1 b hb)) (fun b hb => h.1.2.2.2.1 b (by have := hF.1.1; omega)) (h.2.2.2.2.2.2.2.1.fr hw hF (fun b hb hs => ?_) (fun _ _ => rfl)), ⟨⟨hF.1.1, ?_⟩, hF.2.1.1, ?_⟩⟩
  · rcases hS b hb hs with z | z | z
    · exact Or.inl z
    · exact Or.inr (Or.inl z)
    · exact Or.inr (Or.inr (Or.inl (by rw [z]; exact x2)))
  · rcases hS b hb hs with z | z | z
    · rw [z, f1]; omega
    · rw [z, n3]; omega
    · rw [z, x2]; omega
  · have := hF.1.2
    show σ'.1 + 3 * G.m0 + 8 * a.T.1 ≤ _
    omega
  · have := hF.2.1.2
    show σ'.2.1 + 49 * G.m0 + 2100 * a.T.1 ≤ _
    omega
theorem CO.rf (h : CI zs σ x0 G a) : CO zs x0 σ G a a σ := ⟨G, h, ⟨⟨Nat.le_refl _, by omega⟩, Nat.le_refl _, by omega⟩⟩
end
