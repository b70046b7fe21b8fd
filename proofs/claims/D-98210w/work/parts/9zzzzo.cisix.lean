set_option maxRecDepth 100000
/-! THE WHOLE COMPONENT: calls with an object of their own -/
/-- a cell's sort -/
def cdO (c : Option Cl) : Nat := match c with
  | some (.inl (k, _)) => k
  | some (.inr (kd, n, _)) => 1000 + 10000 * kd + n
  | none => 0
/-- of the cells of tag 6 some alone -/
def six (ow : Nat → Nat) (k : Nat → Bool) : Nat → Nat := fun b => if ow b = 6 ∧ k b = false then 39 else ow b
section
variable {zs ow ow' tl : Nat → Nat} {e : Nat} {σ σ' : CM} {P : CR → Prop} {S : Nat → Prop} {c m x0 B : Nat} {G : Gh} {a : Ab} {k : Nat → Bool} {t n0 qa fx : Nat} {q : QT} {s L : Nat → Nat}
theorem six_n {b : Nat} (h : ow b ≠ 6) : six ow k b = ow b := if_neg (fun z => h z.1)
theorem six_6 {b : Nat} (h : six ow k b = 6) : ow b = 6 ∧ k b = true := by
  unfold six at h
  split at h
  · omega
  · rename_i hn
    refine ⟨h, ?_⟩
    cases hk : k b with
    | true => rfl
    | false => exact absurd ⟨h, hk⟩ hn
theorem six_k {b : Nat} (h : k b = true) : six ow k b = ow b := if_neg (fun z => by rw [h] at z; cases z.2)
theorem NightAt.sx (h : NightAt ow t tl σ n0 qa fx q s L) (h40 : 39 < t ∧ ∀ d, d < qD q → 39 < tl d) : NightAt (six ow k) t tl σ n0 qa fx q s L := by
  have e : ∀ b, ow b ≠ 6 → six ow k b = ow b := fun b hb => six_n hb
  obtain ⟨h0, hQ, hL, hT, ht, hl⟩ := h
  have z : ∀ b, ow b = 0 → six ow k b = 0 := fun b hb => by rw [e b (by omega)]; exact hb
  have aw : ∀ {l n : Nat} {x : Nat → Nat}, AL (Zo ow) σ l n x → AL (Zo (six ow k)) σ l n x := fun {l n x} h => by
    obtain ⟨mc, d, cap, f, a1, a2, a3, a4, a5, a6⟩ := h
    exact ⟨mc, d, cap, f, a1, a2, a3, a4, z _ a5, z _ a6⟩
  have lw : ∀ {x : Value} {n : Nat} {o : Option Law}, LawC (Zo ow) σ x n o → LawC (Zo (six ow k)) σ x n o := fun {x n o} h => by
    cases o with
    | none => exact h
    | some F =>
      obtain ⟨⟨ea, m, h1, h2, h3⟩, h4⟩ := h
      exact ⟨⟨ea, m, h1, h2, h3.mo (fun b hb => z b hb) (Nat.le_refl _)⟩, h4⟩
  obtain ⟨hl', nl, ka, na, sl, fo, xl, xe, hx, mx, dx, sx, ⟨a1, a2⟩, ⟨b1, b2⟩, ⟨c1, c2, ⟨c3, c5⟩, c6, c8⟩, ⟨d1, d2⟩, ⟨e1, e2⟩, f1, f2, f3, f4⟩ := hQ
  exact ⟨h0, ⟨hl', nl, ka, na, sl, fo, xl, xe, hx, mx, dx, sx, ⟨a1, z _ a2⟩, ⟨aw b1, fun h hh => ⟨(b2 h hh).1, z _ (b2 h hh).2.1, (b2 h hh).2.2.1, z _ (b2 h hh).2.2.2⟩⟩, ⟨aw c1, fun d hd => ⟨(c2 d hd).1, z _ (c2 d hd).2⟩, ⟨c3, z _ c5⟩, c6, z _ c8⟩, ⟨aw d1, fun k hk => ⟨(d2 k hk).1, z _ (d2 k hk).2⟩⟩, ⟨lw e1, lw e2⟩, f1, z _ f2, by rw [e fx (by omega)]; exact f3, f4⟩, hL, hT, fun b h1 h2 => by rw [e b (by rw [ht b h1 h2]; omega)]; exact ht b h1 h2, fun d hd b hb => by rw [e b (by rw [hl d hd b hb]; have := h40.2 d hd; omega)]; exact hl d hd b hb⟩
theorem ErA.f2 {er : Nat} (h : ErA σ ow x0 er) (hw : HW σ) (hF : Fr S c m σ σ') (eo : ∀ b, b < σ.1 → ow' b = ow b) (hn : ∀ b, b < σ.1 → S b → ow b = 6 → cdO (gC σ b) ≠ 33 ∧ cdO (gC σ b) ≠ 81002 ∧ cdO (gC σ b) ≠ 3401 ∧ cdO (gC σ b) ≠ 1002) : ErA σ' ow' x0 er := by
  obtain ⟨fa, mn, l, ab, be, ff, f0, f1, F0, F1, G, h1, h2, h3, ⟨h4, h5, h6⟩, o1, o2, o3, o4, o5⟩ := h
  have k : ∀ b c, gC σ b = some c → ow b = 6 → (cdO (some c) = 33 ∨ cdO (some c) = 81002 ∨ cdO (some c) = 3401 ∨ cdO (some c) = 1002) → gC σ' b = some c ∧ ow' b = 6 := fun b c hb h6 hc => ⟨hF.g (hw _ _ hb) (fun z => by
    have := hn _ (hw _ _ hb) z h6
    rw [hb] at this
    omega) hb, (eo _ (hw _ _ hb)).trans h6⟩
  have k1 := k _ _ h1 o1 (Or.inl rfl)
  have k2 := k _ _ h2 o2 (Or.inr (Or.inl rfl))
  have k4 := k _ _ h4 o3 (Or.inr (Or.inr (Or.inl rfl)))
  have k5 := k _ _ h5 o4 (Or.inr (Or.inr (Or.inl rfl)))
  have k6 := k _ _ h6 o5 (Or.inr (Or.inr (Or.inr rfl)))
  exact ⟨fa, mn, l, ab, be, ff, f0, f1, F0, F1, G, k1.1, k2.1, h3, ⟨k4.1, k5.1, k6.1⟩, k1.2, k2.2, k4.2, k5.2, k6.2⟩
theorem GmA.f2 {gm : Nat} (h : GmA σ ow x0 gm) (hw : HW σ) (hF : Fr S c m σ σ') (eo : ∀ b, b < σ.1 → ow' b = ow b) (hn : ∀ b, b < σ.1 → S b → ow b = 6 → cdO (gC σ b) ≠ 34 ∧ cdO (gC σ b) ≠ 1070 ∧ cdO (gC σ b) ≠ 1010) : GmA σ' ow' x0 gm := by
  obtain ⟨pa, py, F, G, h1, h2, h3, o1, o2, o3⟩ := h
  have k : ∀ b c, gC σ b = some c → ow b = 6 → (cdO (some c) = 34 ∨ cdO (some c) = 1070 ∨ cdO (some c) = 1010) → gC σ' b = some c ∧ ow' b = 6 := fun b c hb h6 hc => ⟨hF.g (hw _ _ hb) (fun z => by
    have := hn _ (hw _ _ hb) z h6
    rw [hb] at this
    omega) hb, (eo _ (hw _ _ hb)).trans h6⟩
  have k1 := k _ _ h1 o1 (Or.inl rfl)
  have k2 := k _ _ h2 o2 (Or.inr (Or.inl rfl))
  have k3 := k _ _ h3 o3 (Or.inr (Or.inr rfl))
  exact ⟨pa, py, F, G, k1.1, k2.1, k3.1, k1.2, k2.2, k3.2⟩
/-- the frame of such a call -/
theorem CI.sx {c m : Nat} (hI : CI zs σ x0 G a) (eo : ∀ b, b < σ.1 → ow' b = six G.ow k b) (hF : Fr (fun b => b = G.fx ∨ b = G.n0 + 3 ∨ six G.ow k b = 6) c m σ σ') (N' : NightAt ow' G.t G.tl σ' G.n0 G.qa G.fx a.q a.s G.L) (hr : gC σ' x0 = some (.inl (0, rtF G.n0 G.hl G.op G.al G.gg G.A))) (ho : CIo σ' x0 (Gup G (nw2 G.ow ow' σ.1 σ'.1) (G.op, G.al, G.gg) G.m0 G.w)) (hc : c ≤ 400) (hm : m ≤ 56000) : CO zs x0 σ G a a σ' := by
  refine ⟨Gup G (nw2 G.ow ow' σ.1 σ'.1) (G.op, G.al, G.gg) G.m0 G.w, hI.q hF (fun b hb hs => ?_) N'.two.1 N'.two.2 hr (fun b hb => nw2_o hb) (fun b hb => nw2_n hb) (fun b hb => nw2_9 hF.1.1 hb) ho, ⟨⟨hF.1.1, ?_⟩, hF.2.1.1, ?_⟩⟩
  · rcases hs with z | z | z
    · exact Or.inl z
    · exact Or.inr (Or.inl z)
    · exact Or.inr (Or.inr (Or.inr (Or.inl (six_6 z).1)))
  · have := hF.1.2
    show σ'.1 + 3 * G.m0 + 8 * a.T.1 ≤ _
    omega
  · have := hF.2.1.2
    show σ'.2.1 + 49 * G.m0 + 2100 * a.T.1 ≤ _
    omega
theorem nw2_6 {n n' b : Nat} (eo : ∀ b, b < n → ow' b = six ow k b) (hb : b < n') (h : ow' b = 6) : nw2 ow ow' n n' b = 6 := by
  unfold nw2
  by_cases hn : b < n
  · rw [if_pos hn]
    rw [eo b hn] at h
    exact (six_6 h).1
  · rw [if_neg hn, if_pos ⟨hb, by omega⟩]; exact h
/-- what may change of tag 6 -/
theorem CI.s6 (hI : CI zs σ x0 G a) {b : Nat} (hs : b = G.fx ∨ b = G.n0 + 3 ∨ six G.ow k b = 6) (h6 : G.ow b = 6) : k b = true := by
  have h40 := hI.h40
  have f1 := hI.fx1
  have n3 := hI.n3
  rcases hs with z | z | z
  · rw [z, f1] at h6; omega
  · rw [z, n3] at h6; omega
  · exact (six_6 z).2
end
