set_option maxRecDepth 100000
/-! OWNERS of what is new -/
section
variable {σ : CM} {Z Z' : Nat → Prop} {ow ow' tl : Nat → Nat} {t n0 qa fx : Nat} {q : QT} {s L : Nat → Nat}
theorem AL.z {l n : Nat} {x : Nat → Nat} (h : AL Z σ l n x) (hw : HW σ) (hz : ∀ b, b < σ.1 → Z b → Z' b) : AL Z' σ l n x := by
  obtain ⟨mc, d, cap, f, h1, h2, h3, h4, h5, h6⟩ := h
  exact ⟨mc, d, cap, f, h1, h2, h3, h4, hz _ (hw _ _ h1) h5, hz _ (hw _ _ h2) h6⟩
theorem ExA.z (hw : HW σ) (hz : ∀ b, b < σ.1 → Z b → Z' b) : ∀ {m a : Nat} {F : Law}, ExA Z σ m a F → ExA Z' σ m a F
  | 0, _, _, h => h.elim
  | m + 1, a, F, h => by
    obtain ⟨hza, h⟩ := h
    rcases h with ⟨v, h1, h2⟩ | ⟨w, h0, h1, h2⟩ | ⟨b, G, h1, h2, h3⟩ | ⟨b, l, G, n, ax, ex, kx, Lx, h1, h2, h3, h4, h5⟩
    · exact ⟨hz _ (hw _ _ h1) hza, Or.inl ⟨v, h1, h2⟩⟩
    · exact ⟨hz _ (hw _ _ h1) hza, Or.inr (Or.inl ⟨w, h0, h1, h2⟩)⟩
    · exact ⟨hz _ (hw _ _ h1) hza, Or.inr (Or.inr (Or.inl ⟨b, G, h1, h2.z hw hz, h3⟩))⟩
    · exact ⟨hz _ (hw _ _ h1) hza, Or.inr (Or.inr (Or.inr ⟨b, l, G, n, ax, ex, kx, Lx, h1, h2.z hw hz, h3.z hw hz, fun i hi => ⟨(h4 i hi).1, (h4 i hi).2.1, hz _ (hw _ _ (h4 i hi).2.1) (h4 i hi).2.2.1, (h4 i hi).2.2.2.z hw hz⟩, h5⟩))⟩
theorem LawC.z {x : Value} {n : Nat} {o : Option Law} (h : LawC Z σ x n o) (hw : HW σ) (hz : ∀ b, b < σ.1 → Z b → Z' b) : LawC Z' σ x n o := by
  cases o with
  | none => exact h
  | some F => obtain ⟨⟨ea, m, h1, h2, h3⟩, h4⟩ := h; exact ⟨⟨ea, m, h1, h2, h3.z hw hz⟩, h4⟩
theorem QC.own (h : QC ow σ qa fx q) (hw : HW σ) (e : ∀ b, b < σ.1 → ow' b = ow b) : QC ow' σ qa fx q := by
  obtain ⟨hl, nl, ka, na, sl, fo, xl, xe, hx, mx, dx, sx, ⟨a1, a2⟩, ⟨b1, b2⟩, ⟨c1, c2, ⟨⟨K, c3, c4⟩, c5⟩, ⟨N, c6, c7⟩, c8⟩, ⟨d1, d2⟩, ⟨e1, e2⟩, f1, f2, f3, Φ, f4⟩ := h
  have hz : ∀ b, b < σ.1 → Zo ow b → Zo ow' b := fun b hb z => by unfold Zo at z ⊢; rw [e b hb]; exact z
  refine ⟨hl, nl, ka, na, sl, fo, xl, xe, hx, mx, dx, sx, ⟨a1, by rw [e _ (hw _ _ a1)]; exact a2⟩, ⟨b1.z hw hz, fun h hh => ?_⟩, ⟨c1.z hw hz, fun d hd => ?_, ⟨⟨K, c3, c4⟩, by rw [e _ (hw _ _ c3)]; exact c5⟩, ⟨N, c6, c7⟩, by rw [e _ (hw _ _ c6)]; exact c8⟩, ⟨d1.z hw hz, fun k hk => ?_⟩, ⟨e1.z hw hz, e2.z hw hz⟩, f1, by rw [e _ (hw _ _ f1)]; exact f2, by rw [e _ (hw _ _ f4)]; exact f3, Φ, f4⟩
  · obtain ⟨x1, x2, x3, x4⟩ := b2 h hh
    obtain ⟨F, x5, x6⟩ := x3
    exact ⟨x1, by rw [e _ (hw _ _ x1)]; exact x2, ⟨F, x5, x6⟩, by rw [e _ (hw _ _ x5)]; exact x4⟩
  · obtain ⟨x1, x2⟩ := c2 d hd
    exact ⟨x1, by rw [e _ (x1.elim (fun z => hw _ _ z) (fun z => hw _ _ z))]; exact x2⟩
  · obtain ⟨⟨F, x5, x6⟩, x2⟩ := d2 k hk
    exact ⟨⟨F, x5, x6⟩, by rw [e _ (hw _ _ x5)]; exact x2⟩
theorem NightB.lt {lf kf : Nat → Option Nat} (h : NightB σ n0 lf kf) (hw : HW σ) : n0 + 10 < σ.1 := by
  obtain ⟨F, hF⟩ := h.2.2.2.2.2
  exact hw _ _ hF
theorem LockAt.ltT {l kd : Nat} {r : Nat → Nat} (h : LockAt σ l kd r) (hw : HW σ) {b : Nat} (hb : LkT kd l b) : b < σ.1 := by
  have := h.lt hw
  unfold LkT at hb
  rcases hb with rfl | rfl | ⟨h5, rfl⟩
  · omega
  · omega
  · exact h.lt2 hw h5
theorem NightAt.own (h : NightAt ow t tl σ n0 qa fx q s L) (hw : HW σ) (e : ∀ b, b < σ.1 → ow' b = ow b) : NightAt ow' t tl σ n0 qa fx q s L := by
  obtain ⟨⟨h0, lf, kf, hNB, hlf⟩, hQ, hL, hT, ht, hl⟩ := h
  have := hNB.lt hw
  exact ⟨⟨h0, lf, kf, hNB, hlf⟩, hQ.own hw e, hL, hT, fun b h1 h2 => by rw [e b (by omega)]; exact ht b h1 h2, fun d hd b hb => by rw [e b ((hL d hd).1.ltT hw hb)]; exact hl d hd b hb⟩
theorem QC.fr {σ' : CM} {S : Nat → Prop} {c m : Nat} (h : QC ow σ qa fx q) (hw : HW σ) (hF : Fr S c m σ σ') (hn : ∀ b, b < σ.1 → S b → ow b ≠ 0 ∧ ow b ≠ 1) : QC ow σ' qa fx q := by
  have hu : QC (fun b => if b < σ.1 then ow b else 2) σ qa fx q := h.own hw (fun b hb => if_pos hb)
  have hu' : QC (fun b => if b < σ.1 then ow b else 2) σ' qa fx q := hu.k (fun b hb => by
    split at hb
    · exact hF.2.2.1 b (by assumption) (fun z => (hn b (by assumption) z).1 hb)
    · omega) (fun Φ hΦ => ⟨Φ, hF.g (hw _ _ hΦ) (fun z => (hn _ (hw _ _ hΦ) z).2 h.ofx) hΦ⟩)
  have key : ∀ b, (fun b => if b < σ.1 then ow b else 2) b = 0 → ow b = 0 := fun b hb => by
    dsimp only at hb
    split at hb
    · exact hb
    · omega
  obtain ⟨hl, nl, ka, na, sl, fo, xl, xe, hx, mx, dx, sx, ⟨a1, a2⟩, ⟨b1, b2⟩, ⟨c1, c2, ⟨⟨K, c3, c4⟩, c5⟩, ⟨N, c6, c7⟩, c8⟩, ⟨d1, d2⟩, ⟨e1, e2⟩, f1, f2, f3, Φ, f4⟩ := hu'
  have hw' := hF.2.2.2
  have hz : ∀ b, b < σ'.1 → Zo (fun b => if b < σ.1 then ow b else 2) b → Zo ow b := fun b _ z => key b z
  exact ⟨hl, nl, ka, na, sl, fo, xl, xe, hx, mx, dx, sx, ⟨a1, key _ a2⟩, ⟨b1.z hw' hz, fun h hh => ⟨(b2 h hh).1, key _ (b2 h hh).2.1, (b2 h hh).2.2.1, key _ (b2 h hh).2.2.2⟩⟩, ⟨c1.z hw' hz, fun d hd => ⟨(c2 d hd).1, key _ (c2 d hd).2⟩, ⟨⟨K, c3, c4⟩, key _ c5⟩, ⟨N, c6, c7⟩, key _ c8⟩, ⟨d1.z hw' hz, fun k hk => ⟨(d2 k hk).1, key _ (d2 k hk).2⟩⟩, ⟨e1.z hw' hz, e2.z hw' hz⟩, f1, key _ f2, h.ofx, Φ, f4⟩
/-- a night that is not touched -/
theorem NightAt.fr {σ' : CM} {S : Nat → Prop} {c m : Nat} (h : NightAt ow t tl σ n0 qa fx q s L) (hw : HW σ) (hF : Fr S c m σ σ') (hn : ∀ b, b < σ.1 → S b → ow b ≠ 0 ∧ ow b ≠ 1 ∧ ow b ≠ t ∧ ∀ d, d < qD q → ow b ≠ tl d) : NightAt ow t tl σ' n0 qa fx q s L := by
  obtain ⟨⟨h0, lf, kf, hNB, hlf⟩, hQ, hL, hT, ht, hl⟩ := h
  have hlt := hNB.lt hw
  have kt : ∀ i, i < 11 → gC σ' (n0 + i) = gC σ (n0 + i) := fun i hi => hF.2.2.1 _ (by omega) (fun z => (hn _ (by omega) z).2.2.1 (ht _ (by omega) (by omega)))
  obtain ⟨b1, b2, b3, b4, b5, b6⟩ := hNB
  refine ⟨⟨(kt 0 (by omega)).trans h0, lf, kf, ⟨(kt 1 (by omega)).trans b1, (kt 2 (by omega)).trans b2, ?_, (kt 4 (by omega)).trans b4, fun j hj => ?_, ?_⟩, hlf⟩, hQ.fr hw hF (fun b hb hs => ⟨(hn b hb hs).1, (hn b hb hs).2.1⟩), fun d hd => ⟨?_, (hL d hd).2⟩, hT, ht, hl⟩
  · obtain ⟨F, hF'⟩ := b3; exact ⟨F, (kt 3 (by omega)).trans hF'⟩
  · obtain ⟨F, hF'⟩ := b5 j hj; exact ⟨F, by rw [Nat.add_assoc] at hF' ⊢; exact (kt (5 + j) (by omega)).trans hF'⟩
  · obtain ⟨F, hF'⟩ := b6; exact ⟨F, (kt 10 (by omega)).trans hF'⟩
  · have e1 : ∀ b, LkT (qDk q d) (L d) b → gC σ' b = gC σ b := fun b hb => hF.2.2.1 b ((hL d hd).1.ltT hw hb) (fun z => (hn b ((hL d hd).1.ltT hw hb) z).2.2.2 d hd (hl d hd b hb))
    obtain ⟨x1, y2⟩ := (hL d hd).1
    refine ⟨(e1 _ (Or.inl rfl)).trans x1, ?_⟩
    by_cases k5 : qDk q d = 5
    · rw [k5] at y2 ⊢
      exact (e1 _ (Or.inr (Or.inl rfl))).trans y2
    · exact y2.k (e1 _ (Or.inr (Or.inl rfl))) (e1 _ (Or.inr (Or.inr ⟨k5, rfl⟩)))
end
