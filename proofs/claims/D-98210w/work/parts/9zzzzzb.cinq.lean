set_option maxRecDepth 100000
/-! THE WHOLE COMPONENT: another night at hand; a mark gone back to -/
section
variable {zs ow' : Nat → Nat} {e : Nat} {σ σ' : CM} {P : CR → Prop} {S : Nat → Prop} {c m x0 f B : Nat} {G : Gh} {a : Ab} {w n0 qa hl t fa pt dp : Nat} {tl L x s' : Nat → Nat} {dr : Value} {hg : Int32} {q' : QT} {Li : List It} {T : TP}
theorem CI.nq (hI : CI zs σ x0 G a) (hf : G.ow f = 1 ∨ G.ow f = 39) (hfo : ∀ fs, gC σ f ≠ some (.inl fs)) (F : Fr S c m σ σ') (hS : ∀ b, b < σ.1 → S b → G.ow b = 2 ∨ G.ow b = 3 ∨ G.ow b = 4) (eo : ∀ b, b < σ.1 → ow' b = mow G.ow f b) (olt : ∀ b, σ.1 ≤ b → ow' b < w) (o1 : ∀ b, σ.1 ≤ b → ow' b = 1 → b = f) (e9 : ∀ b, σ'.1 ≤ b → ow' b = 39) (hww : G.w ≤ w) (ht : G.w ≤ t ∧ ∀ d, d < qD q' → G.w ≤ tl d) (N' : NightAt ow' t tl σ' n0 qa f q' s' L) (hr : gC σ' x0 = some (.inl (0, rtF n0 hl G.op G.al G.gg G.A))) (hh : HiA ow' σ' hl Li) (hd : RdT σ' (G.A 0) G.C dr hg fa (nI pt) (nI dp) T ∧ RdK zs σ' G.C ∧ CuA σ' G.C []) (hU : ALm σ' (G.A 1) G.d0 0 G.cap x) (hc : c + 8 * T.1 ≤ 8 * a.T.1 + 400) (hmm : m + 2100 * T.1 ≤ 2100 * a.T.1 + 56000) : CO zs x0 σ G a ((q', s', Li), (0, a.u), a.mk, T) σ' := by
  have hw := hI.hw
  have x2 := hI.x2
  have f1 := hI.fx1
  obtain ⟨rd, ro, rz⟩ := hI.rl (w := w) (n0 := n0) (qa := qa) (hl := hl) (t := t) (tl := tl) (L := L) (x := x) hf
  obtain ⟨⟨-, t2, t3, t4, t5, t6, t7⟩, ⟨r1, -⟩, hn, -, ⟨hd0, hK0, hC0, h79, oA, oC⟩, ⟨⟨U1, U2, U3, U4⟩, ⟨U5, U6⟩, U7⟩, hm, -, hz⟩ := id hI
  have mk : ∀ b v, G.ow b = v → v ≠ 1 → v ≠ 39 → mow G.ow f b = v := fun b v hb h1 h2 => (mow_k hf (by omega) (by omega)).trans hb
  have sm : ∀ b, b < σ.1 → S b → mow G.ow f b = 2 ∨ mow G.ow f b = 3 ∨ mow G.ow f b = 4 := fun b hb hs => by
    rcases hS b hb hs with z | z | z
    · exact Or.inl (mk b 2 z (by omega) (by omega))
    · exact Or.inr (Or.inl (mk b 3 z (by omega) (by omega)))
    · exact Or.inr (Or.inr (mk b 4 z (by omega) (by omega)))
  have l7 := hw _ _ hm.1.1
  have xl := hw _ _ r1
  obtain ⟨mc0, ff0, a1, a2, -⟩ := id U1
  have lA := hw _ _ a1
  have lD := hw _ _ a2
  have ho' := CIo.fr (r := (G.op, G.al, G.gg)) (w := w) ro hw F (fun b hb hs => by have := sm b hb hs; show mow G.ow f b ≠ 6 ∧ (mow G.ow f b < 8 ∨ 38 < mow G.ow f b); omega) eo
  have hz' : CIz zs σ' (Grd (Gbk G ow' w n0 qa f hl t tl L x) ow' hl fa pt dp dr hg) := rz.fr hw F (fun b hb hs => by have := sm b hb hs; show mow G.ow f b ≠ 0; omega) eo
  have cl : ∀ k, k < 10 → G.C k < σ.1 := fun k hk => by
    obtain ⟨h0, F6, h6, -⟩ := hd0
    obtain ⟨F7, V, G9, ⟨g7, g8, g9⟩, -⟩ := hC0
    have hcc : k < 6 ∨ k = 6 ∨ k = 7 ∨ k = 8 ∨ k = 9 := by omega
    rcases hcc with hcc | rfl | rfl | rfl | rfl
    · obtain ⟨mm, ff, ha⟩ := hK0.ar k hcc; exact hw _ _ ha
    · exact hw _ _ h6
    · exact hw _ _ g7
    · exact hw _ _ g8
    · exact hw _ _ g9
  refine ⟨Grd (Gbk G ow' w n0 qa f hl t tl L x) ow' hl fa pt dp dr hg, ⟨⟨F.2.2.2, fun b => ?_, fun b hb => ?_, e9, by show 39 < w; omega, by show 39 < t; omega, fun d hd => by show 39 < tl d; have := ht.2 d hd; omega⟩, ⟨hr, (eo _ xl).trans (mk _ _ x2 (by omega) (by omega))⟩, N', hh, ⟨hd.1, hd.2.1, hd.2.2, h79, (eo _ (hw _ _ hd0.1)).trans (mk _ _ oA (by omega) (by omega)), fun k hk => (eo _ (cl k hk)).trans (mk _ _ (oC k hk) (by omega) (by omega))⟩, ⟨⟨hU, Nat.zero_le _, U3, U4⟩, ⟨(eo _ lA).trans (mk _ _ U5 (by omega) (by omega)), fun hc => (eo _ lD).trans (mk _ _ (U6 hc) (by omega) (by omega))⟩, fun i hi => absurd hi (Nat.not_lt_zero i)⟩, ⟨⟨F.g l7 (fun z => by have := hS _ l7 z; have := hm.1.2; omega) hm.1.1, (eo _ l7).trans (mk _ _ hm.1.2 (by omega) (by omega))⟩, fun k hk => ⟨(hm.2 k hk).1, fun qm sm' Lm he => ?_⟩⟩, ho', hz'⟩, ⟨⟨F.1.1, ?_⟩, F.2.1.1, ?_⟩⟩
  · show ow' b < w
    by_cases hb : b < σ.1
    · rw [eo b hb]
      have := t2 b
      unfold mow
      split
      · omega
      · split <;> omega
    · exact olt b (by omega)
  · have hb : ow' b = 1 := hb
    show b = f
    by_cases hb' : b < σ.1
    · rw [eo b hb'] at hb
      unfold mow at hb
      split at hb
      · assumption
      · split at hb
        · omega
        · rename_i h1 h2; exact absurd hb h2
    · exact o1 b (by omega) hb
  · obtain ⟨mm, h4, h5⟩ := hI.rlm (q' := q') (w := w) (n0 := n0) (qa := qa) (hl := hl) (t := t) (tl := tl) (L := L) (x := x) hf hfo ht hk he
    exact ⟨mm, h4, h5.fr (r := (G.op, G.al, G.gg)) (m0 := G.m0) (w := w) hw F (fun b hb hs => Or.inr (Or.inl (by have := sm b hb hs; show 2 ≤ mow G.ow f b ∧ mow G.ow f b ≤ 38; omega))) ⟨by show 39 < t; omega, fun d hd => by show 39 < tl d; have := ht.2 d hd; omega⟩ (if_pos rfl) N'.two.2 eo⟩
  · have := F.1.2
    show σ'.1 + 3 * G.m0 + 8 * T.1 ≤ _
    omega
  · have := F.2.1.2
    show σ'.2.1 + 49 * G.m0 + 2100 * T.1 ≤ _
    omega
end
