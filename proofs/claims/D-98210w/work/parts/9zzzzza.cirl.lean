set_option maxRecDepth 100000
/-! THE WHOLE COMPONENT: another quarter at hand -/
/-- ghosts of another night -/
def Gbk (G : Gh) (ow : Nat → Nat) (w n0 qa fx hl t : Nat) (tl L x : Nat → Nat) : Gh := (upN (upN (upN (upN (upN (upN G.1 0 t) 1 n0) 2 qa) 3 fx) 4 hl) 11 w, fun k => if k = 0 then ow else if k = 1 then tl else if k = 2 then L else if k = 4 then x else G.2.1 k, G.2.2)
section
variable {zs ow ow' : Nat → Nat} {σ σ' : CM} {S : Nat → Prop} {c m x0 f : Nat} {G : Gh} {a : Ab}
theorem mow_k {b : Nat} (hf : ow f = 1 ∨ ow f = 39) (h1 : ow b ≠ 1) (h2 : ow b ≠ 39) : mow ow f b = ow b := by
  unfold mow
  rw [if_neg (fun z => by rw [z] at h1 h2; omega), if_neg h1]
theorem mow_m {f' : Nat} (hf : ow f = 1 ∨ ow f = 39) : mow (mow ow f) f' = mow ow f' := by
  funext b
  unfold mow
  by_cases hb : b = f'
  · rw [if_pos hb, if_pos hb]
  · rw [if_neg hb, if_neg hb]
    by_cases h2 : b = f
    · rw [if_pos h2, if_pos rfl, h2]
      rcases hf with z | z
      · rw [if_pos z]
      · rw [if_neg (by omega), z]
    · rw [if_neg h2]
      by_cases h1 : ow b = 1
      · rw [if_pos h1, if_neg (by omega)]
      · rw [if_neg h1, if_neg h1]
variable {w n0 qa hl t : Nat} {tl L x : Nat → Nat}
/-- parts that do not mind -/
theorem CI.rl (hI : CI zs σ x0 G a) (hf : G.ow f = 1 ∨ G.ow f = 39) : CId zs σ (Gbk G (mow G.ow f) w n0 qa f hl t tl L x) a.T ∧ CIo σ x0 (Gbk G (mow G.ow f) w n0 qa f hl t tl L x) ∧ CIz zs σ (Gbk G (mow G.ow f) w n0 qa f hl t tl L x) := by
  have hw := hI.hw
  obtain ⟨-, -, -, -, ⟨hd0, hK, hC, h79, oA, oC⟩, -, -, ⟨⟨rw, lk, rw', lk', b1, b2, b3, b4⟩, b5, b6, b7⟩, hz⟩ := id hI
  have mk : ∀ b v, G.ow b = v → v ≠ 1 → v ≠ 39 → mow G.ow f b = v := fun b v hb h1 h2 => (mow_k hf (by omega) (by omega)).trans hb
  refine ⟨⟨hd0, hK, hC, h79, mk _ _ oA (by omega) (by omega), fun k hk => mk _ _ (oC k hk) (by omega) (by omega)⟩, ⟨⟨rw, lk, rw', lk', ?_, ?_, b3, b4⟩, ?_, b6.t8 hw (fun b _ h => mow_k hf (by omega) (by omega)), ?_⟩, ⟨hz.1, fun i hi => mk _ _ (hz.2.1 i hi) (by omega) (by omega), hz.2.2.1, mk _ _ hz.2.2.2 (by omega) (by omega)⟩⟩
  · obtain ⟨v, F, g1, g2, g3, o1, o2, o3⟩ := b1
    exact ⟨v, F, g1, g2, g3, mk _ _ o1 (by omega) (by omega), mk _ _ o2 (by omega) (by omega), mk _ _ o3 (by omega) (by omega)⟩
  · obtain ⟨F, g1, g2, g3, o1, o2, o3⟩ := b2
    exact ⟨F, g1, g2, g3, mk _ _ o1 (by omega) (by omega), mk _ _ o2 (by omega) (by omega), mk _ _ o3 (by omega) (by omega)⟩
  · obtain ⟨fa, mn, l, ab, be, ff, f0, f1, F0, F1, Gf, h1, h2, h3, h4, o1, o2, o3, o4, o5⟩ := b5
    exact ⟨fa, mn, l, ab, be, ff, f0, f1, F0, F1, Gf, h1, h2, h3, h4, mk _ _ o1 (by omega) (by omega), mk _ _ o2 (by omega) (by omega), mk _ _ o3 (by omega) (by omega), mk _ _ o4 (by omega) (by omega), mk _ _ o5 (by omega) (by omega)⟩
  · obtain ⟨pa, py, F, Gf, h1, h2, h3, o1, o2, o3⟩ := b7
    exact ⟨pa, py, F, Gf, h1, h2, h3, mk _ _ o1 (by omega) (by omega), mk _ _ o2 (by omega) (by omega), mk _ _ o3 (by omega) (by omega)⟩
/-- marks do not mind either -/
theorem CI.rlm {q' : QT} (hI : CI zs σ x0 G a) (hf : G.ow f = 1 ∨ G.ow f = 39) (hfo : ∀ fs, gC σ f ≠ some (.inl fs)) (ht : G.w ≤ t ∧ ∀ d, d < qD q' → G.w ≤ tl d) {k : Nat} (hk : k < 4) {qm : QT} {sm : Nat → Nat} {Lm : List It} (he : a.mk k = some (qm, sm, Lm)) : ∃ mm, G.mf k = some mm ∧ CIe σ (Gbk G (mow G.ow f) w n0 qa f hl t tl L x) q' 0 mm qm sm Lm := by
  obtain ⟨mm, h4, na, hm, qam, fxm, tm, tlm, LL, k1, k2, k3, k4, k5, ⟨k6, k7, k8⟩, k9⟩ := (hI.2.2.2.2.2.2.1.2 k hk).2 qm sm Lm he
  have t2 := hI.1.2.1
  have mo : ∀ v, 39 < v → (∃ b, mow G.ow fxm b = v) → v < G.w := fun v hv ⟨b, hb⟩ => by
    unfold mow at hb
    have := t2 b
    split at hb
    · omega
    · split at hb <;> omega
  have tmb : tm < G.w := mo tm k6 ⟨na, k3.2.2.2.2.1 na (Nat.le_refl _) (by omega)⟩
  have tlb : ∀ d, d < qD qm → tlm d < G.w := fun d hd => mo _ (k9 d hd).1 ⟨LL d, k3.2.2.2.2.2 d hd _ (Or.inl rfl)⟩
  have nt : ∀ v, v < G.w → ¬ Gh.TN (Gbk G (mow G.ow f) w n0 qa f hl t tl L x) q' v := fun v hv z => by
    rcases z with z | ⟨d, hd, z⟩
    · have z : v = t := z; omega
    · have z : v = tl d := z
      have := ht.2 d hd
      omega
  refine ⟨mm, h4, na, hm, qam, fxm, tm, tlm, LL, k1, ?_, ?_, ?_, ?_, ⟨k6, nt _ tmb, fun i hi => absurd hi (Nat.not_lt_zero i)⟩, fun d hd => ⟨(k9 d hd).1, nt _ (tlb d hd), fun i hi => absurd hi (Nat.not_lt_zero i)⟩⟩
  · show mow G.ow f mm = 39
    unfold mow
    rw [if_neg (fun z => hfo _ (by rw [← z]; exact k1)), if_neg (by omega)]
    exact k2
  · show NightAt (mow (mow G.ow f) fxm) tm tlm σ na qam fxm qm sm LL
    rw [mow_m hf]; exact k3
  · show HiA (mow (mow G.ow f) fxm) σ hm Lm
    rw [mow_m hf]; exact k4
  · show fxm = f ∨ mow G.ow f fxm = 39
    by_cases hff : fxm = f
    · exact Or.inl hff
    · refine Or.inr ?_
      unfold mow
      rw [if_neg hff]
      rcases k5 with z | z
      · rw [z, if_pos hI.fx1]
      · rw [if_neg (by omega), z]
end
