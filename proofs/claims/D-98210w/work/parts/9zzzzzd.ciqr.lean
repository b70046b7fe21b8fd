set_option maxRecDepth 100000
/-! THE WHOLE COMPONENT: the draft becomes a quarter -/
section
variable {zs ow w : Nat → Nat} {σ : CM} {lo ra a : Nat} {q : QT}
theorem DrO.qc (h : DrO zs w lo ra σ q a) (hw : HW σ) (h0 : ∀ b, lo ≤ b → b < σ.1 → b ≠ lo + 10 → ow b = 0) (h1 : ow (lo + 10) = 1) (hz : ∀ i, i < 256 → ow (zs (200 + i)) = 0) : QC ow σ lo (lo + 10) q := by
  obtain ⟨hd, ch, nd, cn, sd, cs, hx, mx, dx, sx, xl, xe, ⟨r1, r2⟩, ⟨A0, ⟨A1, A2, A3⟩, -, A6⟩, ⟨B0, ⟨B1, B2, B3⟩, -, B6⟩, ⟨⟨⟨K, c1, c2⟩, c3⟩, ⟨N, c4, c5⟩, c6⟩, ⟨D0, ⟨D1, D2, D3⟩, -, D6⟩, ⟨e1, e2⟩, ⟨f1, f2, f3, Φ, f4⟩, -⟩ := h
  have z : ∀ b c, gC σ b = some c → lo ≤ b → w b ≠ 7 → ow b = 0 := fun b c hb hl hn => h0 b hl (hw _ _ hb) (fun y => by rw [y] at hn; exact hn f3)
  have al : ∀ {l d n cap : Nat} {x : Nat → Nat}, ALm σ l d n cap x → lo ≤ l → lo ≤ d → w l ≠ 7 → w d ≠ 7 → AL (Zo ow) σ l n x := fun {l d n cap x} h h1 h2 h3 h4 => by
    obtain ⟨mc, f, g1, g2, -⟩ := id h
    exact h.z (z _ _ g1 h1 h3) (z _ _ g2 h2 h4)
  have lw : ∀ {x : Value} {n : Nat} {o : Option Law}, LawC (Zw w lo) σ x n o → LawC (Zo ow) σ x n o := fun {x n o} h => by
    cases o with
    | none => exact h
    | some F =>
      obtain ⟨⟨ea, m, h1, h2, h3⟩, h4⟩ := h
      exact ⟨⟨ea, m, h1, h2, h3.on.mo (fun b hb => by obtain ⟨⟨z1, z2⟩, c, hc⟩ := hb; exact z b c hc z2 (by omega)) (Nat.le_refl _)⟩, h4⟩
  refine ⟨lo + 1, lo + 3, lo + 5, lo + 6, lo + 7, lo + 9, xl, xe, hx, mx, dx, sx, ⟨r1, z _ _ r1 (Nat.le_refl _) (by omega)⟩, ⟨al A0 (by omega) A3 (by omega) (by omega), fun h hh => ?_⟩, ⟨al B0 (by omega) B3 (by omega) (by omega), fun d hd => ?_, ⟨⟨K, c1, c2⟩, z _ _ c1 (by omega) (by omega)⟩, ⟨N, c4, c5⟩, z _ _ c4 (by omega) (by omega)⟩, ⟨al D0 (by omega) D3 (by omega) (by omega), fun k hk => ?_⟩, ⟨lw e1, lw e2⟩, f1, z _ _ f1 (by omega) (by omega), h1, Φ, f4⟩
  · obtain ⟨⟨x1, x2, x3, x4⟩, ⟨F, x5, x5'⟩, x6, x7⟩ := A6 h hh
    exact ⟨x1, z _ _ x1 x4 (by omega), ⟨F, x5, x5'⟩, z _ _ x5 x7 (by omega)⟩
  · obtain ⟨x1, x2, x3⟩ := B6 d hd
    refine ⟨x1, ?_⟩
    rcases x3 with x3 | ⟨i, hi, x3⟩
    · rcases x1 with x1 | x1
      · exact z _ _ x1 x3 (by omega)
      · exact z _ _ x1 x3 (by omega)
    · rw [x3]; exact hz i hi
  · obtain ⟨⟨F, x1, x1'⟩, x2, x3⟩ := D6 k hk
    exact ⟨⟨F, x1, x1'⟩, z _ _ x1 x3 (by omega)⟩
end
