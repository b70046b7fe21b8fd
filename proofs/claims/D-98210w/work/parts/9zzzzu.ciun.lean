set_option maxRecDepth 100000
/-! THE WHOLE COMPONENT: undo -/
section
variable {zs : Nat → Nat} {e : Nat} {σ σ' : CM} {P : CR → Prop} {x0 B : Nat} {G : Gh} {a : Ab}
/-- the night with the lock laid back -/
theorem CI.unN {lf : Nat → Option Nat} (hI : CI zs σ x0 G a) (hn0 : 0 < a.n) (S' : Fs (fun b => b = G.A 1 ∨ b = G.d0 ∨ b = G.n0 + 1) σ σ') (gl : gC σ (G.n0 + 1) = some (.inr (5, 5, .inr (.inr (.inr (.inr lf)))))) (gl' : gC σ' (G.n0 + 1) = some (.inr (5, 5, .inr (.inr (.inr (.inr (va_up lf (G.dd (a.n - 1)) (some (G.lk (a.n - 1)))))))))) : NightAt G.ow G.t (upN G.tl (G.dd (a.n - 1)) (G.ul (a.n - 1))) σ' G.n0 G.qa G.fx a.q (a.u (a.n - 1)) (upN G.L (G.dd (a.n - 1)) (G.lk (a.n - 1))) := by
  have hw := hI.hw
  obtain ⟨t6, t7⟩ := hI.h40
  obtain ⟨⟨U1, U2, U3, U4⟩, ⟨U5, U6⟩, U7⟩ := id hI.2.2.2.2.2.1
  obtain ⟨⟨b1, b2, b3⟩, ⟨b4, b5⟩, ⟨b6, b7, b8, b9⟩, b10, b11⟩ := U7 (a.n - 1) (by omega)
  have hcap : 0 < G.cap := by obtain ⟨mc, f, -, -, l, -⟩ := id U1; omega
  have Ud := U6 hcap
  obtain ⟨⟨h0, lf0, kf, ⟨B1, B2, B3, B4, B5, B6⟩, hlf⟩, hQ, hL, ⟨T1, T2, T3⟩, ht, hl⟩ := id hI.2.2.1
  rw [gl] at B1
  cases B1
  have ns : ∀ b, G.ow b ≠ 4 → b ≠ G.n0 + 1 → gC σ' b = gC σ b := fun b h4 h1 => S'.2.2.1 b (fun z => by
    rcases z with z | z | z
    · rw [z] at h4; exact h4 U5
    · rw [z] at h4; exact h4 Ud
    · exact h1 z)
  have kn : ∀ i, i < 11 → i ≠ 1 → gC σ' (G.n0 + i) = gC σ (G.n0 + i) := fun i hi h1 => ns _ (by rw [ht _ (by omega) (by omega)]; omega) (by omega)
  have un : rowOf (a.un (a.n - 1 + 1)) = rowOf a.s := by
    unfold Ab.un
    rw [if_pos (by omega)]
  have lt : ∀ d, d < qD a.q → 2 ≤ upN G.tl (G.dd (a.n - 1)) (G.ul (a.n - 1)) d ∧ upN G.tl (G.dd (a.n - 1)) (G.ul (a.n - 1)) d ≠ G.t := fun d hd => by
    by_cases hdd : d = G.dd (a.n - 1)
    · rw [hdd, upN_s]; exact ⟨by omega, fun z => b8 (Or.inl z)⟩
    · rw [upN_n hdd]; exact T2 d hd
  refine ⟨⟨?_, _, kf, ⟨gl', (kn 2 (by omega) (by omega)).trans B2, ?_, (kn 4 (by omega) (by omega)).trans B4, fun j hj => ?_, ?_⟩, fun d hd => ?_⟩, ?_, fun d hd => ?_, ⟨T1, lt, fun d d' hd hd' hne => ?_⟩, ht, fun d hd b hb => ?_⟩
  · rw [b10.1, b10.2]; exact (kn 0 (by omega) (by omega)).trans h0
  · obtain ⟨F, hF⟩ := B3; exact ⟨F, (kn 3 (by omega) (by omega)).trans hF⟩
  · obtain ⟨F, hF⟩ := B5 j hj; exact ⟨F, by rw [Nat.add_assoc] at hF ⊢; exact (kn (5 + j) (by omega) (by omega)).trans hF⟩
  · obtain ⟨F, hF⟩ := B6; exact ⟨F, (kn 10 (by omega) (by omega)).trans hF⟩
  · by_cases hdd : d = G.dd (a.n - 1)
    · rw [hdd, upN_s]; exact if_pos rfl
    · rw [upN_n hdd]; exact (if_neg hdd).trans (hlf d hd)
  · refine hQ.fr hw (S'.fr hw) (fun b hb hs => ?_)
    rcases hs with z | z | z
    · rw [z, U5]; omega
    · rw [z, Ud]; omega
    · rw [z, ht _ (by omega) (by omega)]; omega
  · by_cases hdd : d = G.dd (a.n - 1)
    · rw [hdd, upN_s]
      exact ⟨b4.kT (fun b hb => ns b (by rw [b6 b hb]; omega) (fun z => by
        have := b6 b hb
        rw [z, ht _ (by omega) (by omega)] at this
        exact b8 (Or.inl this.symm))), b5⟩
    · rw [upN_n hdd, ← b11 d hd hdd, un]
      exact ⟨(hL d hd).1.kT (fun b hb => ns b (by rw [hl d hd b hb]; have := t7 d hd; omega) (fun z => by
        have := hl d hd b hb
        rw [z, ht _ (by omega) (by omega)] at this
        exact (T2 d hd).2 this.symm)), (hL d hd).2⟩
  · by_cases h1 : d = G.dd (a.n - 1)
    · rw [h1, upN_s, upN_n (by omega)]
      exact fun z => b8 (Or.inr ⟨d', hd', z⟩)
    · rw [upN_n h1]
      by_cases h2 : d' = G.dd (a.n - 1)
      · rw [h2, upN_s]
        exact fun z => b8 (Or.inr ⟨d, hd, z.symm⟩)
      · rw [upN_n h2]; exact T3 d d' hd hd' hne
  · by_cases hdd : d = G.dd (a.n - 1)
    · rw [hdd, upN_s] at hb ⊢
      exact b6 b hb
    · rw [upN_n hdd] at hb ⊢
      exact hl d hd b hb
theorem ci_undo (hI : CI zs σ x0 G a) (hA : AOK B a) (h1 : a.n = 0 → ∀ σ', CO zs x0 σ G a a σ' → P (.inl (some (.int (bI false))), σ')) (h2 : 0 < a.n → ∀ σ', CO zs x0 σ G a ((a.q, a.u (a.n - 1), a.Li), (a.n - 1, a.u), a.mk, a.T) σ' → P (.inl (some (.int (bI true))), σ')) : EC zs (Jc zs) (e + 3) cX1_undo (some .boolean) 0 0 0 [some (.ref x0), none] [] σ P := by
  have hw := hI.hw
  obtain ⟨⟨U1, U2, U3, U4⟩, ⟨U5, U6⟩, U7⟩ := id hI.2.2.2.2.2.1
  by_cases hn0 : a.n = 0
  · have U1' : ALm σ (G.A 1) G.d0 0 G.cap G.x := by rw [← hn0]; exact U1
    exact c_undo_no hI.rt U1' (h1 hn0 _ (CO.rf hI))
  · have hp : 0 < a.n := by omega
    obtain ⟨⟨b1, b2, b3⟩, ⟨b4, b5⟩, ⟨b6, b7, b8, b9⟩, b10, b11⟩ := U7 (a.n - 1) (by omega)
    have hcap : 0 < G.cap := by obtain ⟨mc, f, -, -, l, -⟩ := id U1; omega
    have Ud := U6 hcap
    have n1 : G.ow (G.n0 + 1) = G.t := hI.2.2.1.2.2.2.2.1 _ (by omega) (by omega)
    refine c_undo hw hI.rt hI.2.2.1 hA.1.1 U1 U2 hp hI.ub.1 b1 b3 ⟨_, b4.1⟩ (fun σ' lf S' A' gl gl' => h2 hp σ' ?_)
    have N' := hI.unN hp S' gl gl'
    have ns : ∀ b, G.ow b ≠ 4 → G.ow b ≠ G.t → gC σ' b = gC σ b := fun b h4 ht => S'.2.2.1 b (fun z => by
      rcases z with z | z | z
      · rw [z] at h4; exact h4 U5
      · rw [z] at h4; exact h4 Ud
      · rw [z] at ht; exact ht n1)
    have t6 := hI.h40
    refine hI.st (x := G.x) (S'.fr hw) (fun b hb hs => ?_) N' (fun d hd => ?_) (fun d hd => ?_) (by omega) ⟨⟨A', show a.n - 1 ≤ 16 by omega, U3, U4⟩, ⟨U5, U6⟩, fun i hi => ?_⟩ (by omega) (by omega)
    · rcases hs with z | z | z
      · rw [z]; exact Or.inl U5
      · rw [z]; exact Or.inl Ud
      · rw [z]; exact Or.inr (Or.inr (Or.inl n1))
    · by_cases hdd : d = G.dd (a.n - 1)
      · rw [hdd, upN_s]; exact b7
      · rw [upN_n hdd]; exact t6.2 d hd
    · by_cases hdd : d = G.dd (a.n - 1)
      · rw [hdd, upN_s]; exact Or.inr ⟨a.n - 1, by omega, rfl⟩
      · rw [upN_n hdd]; exact Or.inl rfl
    · have hi : i < a.n - 1 := hi
      obtain ⟨⟨c1, c2, c3⟩, ⟨c4, c5⟩, ⟨c6, c7, c8, c9⟩, c10, c11⟩ := U7 i (by omega)
      have ut : G.ul i ≠ G.t := fun z => c8 (Or.inl z)
      refine ⟨⟨(ns (G.x i) (by rw [c2]; omega) (by rw [c2]; omega)).trans c1, c2, c3⟩, ⟨c4.kT (fun b hb => ns b (by rw [c6 b hb]; omega) (by rw [c6 b hb]; exact ut)), c5⟩, ⟨c6, c7, fun z => ?_, c9⟩, ⟨c10.1.trans b10.1.symm, c10.2.trans b10.2.symm⟩, fun d hd hne => ?_⟩
      · rcases z with z | ⟨d, hd, z⟩
        · exact c8 (Or.inl z)
        · have z : G.ul i = upN G.tl (G.dd (a.n - 1)) (G.ul (a.n - 1)) d := z
          by_cases hdd : d = G.dd (a.n - 1)
          · rw [hdd, upN_s] at z; exact b9 i hi z
          · rw [upN_n hdd] at z; exact c8 (Or.inr ⟨d, hd, z⟩)
      · have key := c11 d hd hne
        show rowOf (if i + 1 = a.n - 1 then a.u (a.n - 1) else a.u (i + 1)) d = rowOf (a.u i) d
        rw [← key]
        unfold Ab.un
        rw [if_neg (show i + 1 ≠ a.n by omega)]
        by_cases hl : i + 1 = a.n - 1
        · rw [if_pos hl, hl]
        · rw [if_neg hl]
end
