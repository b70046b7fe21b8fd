set_option maxRecDepth 100000
/-! THE WHOLE COMPONENT: hours, undo -/
def Gst (G : Gh) (x tl L : Nat → Nat) : Gh := (G.1, fun k => if k = 1 then tl else if k = 2 then L else if k = 4 then x else G.2.1 k, G.2.2)
section
variable {zs : Nat → Nat} {e : Nat} {σ σ' : CM} {P : CR → Prop} {S : Nat → Prop} {c m x0 B : Nat} {G : Gh} {a : Ab}
theorem CI.st {x tl' L' s' : Nat → Nat} {n' : Nat} (hI : CI zs σ x0 G a) (F : Fr S c m σ σ') (hS : ∀ b, b < σ.1 → S b → G.ow b = 4 ∨ b = G.fx ∨ G.TN a.q (G.ow b)) (N' : NightAt G.ow G.t tl' σ' G.n0 G.qa G.fx a.q s' L') (h4 : ∀ d, d < qD a.q → 39 < tl' d) (hT : ∀ d, d < qD a.q → tl' d = G.tl d ∨ ∃ i, i < a.n ∧ tl' d = G.ul i) (hn' : n' ≤ a.n) (hU : CIu zs σ' (Gst G x tl' L') ((a.q, s', a.Li), (n', a.u), a.mk, a.T)) (hc : c ≤ 400) (hmm : m ≤ 56000) : CO zs x0 σ G a ((a.q, s', a.Li), (n', a.u), a.mk, a.T) σ' := by
  have hw := hI.hw
  have h40 := hI.h40
  have f1 := hI.fx1
  have x2 := hI.x2
  obtain ⟨⟨-, t2, t3, t4, t5, t6, t7⟩, ⟨r1, -⟩, hn, hh, hd, hu, hm, ho, hz⟩ := id hI
  have TNg : ∀ v, G.TN a.q v → 39 < v := fun v hv => by
    rcases hv with rfl | ⟨d, hd, rfl⟩
    · exact t6
    · exact t7 d hd
  have tn2 : ∀ b, b < σ.1 → S b → G.ow b ≠ 0 ∧ G.ow b ≠ 2 ∧ G.ow b ≠ 3 ∧ G.ow b ≠ 5 ∧ G.ow b ≠ 6 ∧ (G.ow b < 8 ∨ 38 < G.ow b) ∧ G.ow b ≠ 39 := fun b hb hs => by
    rcases hS b hb hs with z | z | z
    · omega
    · rw [z, f1]; omega
    · have := TNg _ z; omega
  have e0 : ∀ b, b < σ.1 → G.ow b = G.ow b := fun _ _ => rfl
  have hxl := hw _ _ r1
  have l7 := hw _ _ hm.1.1
  have hd' := CId.fr (r := (G.op, G.al, G.gg)) (m0 := G.m0) (w := G.w) hd hw F (fun b hb hs => (tn2 b hb hs).2.2.1) e0
  have ho' := CIo.fr (r := (G.op, G.al, G.gg)) (w := G.w) ho hw F (fun b hb hs => ⟨(tn2 b hb hs).2.2.2.2.1, (tn2 b hb hs).2.2.2.2.2.1⟩) e0
  have hz' : CIz zs σ' (Gst G x tl' L') := hz.fr hw F (fun b hb hs => (tn2 b hb hs).1) e0
  refine ⟨Gst G x tl' L', ⟨⟨F.2.2.2, t2, t3, fun b hb => t4 b (by have := F.1.1; omega), t5, t6, h4⟩, ⟨F.g hxl (fun z => (tn2 _ hxl z).2.1 x2) r1, x2⟩, N', HiA.fr hh hw e0 F (fun b hb hs => (tn2 b hb hs).1), hd', hU, ⟨⟨F.g l7 (fun z => (tn2 _ l7 z).2.2.2.1 hm.1.2) hm.1.1, hm.1.2⟩, fun k hk => ⟨(hm.2 k hk).1, fun qm sm Lm e => ?_⟩⟩, ho', hz'⟩, ⟨⟨F.1.1, ?_⟩, F.2.1.1, ?_⟩⟩
  · obtain ⟨mm, g4, g5⟩ := (hm.2 k hk).2 qm sm Lm e
    have c1 := g5.fr (r := (G.op, G.al, G.gg)) (m0 := G.m0) (w := G.w) hw F (fun b hb hs => by
      rcases hS b hb hs with z | z | z
      · exact Or.inr (Or.inl ⟨by omega, by omega⟩)
      · exact Or.inl z
      · exact Or.inr (Or.inr z)) h40 f1 N'.two.2 e0
    obtain ⟨na, hm2, qam, fxm, tm, tlm, LL, k1, k2, k3, k4, k5, ⟨k6, k7, k8⟩, k9⟩ := c1
    have nt : ∀ v, ¬ G.TN a.q v → (∀ i, i < a.n → G.ul i ≠ v) → ¬ Gh.TN (Gst G x tl' L') a.q v := fun v v1 v2 z => by
      rcases z with z | ⟨d, hd, z⟩
      · exact v1 (Or.inl z)
      · have z : v = tl' d := z
        rcases hT d hd with y | ⟨i, hi, y⟩
        · exact v1 (Or.inr ⟨d, hd, z.trans y⟩)
        · exact v2 i hi (z.trans y).symm
    exact ⟨mm, g4, na, hm2, qam, fxm, tm, tlm, LL, k1, k2, k3, k4, k5, ⟨k6, nt _ k7 k8, fun i hi => k8 i (by have hi : i < n' := hi; omega)⟩, fun d hd => ⟨(k9 d hd).1, nt _ (k9 d hd).2.1 (k9 d hd).2.2, fun i hi => (k9 d hd).2.2 i (by have hi : i < n' := hi; omega)⟩⟩
  · have := F.1.2
    show σ'.1 + 3 * G.m0 + 8 * a.T.1 ≤ _
    omega
  · have := F.2.1.2
    show σ'.2.1 + 49 * G.m0 + 2100 * a.T.1 ≤ _
    omega
theorem ci_hours {v : Int32} (hI : CI zs σ x0 G a) (hA : AOK B a) (h1 : vHr v = false → ∀ σ', CO zs x0 σ G a a σ' → P (.inl (some (.int (-1))), σ')) (h2 : vHr v = true → ∀ σ', CO zs x0 σ G a ((a.q, hrS a.q (ix v) a.s, a.Li), (0, a.u), a.mk, a.T) σ' → P (.inl (some (.int (spHours a.q a.s v))), σ')) : EC zs (Jc zs) (e + 6) cX1_hours (some .int) 0 0 0 [some (.ref x0), some (.int v), none] [] σ P := by
  have hw := hI.hw
  have h40 := hI.h40
  have x2 := hI.x2
  obtain ⟨⟨U1, U2, U3, U4⟩, ⟨U5, U6⟩, U7⟩ := id hI.2.2.2.2.2.1
  have hz := hI.2.2.2.2.2.2.2.2
  have nM : ∀ b, G.ow b ≤ 39 → ¬ MSt G.ow G.n0 G.t G.tl (qD a.q) b := fun b hb z => by
    rcases z with z | ⟨d, hd, z⟩
    · omega
    · have := h40.2 d hd; omega
  have d0t : G.ow G.d0 = 4 ∨ G.ow G.d0 = 0 := by
    by_cases hc : 0 < G.cap
    · exact Or.inl (U6 hc)
    · rw [U4 (by omega)]; exact Or.inr hz.2.2.2
  have hcap : 0 < a.n → 0 < G.cap := fun h => by obtain ⟨mc, f, -, -, l, -⟩ := id U1; omega
  refine c_phours hA.1.1 hA.1.2.2.2 (by have := hA.2.2.2.2.1; omega) (by have := hA.2.2.2.2.2; omega) hw hI.rt hI.2.2.1 U1 U2 (nM _ (by omega)) (fun b hb => nM _ ?_) (fun b hb => ?_) (fun z => h1 z _ (CO.rf hI)) (fun z σ' x' S' N' A' => h2 z σ' ?_)
  · rcases hb with y | y | ⟨i, hi, y⟩
    · rw [y]; omega
    · rw [y]; omega
    · rw [y, (U7 i hi).1.2.1]; omega
  · refine hI.ub.2 b ?_
    rcases hb with y | y
    · exact Or.inl y
    · exact Or.inr ⟨y.1, hcap y.2⟩
  · refine hI.st (x := x') (L' := G.L) (S'.fr hw) (fun b hb hs => ?_) N' h40.2 (fun d hd => Or.inl rfl) (Nat.zero_le _) ⟨⟨A', Nat.zero_le _, U3, U4⟩, ⟨U5, U6⟩, fun i hi => absurd hi (Nat.not_lt_zero i)⟩ (by omega) (by omega)
    rcases hs with (y | ⟨d, hd, y⟩) | y | y
    · exact Or.inr (Or.inr (Or.inl y.1))
    · exact Or.inr (Or.inr (Or.inr ⟨d, hd, y⟩))
    · rw [y]; exact Or.inl U5
    · rw [y.1]; exact Or.inl (U6 (hcap y.2))
end
