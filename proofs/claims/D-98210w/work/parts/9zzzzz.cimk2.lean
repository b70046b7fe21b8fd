set_option maxRecDepth 100000
/-! THE WHOLE COMPONENT: a mark is set -/
def Gmk (G : Gh) (ow' : Nat → Nat) (w : Nat) (mf : Nat → Option Nat) : Gh := (upN G.1 11 w, fun k => if k = 0 then ow' else G.2.1 k, G.2.2.1, G.2.2.2.1, mf)
section
variable {zs ow' : Nat → Nat} {e : Nat} {σ σ' : CM} {P : CR → Prop} {x0 B c m : Nat} {G : Gh} {a : Ab}
theorem CI.tw (hI : CI zs σ x0 G a) : (∀ v, G.TN a.q v → v < G.w) ∧ ∀ i, i < a.n → G.ul i < G.w := by
  have t2 := hI.1.2.1
  have hn := hI.2.2.1
  refine ⟨fun v hv => ?_, fun i hi => ?_⟩
  · rcases hv with rfl | ⟨d, hd, rfl⟩
    · have := t2 G.n0
      rw [hn.2.2.2.2.1 G.n0 (Nat.le_refl _) (by omega)] at this
      exact this
    · have := t2 (G.L d)
      rw [hn.2.2.2.2.2 d hd _ (Or.inl rfl)] at this
      exact this
  · obtain ⟨-, -, ⟨b6, -⟩, -⟩ := hI.2.2.2.2.2.1.2.2 i hi
    rw [← b6 _ (Or.inl rfl)]; exact t2 _
theorem ci_mark_st {k : Nat} (hk : k < 4) (hI : CI zs σ x0 G a) (hA : AOK B a) (hP : ∀ σ', CO zs x0 σ G a ((a.q, a.s, a.Li), (a.n, a.u), mkU a.mk k (a.q, a.s, a.Li), a.T) σ' → P (.inl (some (.int (nI 1))), σ')) : EC zs (Jc zs) (e + 6) cX1_mark (some .boolean) 0 0 0 [some (.ref x0), some (.int (nI k)), some (.int (bI false))] [] σ P := by
  have hw := hI.hw
  have h40 := hI.h40
  have f1 := hI.fx1
  have x2 := hI.x2
  obtain ⟨tw1, tw2⟩ := hI.tw
  obtain ⟨⟨-, t2, t3, t4, t5, t6, t7⟩, ⟨r1, -⟩, hn, hh, hd, hu, hm, ho, hz⟩ := id hI
  refine c_mark_st hk hA.1.1 hw hA.1.2.2.2.1 hI.tg ⟨t5, h40⟩ hI.rt (hI.ap (by omega)) hn hm.1.1 hm.1.2 (fun σ' ow' tl1 eo F g0 o0 gM N N2 etl en => hP σ' ?_)
  have w' := F.2.2.2
  have hF1 := F.1.1
  have f0 := w' _ _ g0
  let o2 : Nat → Nat := fun b => if b < σ'.1 then ow' b else 39
  have e2 : ∀ b, b < σ'.1 → o2 b = ow' b := fun b hb => if_pos hb
  have eo2 : ∀ b, b < σ.1 → o2 b = G.ow b := fun b hb => (e2 b (by omega)).trans (eo b hb)
  have o9 : ∀ b, σ'.1 ≤ b → o2 b = 39 := fun b hb => if_neg (by omega)
  have on : ∀ b, σ.1 ≤ b → o2 b = 39 ∨ (G.w ≤ o2 b ∧ o2 b < G.w + 6) := fun b hb => by
    by_cases h : b < σ'.1
    · rw [e2 b h]
      by_cases h0 : b = σ.1
      · rw [h0]; exact Or.inl o0
      · rcases en b (by omega) with z | ⟨d, hd, z⟩
        · omega
        · rw [etl d] at z; omega
    · exact Or.inl (o9 b (by omega))
  have o1 : ∀ b, o2 b = 1 → b = G.fx := fun b hb => by
    by_cases h : b < σ.1
    · rw [eo2 b h] at hb; exact t3 b hb
    · rcases on b (by omega) with z | z <;> omega
  have l7 := hw _ _ hm.1.1
  have xl := hw _ _ r1
  have fl : G.fx < σ.1 := by obtain ⟨Φ, hΦ⟩ := hn.two.2; exact hw _ _ hΦ
  have o5 : ∀ b, b < σ.1 → b = G.A 7 → G.ow b = 5 := fun b _ hb => by rw [hb]; exact hm.1.2
  have Nc := N.own w' e2
  have Nm := N2.own w' e2
  have mw : mow o2 G.fx = o2 := by
    funext b
    unfold mow
    by_cases hb : b = G.fx
    · rw [if_pos hb, hb, eo2 _ fl, f1]
    · rw [if_neg hb, if_neg (fun z => hb (o1 b z))]
  have hh' : HiA o2 σ' G.hl a.Li := HiA.fr hh hw eo2 F (fun b hb hs => by rw [o5 b hb hs]; omega)
  have hd' := CId.fr (r := (G.op, G.al, G.gg)) (m0 := G.m0) (w := G.w + 6) hd hw F (fun b hb hs => by rw [o5 b hb hs]; omega) eo2
  have hu' := CIu.fr (r := (G.op, G.al, G.gg)) (m0 := G.m0) (w := G.w + 6) hu hz hw F (fun b hb hs => by
    rw [o5 b hb hs]
    refine ⟨by omega, by omega, by omega, fun i hi z => ?_⟩
    obtain ⟨-, -, ⟨-, b7, -⟩, -⟩ := hu.2.2 i hi
    omega) eo2
  have ho' := CIo.fr (r := (G.op, G.al, G.gg)) (w := G.w + 6) ho hw F (fun b hb hs => by rw [o5 b hb hs]; omega) eo2
  have hz' : CIz zs σ' (Gmk G o2 (G.w + 6) (va_up G.mf k (some σ.1))) := hz.fr hw F (fun b hb hs => by rw [o5 b hb hs]; omega) eo2
  refine ⟨Gmk G o2 (G.w + 6) (va_up G.mf k (some σ.1)), ⟨⟨w', fun b => ?_, o1, o9, by show 39 < G.w + 6; omega, t6, t7⟩, ⟨F.g xl (fun z => by have := o5 _ xl z; omega) r1, (eo2 _ xl).trans x2⟩, Nc, hh', hd', hu', ⟨⟨gM, (eo2 _ l7).trans hm.1.2⟩, fun j hj => ?_⟩, ho', hz'⟩, ⟨⟨hF1, ?_⟩, F.2.1.1, ?_⟩⟩
  · show o2 b < G.w + 6
    by_cases h : b < σ.1
    · rw [eo2 b h]; have := t2 b; omega
    · rcases on b (by omega) with z | z <;> omega
  · show (mkU a.mk k (a.q, a.s, a.Li) j).isSome = (va_up G.mf k (some σ.1) j).isSome ∧ ∀ qm sm Lm, mkU a.mk k (a.q, a.s, a.Li) j = some (qm, sm, Lm) → ∃ m, va_up G.mf k (some σ.1) j = some m ∧ _
    by_cases hjk : j = k
    · rw [show mkU a.mk k (a.q, a.s, a.Li) j = some (a.q, a.s, a.Li) from if_pos hjk, show va_up G.mf k (some σ.1) j = some σ.1 from if_pos hjk]
      refine ⟨rfl, fun qm sm Lm he => ?_⟩
      cases he
      have nTN : ∀ v, G.w ≤ v → ¬ G.TN a.q v := fun v hv z => by have := tw1 v z; omega
      refine ⟨σ.1, rfl, σ.1 + 1, G.hl, G.qa, G.fx, G.w, tl1, LA a.q (σ.1 + 1), g0, (e2 _ f0).trans o0, ?_, ?_, Or.inl rfl, ⟨t5, nTN _ (Nat.le_refl _), fun i hi => ?_⟩, fun d hd => ⟨?_, nTN _ ?_, fun i hi => ?_⟩⟩
      · show NightAt (mow o2 G.fx) G.w tl1 σ' (σ.1 + 1) G.qa G.fx a.q a.s (LA a.q (σ.1 + 1))
        rw [mw]; exact Nm
      · show HiA (mow o2 G.fx) σ' G.hl a.Li
        rw [mw]; exact hh'
      · have := tw2 i hi; show G.ul i ≠ G.w; omega
      · rw [etl d]; omega
      · rw [etl d]; omega
      · have := tw2 i hi; show G.ul i ≠ tl1 d; rw [etl d]; omega
    · rw [show mkU a.mk k (a.q, a.s, a.Li) j = a.mk j from if_neg hjk, show va_up G.mf k (some σ.1) j = G.mf j from if_neg hjk]
      refine ⟨(hm.2 j hj).1, fun qm sm Lm he => ?_⟩
      obtain ⟨mm, h4, h5⟩ := (hm.2 j hj).2 qm sm Lm he
      exact ⟨mm, h4, h5.fr (r := (G.op, G.al, G.gg)) (m0 := G.m0) (w := G.w + 6) hw F (fun b hb hs => Or.inr (Or.inl (by rw [o5 b hb hs]; omega))) h40 f1 Nc.two.2 eo2⟩
  · have := F.1.2
    show σ'.1 + 3 * G.m0 + 8 * a.T.1 ≤ _
    omega
  · have := F.2.1.2
    show σ'.2.1 + 49 * G.m0 + 2100 * a.T.1 ≤ _
    omega
end
