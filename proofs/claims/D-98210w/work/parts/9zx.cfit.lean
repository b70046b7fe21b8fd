set_option maxRecDepth 100000
/-! THE COMPONENT: the night behind a history -/
def ftF (f0 : Nat) (v0 v1 v2 : Value) : List Value := [v0, v1, v2, .ref (f0 + 1), .ref (f0 + 2), .ref (f0 + 3), .ref (f0 + 4), .ref (f0 + 10)]
def FtA (ow : Nat → Nat) (σ : CM) (f0 m0 : Nat) : Prop := ∃ v0 v1 v2 lf kf, FX ow 8 σ f0 (ftF f0 v0 v1 v2) lf kf ∧ muN kf 30 = m0
theorem QC.fit {ow : Nat → Nat} {σ : CM} {qa fx : Nat} {q : QT} {d kd nr : Nat} (h : QC ow σ qa fx q) : QC ow σ qa fx (qFit q d kd nr) := h
section
variable {zs : Nat → Nat} {e : Nat} {σ : CM} {P : CR → Prop} {ow tl : Nat → Nat} {t n0 qa fx : Nat} {q : QT} {s L : Nat → Nat} {x0 hl : Nat} {op al : Int32} {gg : Int64} {A : Nat → Nat} {B w : Nat}
theorem FX.run {σ' : CM} {s' : Nat → Nat} {fs : List Value} {lf kf : Nat → Option Nat} (hq : QOK q) (hX : FX ow t σ n0 fs lf kf) (hk : ∀ d, d < qD q → kf (6 * d + qDk q d) = some (L d)) (hS : Fs (MSo ow n0 t (tlK t q) (qD q)) σ σ') (hN : NightAt ow t (tlK t q) σ' n0 qa fx q s' L) : FX ow t σ' n0 (nFs n0 qa (s' 400) (s' 401)) lf kf := by
  obtain ⟨h0, ⟨b1, b2, -⟩, ht, h2, hkp⟩ := hX
  obtain ⟨⟨g0, lf', kf', ⟨-, -, b3, b4, b5, b6⟩, -⟩, -, hL, -⟩ := hN
  have t1 := ht (n0 + 1) (by omega) (by omega)
  have t2 := ht (n0 + 2) (by omega) (by omega)
  have off : ∀ b, ow b = t → (b = n0 + 1 ∨ b = n0 + 2) → gC σ' b = gC σ b := fun b hb hc => hS.2.2.1 b (fun z => by
    rcases z with z | z | ⟨d, hd, z⟩
    · omega
    · omega
    · unfold tlK at z; omega)
  refine ⟨g0, ⟨(off _ t1 (Or.inl rfl)).trans b1, (off _ t2 (Or.inr rfl)).trans b2, b3, b4, b5, b6⟩, ht, h2, fun i hi => ?_⟩
  rcases hkp i hi with h | ⟨l, h3, ⟨r, h4⟩, h5⟩
  · exact Or.inl h
  · refine Or.inr ⟨l, h3, ?_, h5⟩
    rcases Classical.em (∃ d, d < qD q ∧ i = 6 * d + qDk q d) with ⟨d, hd, hi'⟩ | hno
    · have hl := hk d hd
      rw [← hi', h3] at hl
      cases hl
      have hk5 := (hq.2.2.2.1 d hd).1
      rw [show i % 6 = qDk q d by omega]
      exact ⟨_, (hL d hd).1⟩
    · refine ⟨r, h4.kT (fun b hb => hS.2.2.1 b (fun z => ?_))⟩
      have tb := h5 b hb
      rcases z with z | z | ⟨d, hd, z⟩
      · omega
      · omega
      · unfold tlK at z
        exact hno ⟨d, hd, by omega⟩
theorem fr_TS {f0 b : Nat} (hb : b = fx ∨ b = f0 + 3) (ofx : ow fx = 1) (t3 : ow (f0 + 3) = t) {n : Nat} : MSo ow f0 t tl n b := by
  rcases hb with z | z
  · rw [z]; exact Or.inl ofx
  · rw [z]; exact Or.inr (Or.inl ⟨t3, by omega, by omega⟩)
/-- what the night behind a history leaves of the rest -/
abbrev Lf8 (σ σ' : CM) (ow ow' : Nat → Nat) (t : Nat) (tl : Nat → Nat) (n0 qa fx : Nat) (q : QT) (s L : Nat → Nat) (m0 m1 : Nat) : Prop := (∀ b, b < σ.1 → ow' b = ow b) ∧ (∃ c m, Fr (fun b => (8 ≤ ow b ∧ ow b ≤ 38) ∨ b = fx) c m σ σ') ∧ NightAt ow' t tl σ' n0 qa fx q s L ∧ σ'.1 + 3 * m1 ≤ σ.1 + 3 * m0 ∧ σ'.2.1 + 49 * m1 ≤ σ.2.1 + 49 * m0
/-- begun anew -/
theorem c_ft_beg {f0 m0 : Nat} (hq : QOK q) (hK : TQ q) (hw : HW σ) (hN : NightAt ow t tl σ n0 qa fx q s L) (hX : FtA ow σ f0 m0) (h40 : 39 < t ∧ ∀ d, d < qD q → 39 < tl d) (hP : ∀ σ' ow' L' m1, Lf8 σ σ' ow ow' t tl n0 qa fx q s L m0 m1 → Bgn ow 8 σ σ' ow' f0 qa fx q L' m0 → P (.inl (some (.ref f0)), σ')) : EC zs (Jc zs) (e + 5) cX3_begins (some (.object "KnowLocks$Night")) 2 0 0 [some (.ref f0), some (.ref qa), none] [] σ P := by
  obtain ⟨v0, v1, v2, lf, kf, hX, hm⟩ := hX
  subst hm
  refine c_begins (e := e) hq hK rfl hX hN.2.1 hw (fun σ' ow' L' hB => ?_)
  obtain ⟨eo, F, a1, lf1, kf1, a2, a3, a4, a5⟩ := id hB
  refine hP σ' ow' L' (muN kf1 30) ⟨eo, ⟨15, 245, F.sub (fun b _ z => Or.inl ⟨z.1, by have := z.2; omega⟩) (Nat.le_refl _) (Nat.le_refl _)⟩, (hN.own hw eo).fr hw F (fun b hb z => ?_), a4, a5⟩ hB
  have z1 := z.1
  have z2 := z.2
  rw [eo b hb]
  exact ⟨by omega, by omega, by omega, fun d hd => by have := h40.2 d hd; omega⟩
/-- the night as a door would be of another kind -/
theorem ft_turn {σ1 σ2 : CM} {ow1 ow2 L1 : Nat → Nat} {f0 d kd nr l : Nat} {lf kf : Nat → Option Nat} (hq : QOK q) (hw : HW σ1) (hd : d < qD q) (hkd : kd ≤ 5) (hnr : nr ≤ 99) (N1 : NightAt ow1 8 (tlK 8 q) σ1 f0 qa fx q (fhS q) L1) (X1 : FX ow1 8 σ1 f0 (nFs f0 qa 0 0) lf kf) (hk : ∀ d', d' < qD q → kf (6 * d' + qDk q d') = some (L1 d')) (T : Trn ow1 8 σ1 σ2 ow2 f0 (nFs f0 qa 0 0) lf kf d kd nr l) : ∃ L2 lf2 kf2, NightAt ow2 8 (tlK 8 (qFit q d kd nr)) σ2 f0 qa fx (qFit q d kd nr) (fhS (qFit q d kd nr)) L2 ∧ FX ow2 8 σ2 f0 (nFs f0 qa 0 0) lf2 kf2 ∧ (∀ d', d' < qD q → kf2 (6 * d' + qDk (qFit q d kd nr) d') = some (L2 d')) ∧ σ2.1 + 3 * muN kf2 30 ≤ σ1.1 + 3 * muN kf 30 ∧ σ2.2.1 + 49 * muN kf2 30 ≤ σ1.2.1 + 49 * muN kf 30 := by
  have hq2 := qFit_OK (d := d) hq hkd hnr
  have hD := hq.1.2.1
  obtain ⟨eo, F, hL, tg, gr, kf', X2, k1, k2⟩ := T
  have hmu : σ2.1 + 3 * muN kf' 30 ≤ σ1.1 + 3 * muN kf 30 ∧ σ2.2.1 + 49 * muN kf' 30 ≤ σ1.2.1 + 49 * muN kf 30 := by
    have g1 := F.1.2
    have g2 := F.2.1.2
    by_cases hnn : kf (6 * d + kd) = none
    · have := muN_d hnn (by rw [k1]; exact (by simp)) k2 (n := 30) (by omega)
      omega
    · rcases gr with z | ⟨z1, z2⟩
      · exact absurd z hnn
      · have : muN kf' 30 = muN kf 30 := muN_e (fun i _ => by
          by_cases hi : i = 6 * d + kd
          · rw [hi, k1]; exact ⟨fun z => (by cases z), fun z => absurd z hnn⟩
          · rw [k2 i hi])
        rw [this, z1, z2]
        exact ⟨Nat.le_refl _, Nat.le_refl _⟩
  obtain ⟨⟨g0, lfa, kfa, ⟨a1, -⟩, hlfa⟩, hQ, hLs, hT, ht, hlt⟩ := N1
  obtain ⟨x0, ⟨c1, -⟩, -⟩ := X1
  have elf : lfa = lf := by rw [a1] at c1; cases c1; rfl
  subst elf
  have ekd : ∀ d', qDk (qFit q d kd nr) d' = if d' = d then kd else qDk q d' := fun d' => by
    show (if 5 = 5 ∧ d' = d then kd else if 5 = 6 ∧ d' = d then nr else q.2.1 5 d') = _
    by_cases h : d' = d
    · rw [if_pos ⟨rfl, h⟩, if_pos h]
    · rw [if_neg (fun z => h z.2), if_neg (fun z => h z.2), if_neg h]
      rfl
  have enr : qNr (qFit q d kd nr) d = nr := by
    show (if 6 = 5 ∧ d = d then kd else if 6 = 6 ∧ d = d then nr else q.2.1 6 d) = _
    rw [if_neg (by omega), if_pos ⟨rfl, rfl⟩]
  have enr' : ∀ d', d' ≠ d → qNr (qFit q d kd nr) d' = qNr q d' := fun d' h => by
    show (if 6 = 5 ∧ d' = d then kd else if 6 = 6 ∧ d' = d then nr else q.2.1 6 d') = _
    rw [if_neg (fun z => h z.2), if_neg (fun z => h z.2)]
    rfl
  obtain ⟨L2, eL⟩ : ∃ f : Nat → Nat, ∀ d', f d' = if d' = d then l else L1 d' := ⟨fun d' => if d' = d then l else L1 d', fun _ => rfl⟩
  refine ⟨L2, va_up lfa d (some l), kf', ⟨⟨?_, va_up lfa d (some l), kf', X2.2.1, fun d' hd' => ?_⟩, ?_, fun d' hd' => ?_, tlK_ok (by omega) (fun d' hd' => (hq2.2.2.2.1 d' hd').1), X2.2.2.1, fun d' hd' b hb => ?_⟩, X2, fun d' hd' => ?_, hmu⟩
  · rw [fh_hd hq2.1.2.1 (by omega), fh_hd hq2.1.2.1 (by omega)]; exact X2.1
  · by_cases h : d' = d
    · rw [eL, if_pos h, h]; exact if_pos rfl
    · rw [eL, if_neg h]; exact (if_neg h).trans (hlfa d' hd')
  · exact ((hQ.own hw eo).fr hw F (fun b hb z => by rw [eo b hb]; omega)).fit
  · by_cases h : d' = d
    · subst h
      rw [eL, if_pos rfl, fh_row hd', enr, ekd, if_pos rfl]
      exact ⟨hL, frS_NV⟩
    · have h1 := hLs d' hd'
      rw [fh_row (q := q) hd'] at h1
      rw [eL, if_neg h, fh_row hd', enr' d' h, ekd, if_neg h]
      refine ⟨h1.1.kT (fun b hb => F.2.2.1 b (h1.1.ltT hw hb) (fun z => ?_)), frS_NV⟩
      have := hlt d' hd' b hb
      have := (hq.2.2.2.1 d' hd').1
      unfold tlK at *
      omega
  · unfold tlK
    rw [ekd]
    by_cases h : d' = d
    · rw [ekd, if_pos h, eL, if_pos h] at hb
      rw [if_pos h, h]
      exact tg b hb
    · rw [ekd, if_neg h, eL, if_neg h] at hb
      rw [if_neg h]
      have h1 := hLs d' hd'
      rw [eo b (h1.1.ltT hw hb)]
      exact hlt d' hd' b hb
  · rw [ekd]
    by_cases h : d' = d
    · rw [eL, if_pos h, if_pos h, h]; exact k1
    · rw [eL, if_neg h, if_neg h, k2 _ (by have := (hq.2.2.2.1 d' hd').1; omega)]
      exact hk d' hd'
end
