set_option maxRecDepth 100000
/-! THE MODEL: feeding, reading, marks, on all that it holds -/
section
variable {mb e : Nat} {M M' : MM} {P : MR → Prop} {B : Nat} {a : Ab}
theorem mi_feed {y b c : Int64} (hI : MIa M a) (hA : AOK B a) (hP : ∀ M', MIa M' ((a.q, a.s, a.Li), (a.n, a.u), a.mk, spFeed y b c a.T) → P (some (.int (nI (spFeed y b c a.T).1)), M')) : EM mb e cX19_feed (some .int) 0 [some (.ref mb), some (.long y), none, some (.long b), none, some (.long c), none, none, none, none, none] [] M P := m_feed hA.2.2.2.1 hI.2.2.2 (fun M' K t => hP M' (by
  obtain ⟨⟨h1, h2, h3⟩, h4, h5, h6⟩ := hI
  have e0 : ∀ k, k ≠ 0 → k ≠ 1 → rI M' k = rI M k := fun k h0 h1 => K.1 k h0 (by
    cases hc : [1].contains k with
    | false => rfl
    | true => exact absurd (by simpa using hc) h1)
  generalize spFeed y b c a.T = T' at t ⊢
  exact ⟨⟨h1.c (PlS.rf (fun k x y => e0 k (by omega) (by omega)) K.L.2.2), h2.k (e0 32 (by omega) (by omega)), h3.c (PhS.rf (fun k x y => e0 k (by omega) (by omega)))⟩, ⟨(K.2.1 48 rfl).trans h4.1, h4.2.1, fun i hi => (h4.2.2 i hi).r (e0 35 (by omega) (by omega))⟩, h5.k (fun k x y => e0 k (by omega) (by omega)) (e0 34 (by omega) (by omega)) (e0 46 (by omega) (by omega)) K.L.2.2, t⟩))
theorem mi_mark_no {v : Int32} {b : Bool} (hI : MIa M a) (hv : mkV a.mk v b = false) (hP : ∀ M', MIa M' a → P (some (.int (nI 0)), M')) : EM mb (e + 2) cX19_mark (some .boolean) 0 [some (.ref mb), some (.int v), some (.int (bI b))] [] M P := m_mark_no hI hv (fun M' h => hP M' h)
theorem mi_mark_st {k : Nat} (hk : k < 4) (hI : MIa M a) (hP : ∀ M', MIa M' ((a.q, a.s, a.Li), (a.n, a.u), mkU a.mk k (a.q, a.s, a.Li), a.T) → P (some (.int (nI 1)), M')) : EM mb (e + 2) cX19_mark (some .boolean) 0 [some (.ref mb), some (.int (nI k)), some (.int (bI false))] [] M P := m_mark_st hk hI (fun M' h => hP M' h)
theorem mi_mark_bk {k : Nat} {qm : QT} {sm : Nat → Nat} {Lm : List It} (hk : k < 4) (hI : MIa M a) (he : a.mk k = some (qm, sm, Lm)) (hP : ∀ M', MIa M' ((qm, sm, Lm), (0, a.u), a.mk, a.T) → P (some (.int (nI 1)), M')) : EM mb (e + 2) cX19_mark (some .boolean) 0 [some (.ref mb), some (.int (nI k)), some (.int (bI true))] [] M P := m_mark_bk hk hI he (fun M' h => hP M' h)
theorem mi_quarter (hI : MIa M a) (hA : AOK B a) (hk : ∀ q', pQr (tls a.T.2 a.T.1 0) = .ok q' → QOK q' → ∀ M', MIa M' ((q', fhS q', []), (0, a.u), a.mk, (0, a.T.2)) → P (some (.int (nI 0)), M')) (he : ∀ k, pQr (tls a.T.2 a.T.1 0) = .error k → ∀ M', MIa M' ((a.q, a.s, a.Li), (a.n, a.u), a.mk, (0, a.T.2)) → P (some (.int (nI k)), M')) : EM mb (e + 6) cX19_quarter (some .int) 0 [some (.ref mb), none] [] M P := m_quarter hI hA.2.2.2.1 (fun q' M' h1 h2 h3 => hk q' h1 h2 M' h3) (fun k M' h1 h2 => he k h1 M' h2)
theorem mi_history (hI : MIa M a) (hA : AOK B a) (hk : ∀ L', pHis a.q (tls a.T.2 a.T.1 0).length [] (tls a.T.2 a.T.1 0) = .ok L' → HOK a.q L' → ∀ M', MIa M' ((a.q, a.s, L'), (a.n, a.u), a.mk, (0, a.T.2)) → P (some (.int (nI 0)), M')) (he : ∀ k, pHis a.q (tls a.T.2 a.T.1 0).length [] (tls a.T.2 a.T.1 0) = .error k → ∀ M', MIa M' ((a.q, a.s, a.Li), (a.n, a.u), a.mk, (0, a.T.2)) → P (some (.int (nI k)), M')) : EM mb (e + 5) cX19_history (some .int) 0 [some (.ref mb)] [] M P := m_history hI hA.2.2.2.1 (fun L' M' h1 h2 h3 => hk L' h1 h2 M' h3) (fun k M' h1 h2 => he k h1 M' h2)
/-- what a quarter's reading gives obeys its bounds: the Model's own run shows it -/
theorem pQr_ok {q' : QT} (hI : MIa M a) (hA : AOK B a) (h : pQr (tls a.T.2 a.T.1 0) = .ok q') : QOK q' := by
  have key : EM 0 (0 + 6) cX19_quarter (some .int) 0 [some (.ref 0), none] [] M (fun _ => QOK q') := mi_quarter hI hA (fun q2 h2 hq _ _ => by rw [h2] at h; cases h; exact hq) (fun k hk _ _ => by rw [hk] at h; cases h)
  obtain ⟨r, -, hr⟩ := key
  exact hr
theorem pHis_ok {L' : List It} (hI : MIa M a) (hA : AOK B a) (h : pHis a.q (tls a.T.2 a.T.1 0).length [] (tls a.T.2 a.T.1 0) = .ok L') : HOK a.q L' := by
  have key : EM 0 (0 + 5) cX19_history (some .int) 0 [some (.ref 0)] [] M (fun _ => HOK a.q L') := mi_history hI hA (fun q2 h2 hq _ _ => by rw [h2] at h; cases h; exact hq) (fun k hk _ _ => by rw [hk] at h; cases h)
  obtain ⟨r, -, hr⟩ := key
  exact hr
end
