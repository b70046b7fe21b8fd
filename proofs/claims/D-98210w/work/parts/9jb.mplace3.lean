set_option maxRecDepth 100000
theorem PlS.rf {M M' : MM} {r : Nat} (h : ∀ k, 2 ≤ k → k ≤ 15 → rI M' k = rI M k) (hl : ∀ k, k ≠ 0 → rL M' k = rL M k) : PlS M r M' r := by
  refine ⟨?_, ⟨?_, ?_, ?_, ?_⟩, ⟨?_, ?_⟩, ⟨?_, ?_⟩, ⟨?_, ?_⟩, ?_, ?_, ?_⟩
  case refine_13 => intro j hj; rw [h 13 (by omega) (by omega), nI_sh0]
  case refine_14 => intro j hj; rw [h 14 (by omega) (by omega), nI_sh0]
  case refine_10 => intro j hj; rw [hl 3 (by omega)]
  case refine_11 => intro j hj; rw [hl 4 (by omega)]
  all_goals
    intro j hj
    rw [h _ (by omega) (by omega)]
theorem QR.six {M : MM} {r : Nat} {q : QT} (h : QR M r q) (j : Nat) (hj : j < 6) : rI M 2 (6 * r + j) = qSix q j := h.2.1 j hj
section
variable {mb e : Nat} {M : MM} {P : MR → Prop} {q : QT} {s : Nat → Nat} {B : Nat}
theorem LwM.law {ln n : Nat} {ix : Nat → Nat} {o : Option Law} (hl : ln < 2) (h : LwM M 0 ln n ix o) : LawM mb M ln n ix o := by
  cases o with
  | none =>
    have h' : rI M 13 (2 * 0 + ln) = rI M 14 (2 * 0 + ln) := h
    rw [show 2 * 0 + ln = ln by omega] at h'
    exact h'
  | some F =>
    obtain ⟨a, cs, h0, h1, h2, h3, h4, h5⟩ := h
    rw [show 2 * 0 + ln = ln by omega, show 1000 * 0 + a = a by omega] at h2
    rw [show 2 * 0 + ln = ln by omega, show 1000 * 0 + (a + cs.length) = a + cs.length by omega] at h3
    refine ⟨by rw [h2, h3]; exact nI_lt (by omega) (by omega), fun M' e P φ g13 g14 g15 hφ hP => ?_⟩
    refine m_worked (cs := cs) (k := a) hl (by rw [g13]; exact h2) (by rw [g14]; exact h3) (by omega) (fun i hi => ?_) h5 hφ hP
    rw [g15]
    have := h4 i hi
    rw [show 1000 * 0 + (a + i) = a + i by omega] at this
    exact this
theorem SR.z {k n x : Nat} (h : SR M k (x * 0) n s) : SM M k n s := fun j hj => by
  have := h j hj
  rw [show x * 0 + j = j by omega] at this
  exact this
theorem QR.qm (h : QR M 0 q) : QM mb M q := by
  obtain ⟨o, s0, ⟨a1, a2, a3, a4⟩, ⟨b1, b2⟩, ⟨c1, c2⟩, ⟨d1, d2⟩, e1, e2⟩ := h
  exact ⟨⟨s0 0 (by omega), s0 1 (by omega), s0 2 (by omega), s0 3 (by omega)⟩, ⟨s0 4 (by omega), s0 5 (by omega)⟩, ⟨a1.z, a2.z, a3.z, a4.z⟩, ⟨b1.z, b2.z⟩, ⟨c1.z, c2.z⟩, ⟨fun x hx => by have := d1 x hx; rw [show 7 * 0 + x = x by omega] at this; exact this, fun x hx => by have := d2 x hx; rw [show 5 * 0 + x = x by omega] at this; exact this⟩, e1.law (by omega), e2.law (by omega)⟩
end
