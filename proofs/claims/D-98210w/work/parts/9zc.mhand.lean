set_option maxRecDepth 100000
/-! THE MODEL reads statements: hands laid -/
section
variable {mb e : Nat} {M : MM} {P : MR → Prop} {q : QT} {T : Nat → Nat} {n : Nat} {ts : List Tk} {g : Bool} {c : Nat}
theorem DS.w6 {k : Nat} {v : Int32} (D : DS M T n q g ts c) (hk : k = 6 ∨ k = 7 ∨ k = 8) : DS (wI M k (7 + qH q) v) T n q g ts c := by
  obtain ⟨⟨o, s0, ⟨a1, a2, a3, a4⟩, ⟨b1, b2⟩, ⟨c1, c2⟩, ⟨d1, d2⟩, e1, e2⟩, b, d, f, l, lb⟩ := D
  have sb : ∀ {k' : Nat} {s : Nat → Nat}, SR M k' (7 * 1) (qH q) s → SR (wI M k (7 + qH q) v) k' (7 * 1) (qH q) s := by
    intro k' s h
    by_cases hh : k' = k
    · subst hh; exact h.b (by omega)
    · exact h.o hh
  exact ⟨⟨o, fun j hj => by rw [wI_off (by omega)]; exact s0 j hj, ⟨a1.o (by omega), sb a2, sb a3, sb a4⟩, ⟨b1.o (by omega), b2.o (by omega)⟩, ⟨c1.o (by omega), c2.o (by omega)⟩, ⟨d1.o, d2.o⟩, e1.o (by omega), e2.o (by omega)⟩, b.o (by omega), by rw [wI_off (by omega)]; exact d, by rw [wI_off (by omega)]; exact f, l, lb.o (by omega)⟩
theorem DS.w5 {i : Nat} {v : Int32} (D : DS M T n q g ts c) (hi : 28 + 4 * qH q ≤ i) : DS (wI M 5 i v) T n q g ts c := by
  obtain ⟨⟨o, s0, ⟨a1, a2, a3, a4⟩, ⟨b1, b2⟩, ⟨c1, c2⟩, ⟨d1, d2⟩, e1, e2⟩, b, d, f, l, lb⟩ := D
  exact ⟨⟨o, fun j hj => by rw [wI_off (by omega)]; exact s0 j hj, ⟨a1.b (by omega), a2.o (by omega), a3.o (by omega), a4.o (by omega)⟩, ⟨b1.o (by omega), b2.o (by omega)⟩, ⟨c1.o (by omega), c2.o (by omega)⟩, ⟨d1.o, d2.o⟩, e1.o (by omega), e2.o (by omega)⟩, b.o (by omega), by rw [wI_off (by omega)]; exact d, by rw [wI_off (by omega)]; exact f, l, lb.o (by omega)⟩
theorem DS.w3 {v : Int64} (D : DS M T n q g ts c) : DS (wL M 3 (7 + qH q) v) T n q g ts c := by
  obtain ⟨⟨o, s0, A, Bq, C, ⟨d1, d2⟩, e1, e2⟩, b, d, f, l, lb⟩ := D
  exact ⟨⟨o, s0, A, Bq, C, ⟨d1.wo (Or.inr (by omega)), d2.wo (Or.inl (by decide))⟩, e1.wl, e2.wl⟩, b.k (fun _ _ _ => rfl) (by rw [wL_off (by decide)]) rfl, d, f, l, lb⟩
theorem KQ.w6 {k i : Nat} {v : Int32} (hk : k = 6 ∨ k = 7 ∨ k = 8) (h1 : 7 ≤ i) (h2 : i < 14) : KQ M (wI M k i v) := ⟨fun k a b _ _ => wI_off (by omega), fun j _ => by rw [wI_off (by omega)], fun r hr => PlS.w (by omega)⟩
theorem KQ.w5 {i : Nat} {v : Int32} (h1 : 28 ≤ i) (h2 : i < 56) : KQ M (wI M 5 i v) := ⟨fun k a b _ _ => wI_off (by omega), fun j _ => by rw [wI_off (by omega)], fun r hr => PlS.w (by omega)⟩
theorem KQ.w3 {i : Nat} {v : Int64} (h1 : 7 ≤ i) (h2 : i < 14) : KQ M (wL M 3 i v) := ⟨fun k a b _ _ => rfl, fun j _ => rfl, fun r hr => PlS.wl (by omega)⟩
theorem QR.addH {kd sl tr : Nat} {nm : Int64} {m : Nat → Nat} (h : QR M 1 q) (h1 : rL M 3 (7 + qH q) = nm) (h2 : rI M 6 (7 + qH q) = nI kd) (h3 : rI M 7 (7 + qH q) = nI sl) (h4 : rI M 8 (7 + qH q) = nI tr) (h5 : ∀ k, k < 4 → rI M 5 (28 + 4 * qH q + k) = nI (m k) ∧ m k ≤ 9) (hd : qH q < 7) (hkd : kd ≤ 4) (hsl : sl ≤ 3) (htr : tr ≤ 9) : QR (wI M 2 6 (nI (qH q + 1))) 1 (qAH q nm kd m sl tr) := by
  obtain ⟨o, s0, ⟨a1, a2, a3, a4⟩, ⟨b1, b2⟩, ⟨c1, c2⟩, ⟨d1, d2⟩, e1, e2⟩ := h
  obtain ⟨⟨o1, o2, o3, o4, o5⟩, og, oh, od, os⟩ := o
  refine ⟨⟨⟨hd, o2, o3, o4, o5⟩, og, fun x hx => ?_, od, os⟩, fun j hj => ?_, ⟨fun j hj => ?_, fun j hj => ?_, fun j hj => ?_, fun j hj => ?_⟩, ⟨b1.o (by decide), b2.o (by decide)⟩, ⟨c1.o (by decide), c2.o (by decide)⟩, ⟨fun j hj => ?_, d2.o⟩, e1.o (by omega), e2.o (by omega)⟩
  · have hx2 : x < qH q + 1 := hx
    show upN (qK q) (qH q) kd x ≤ 4 ∧ upN (qSl q) (qH q) sl x ≤ 3 ∧ upN (qTr q) (qH q) tr x ≤ 9 ∧ ∀ k, k < 4 → (if 4 * qH q ≤ 4 * x + k then m (4 * x + k - 4 * qH q) else qM q (4 * x + k)) ≤ 9
    by_cases hh : x = qH q
    · subst hh
      rw [upN_s, upN_s, upN_s]
      refine ⟨hkd, hsl, htr, fun k hk => ?_⟩
      rw [if_pos (by omega), show 4 * qH q + k - 4 * qH q = k by omega]
      exact (h5 k hk).2
    · rw [upN_n hh, upN_n hh, upN_n hh]
      obtain ⟨p1, p2, p3, p4⟩ := oh x (by omega)
      refine ⟨p1, p2, p3, fun k hk => ?_⟩
      rw [if_neg (by omega)]
      exact p4 k hk
  · by_cases hj1 : j = 0
    · subst hj1; exact rI_we
    · rw [rI_wn (by omega), s0 j hj]
      have hc : j = 1 ∨ j = 2 ∨ j = 3 ∨ j = 4 ∨ j = 5 := by omega
      rcases hc with rfl | rfl | rfl | rfl | rfl <;> rfl
  · have hj2 : j < 4 * (qH q + 1) := hj
    show rI (wI M 2 6 _) 5 (28 * 1 + j) = nI (if 4 * qH q ≤ j then m (j - 4 * qH q) else qM q j)
    rw [rI_wo' (by decide)]
    by_cases hh : 4 * qH q ≤ j
    · rw [if_pos hh]
      have := (h5 (j - 4 * qH q) (by omega)).1
      rw [show 28 + 4 * qH q + (j - 4 * qH q) = 28 * 1 + j by omega] at this
      exact this
    · rw [if_neg hh]; exact a1 j (by omega)
  · have hj2 : j < qH q + 1 := hj
    show rI (wI M 2 6 _) 6 (7 * 1 + j) = nI (upN (qK q) (qH q) kd j)
    rw [rI_wo' (by decide)]
    by_cases hh : j = qH q
    · subst hh; rw [upN_s]; exact h2
    · rw [upN_n hh]; exact a2 j (by omega)
  · have hj2 : j < qH q + 1 := hj
    show rI (wI M 2 6 _) 7 (7 * 1 + j) = nI (upN (qSl q) (qH q) sl j)
    rw [rI_wo' (by decide)]
    by_cases hh : j = qH q
    · subst hh; rw [upN_s]; exact h3
    · rw [upN_n hh]; exact a3 j (by omega)
  · have hj2 : j < qH q + 1 := hj
    show rI (wI M 2 6 _) 8 (7 * 1 + j) = nI (upN (qTr q) (qH q) tr j)
    rw [rI_wo' (by decide)]
    by_cases hh : j = qH q
    · subst hh; rw [upN_s]; exact h4
    · rw [upN_n hh]; exact a4 j (by omega)
  · have hj2 : j < qH q + 1 := hj
    show rL (wI M 2 6 _) 3 (7 * 1 + j) = if 0 = 0 ∧ j = qH q then nm else qN q j
    rw [rLw]
    by_cases hh : j = qH q
    · rw [if_pos ⟨rfl, hh⟩, hh]; exact h1
    · rw [if_neg (fun z => hh z.2)]; exact d1 j (by omega)
end
