set_option maxRecDepth 100000
/-! THE MODEL reads statements: doors -/
section
variable {mb e : Nat} {M : MM} {P : MR → Prop} {q : QT} {T : Nat → Nat} {n : Nat} {ts : List Tk} {g : Bool} {c : Nat}
theorem DS.w9 {k : Nat} {v : Int32} (D : DS M T n q g ts c) (hk : k = 9 ∨ k = 10) : DS (wI M k (5 + qD q) v) T n q g ts c := by
  obtain ⟨⟨o, s0, ⟨a1, a2, a3, a4⟩, ⟨b1, b2⟩, ⟨c1, c2⟩, ⟨d1, d2⟩, e1, e2⟩, b, d, f, l, lb⟩ := D
  have sb : ∀ {k' : Nat} {s : Nat → Nat}, SR M k' (5 * 1) (qD q) s → SR (wI M k (5 + qD q) v) k' (5 * 1) (qD q) s := by
    intro k' s h
    by_cases hh : k' = k
    · subst hh; exact h.b (by omega)
    · exact h.o hh
  exact ⟨⟨o, fun j hj => by rw [wI_off (by omega)]; exact s0 j hj, ⟨a1.o (by omega), a2.o (by omega), a3.o (by omega), a4.o (by omega)⟩, ⟨sb b1, sb b2⟩, ⟨c1.o (by omega), c2.o (by omega)⟩, ⟨d1.o, d2.o⟩, e1.o (by omega), e2.o (by omega)⟩, b.o (by omega), by rw [wI_off (by omega)]; exact d, by rw [wI_off (by omega)]; exact f, l, lb.o (by omega)⟩
theorem LwM.wl {k i r ln m : Nat} {v : Int64} {ix : Nat → Nat} {o : Option Law} (h : LwM M r ln m ix o) : LwM (wL M k i v) r ln m ix o := by
  cases o with
  | none => exact h
  | some F => exact h
theorem DS.w4 {v : Int64} (D : DS M T n q g ts c) : DS (wL M 4 (5 + qD q) v) T n q g ts c := by
  obtain ⟨⟨o, s0, A, Bq, C, ⟨d1, d2⟩, e1, e2⟩, b, d, f, l, lb⟩ := D
  exact ⟨⟨o, s0, A, Bq, C, ⟨d1.wo (Or.inl (by decide)), d2.wo (Or.inr (by omega))⟩, e1.wl, e2.wl⟩, b.k (fun _ _ _ => rfl) (by rw [wL_off (by decide)]) rfl, d, f, l, lb⟩
theorem QR.addD {kd nr : Nat} {nm : Int64} (h : QR M 1 q) (h1 : rL M 4 (5 + qD q) = nm) (h2 : rI M 9 (5 + qD q) = nI kd) (h3 : rI M 10 (5 + qD q) = nI nr) (hd : qD q < 5) (hkd : kd ≤ 5) (hnr : nr ≤ 99) : QR (wI M 2 7 (nI (qD q + 1))) 1 (qAD q nm kd nr) := by
  obtain ⟨o, s0, ⟨a1, a2, a3, a4⟩, ⟨b1, b2⟩, ⟨c1, c2⟩, ⟨d1, d2⟩, e1, e2⟩ := h
  obtain ⟨⟨o1, o2, o3, o4, o5⟩, og, oh, od, os⟩ := o
  have u : ∀ (f : Nat → Nat) (v : Nat), (∀ j, j < qD q → upN f (qD q) v j = f j) := fun f v j hj => upN_n (by omega)
  refine ⟨⟨⟨o1, hd, o3, o4, o5⟩, og, oh, fun d hd' => ?_, fun k hk => ?_⟩, fun j hj => ?_, ⟨a1.o (by decide), a2.o (by decide), a3.o (by decide), a4.o (by decide)⟩, ⟨fun j hj => ?_, fun j hj => ?_⟩, ⟨c1.o (by decide), c2.o (by decide)⟩, ⟨d1.o, fun j hj => ?_⟩, e1.o (by omega), e2.o (by omega)⟩
  · have hd2 : d < qD q + 1 := hd'
    show upN (qDk q) (qD q) kd d ≤ 5 ∧ upN (qNr q) (qD q) nr d ≤ 99
    by_cases hh : d = qD q
    · subst hh; rw [upN_s, upN_s]; exact ⟨hkd, hnr⟩
    · rw [upN_n hh, upN_n hh]; exact od d (by omega)
  · have := os k hk
    exact ⟨Nat.lt_succ_of_lt this.1, Nat.lt_succ_of_lt this.2.1, this.2.2⟩
  · by_cases hj1 : j = 1
    · subst hj1; exact rI_we
    · rw [rI_wn (by omega), s0 j hj]
      have hc : j = 0 ∨ j = 2 ∨ j = 3 ∨ j = 4 ∨ j = 5 := by omega
      rcases hc with rfl | rfl | rfl | rfl | rfl <;> rfl
  · have hj2 : j < qD q + 1 := hj
    show rI (wI M 2 7 _) 9 (5 * 1 + j) = nI (upN (qDk q) (qD q) kd j)
    rw [rI_wo' (by decide)]
    by_cases hh : j = qD q
    · subst hh; rw [upN_s]; exact h2
    · rw [upN_n hh]; exact b1 j (by omega)
  · have hj2 : j < qD q + 1 := hj
    show rI (wI M 2 7 _) 10 (5 * 1 + j) = nI (upN (qNr q) (qD q) nr j)
    rw [rI_wo' (by decide)]
    by_cases hh : j = qD q
    · subst hh; rw [upN_s]; exact h3
    · rw [upN_n hh]; exact b2 j (by omega)
  · have hj2 : j < qD q + 1 := hj
    show rL (wI M 2 7 _) 4 (5 * 1 + j) = if 1 = 1 ∧ j = qD q then nm else qDn q j
    rw [rLw]
    by_cases hh : j = qD q
    · rw [if_pos ⟨rfl, hh⟩, hh]; exact h1
    · rw [if_neg (fun z => hh z.2)]; exact d2 j (by omega)
end
