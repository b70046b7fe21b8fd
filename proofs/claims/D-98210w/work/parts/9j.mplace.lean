set_option maxRecDepth 100000
/-! THE MODEL: quarters and histories at places -/
def LwM (M : MM) (r ln n : Nat) (ix : Nat → Nat) (o : Option Law) : Prop := match o with
  | none => rI M 13 (2 * r + ln) = rI M 14 (2 * r + ln)
  | some F => ∃ a cs, 0 < cs.length ∧ a + cs.length ≤ 1000 ∧ rI M 13 (2 * r + ln) = nI (1000 * r + a) ∧ rI M 14 (2 * r + ln) = nI (1000 * r + (a + cs.length)) ∧ (∀ i, i < cs.length → rI M 15 (1000 * r + (a + i)) = nI (cs.getD i 0)) ∧ CdOK n ix cs F
def SR (M : MM) (k a n : Nat) (s : Nat → Nat) : Prop := ∀ j, j < n → rI M k (a + j) = nI (s j)
def LgR (M : MM) (k a n : Nat) (s : Nat → Int64) : Prop := ∀ j, j < n → rL M k (a + j) = s j
/-- the six numbers of a quarter -/
def qSix (q : QT) (j : Nat) : Int32 := if j = 0 then nI (qH q) else if j = 1 then nI (qD q) else if j = 2 then nI (qS q) else if j = 3 then nI (qG q) else if j = 4 then (if qX q = 1 then nI (qFr q) else -1) else (if qX q = 1 then nI (qTo q) else -1)
def QR (M : MM) (r : Nat) (q : QT) : Prop := QOK q ∧ (∀ j, j < 6 → rI M 2 (6 * r + j) = qSix q j) ∧
  (SR M 5 (28 * r) (4 * qH q) (qM q) ∧ SR M 6 (7 * r) (qH q) (qK q) ∧ SR M 7 (7 * r) (qH q) (qSl q) ∧ SR M 8 (7 * r) (qH q) (qTr q)) ∧
  (SR M 9 (5 * r) (qD q) (qDk q) ∧ SR M 10 (5 * r) (qD q) (qNr q)) ∧ (SR M 11 (10 * r) (qS q) (qA q) ∧ SR M 12 (10 * r) (qS q) (qB q)) ∧
  (LgR M 3 (7 * r) (qH q) (qN q) ∧ LgR M 4 (5 * r) (qD q) (qDn q)) ∧ (LwM M r 0 6 ixL (qL q) ∧ LwM M r 1 4 ixE (qE q))
/-- place t of one memory is place f of another -/
def PlS (M : MM) (f : Nat) (M' : MM) (t : Nat) : Prop := (∀ j, j < 6 → rI M' 2 (6 * t + j) = rI M 2 (6 * f + j)) ∧
  ((∀ j, j < 28 → rI M' 5 (28 * t + j) = rI M 5 (28 * f + j)) ∧ (∀ j, j < 7 → rI M' 6 (7 * t + j) = rI M 6 (7 * f + j)) ∧ (∀ j, j < 7 → rI M' 7 (7 * t + j) = rI M 7 (7 * f + j)) ∧ (∀ j, j < 7 → rI M' 8 (7 * t + j) = rI M 8 (7 * f + j))) ∧
  ((∀ j, j < 5 → rI M' 9 (5 * t + j) = rI M 9 (5 * f + j)) ∧ (∀ j, j < 5 → rI M' 10 (5 * t + j) = rI M 10 (5 * f + j))) ∧
  ((∀ j, j < 10 → rI M' 11 (10 * t + j) = rI M 11 (10 * f + j)) ∧ (∀ j, j < 10 → rI M' 12 (10 * t + j) = rI M 12 (10 * f + j))) ∧
  ((∀ j, j < 7 → rL M' 3 (7 * t + j) = rL M 3 (7 * f + j)) ∧ (∀ j, j < 5 → rL M' 4 (5 * t + j) = rL M 4 (5 * f + j))) ∧
  (∀ j, j < 1000 → rI M' 15 (1000 * t + j) = rI M 15 (1000 * f + j)) ∧
  ((∀ j, j < 2 → rI M' 13 (2 * t + j) = rI M 13 (2 * f + j) + nI 1000 * (nI t - nI f)) ∧ (∀ j, j < 2 → rI M' 14 (2 * t + j) = rI M 14 (2 * f + j) + nI 1000 * (nI t - nI f)))
theorem nI_sh {f t a : Nat} : nI (1000 * f + a) + nI 1000 * (nI t - nI f) = nI (1000 * t + a) := by
  rw [← nI_add, ← nI_add, ← nI_mul, ← nI_mul, Int32.mul_sub, Int32.add_comm (nI 1000 * nI f) (nI a), Int32.add_assoc, Int32.add_comm (nI 1000 * nI t) (nI a)]
  refine congrArg (nI a + ·) ?_
  rw [Int32.add_comm, Int32.sub_add_cancel]
theorem nI_sh0 {x : Int32} {f : Nat} : x + nI 1000 * (nI f - nI f) = x := by rw [Int32.sub_self, Int32.mul_zero, Int32.add_zero]
theorem SR.c {M M' : MM} {k a a' n m : Nat} {s : Nat → Nat} (h : SR M k a n s) (hn : n ≤ m) (e : ∀ j, j < m → rI M' k (a' + j) = rI M k (a + j)) : SR M' k a' n s := fun j hj => (e j (by omega)).trans (h j hj)
theorem LgR.c {M M' : MM} {k a a' n m : Nat} {s : Nat → Int64} (h : LgR M k a n s) (hn : n ≤ m) (e : ∀ j, j < m → rL M' k (a' + j) = rL M k (a + j)) : LgR M' k a' n s := fun j hj => (e j (by omega)).trans (h j hj)
theorem LwM.c {M M' : MM} {f t ln n : Nat} {ix : Nat → Nat} {o : Option Law} (hl : ln < 2) (h : LwM M f ln n ix o) (h15 : ∀ j, j < 1000 → rI M' 15 (1000 * t + j) = rI M 15 (1000 * f + j)) (h13 : ∀ j, j < 2 → rI M' 13 (2 * t + j) = rI M 13 (2 * f + j) + nI 1000 * (nI t - nI f)) (h14 : ∀ j, j < 2 → rI M' 14 (2 * t + j) = rI M 14 (2 * f + j) + nI 1000 * (nI t - nI f)) : LwM M' t ln n ix o := by
  cases o with
  | none =>
    show rI M' 13 (2 * t + ln) = rI M' 14 (2 * t + ln)
    rw [h13 ln hl, h14 ln hl, show rI M 13 (2 * f + ln) = rI M 14 (2 * f + ln) from h]
  | some F =>
    obtain ⟨a, cs, h0, h1, h2, h3, h4, h5⟩ := h
    exact ⟨a, cs, h0, h1, by rw [h13 ln hl, h2, nI_sh], by rw [h14 ln hl, h3, nI_sh], fun i hi => (h15 (a + i) (by omega)).trans (h4 i hi), h5⟩
theorem QR.c {M M' : MM} {f t : Nat} {q : QT} (h : QR M f q) (p : PlS M f M' t) : QR M' t q := by
  obtain ⟨o, s0, ⟨a1, a2, a3, a4⟩, ⟨b1, b2⟩, ⟨c1, c2⟩, ⟨d1, d2⟩, e1, e2⟩ := h
  obtain ⟨p0, ⟨p1, p2, p3, p4⟩, ⟨p5, p6⟩, ⟨p7, p8⟩, ⟨p9, p10⟩, p11, p12, p13⟩ := p
  have o7 := o.1.1
  have o5 := o.1.2.1
  have o10 := o.1.2.2.1
  exact ⟨o, fun j hj => (p0 j hj).trans (s0 j hj), ⟨a1.c (by omega) p1, a2.c o7 p2, a3.c o7 p3, a4.c o7 p4⟩, ⟨b1.c o5 p5, b2.c o5 p6⟩, ⟨c1.c o10 p7, c2.c o10 p8⟩, ⟨d1.c o7 p9, d2.c o5 p10⟩, e1.c (by omega) p11 p12 p13, e2.c (by omega) p11 p12 p13⟩
