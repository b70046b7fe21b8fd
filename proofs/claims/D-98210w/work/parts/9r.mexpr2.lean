set_option maxRecDepth 100000
/-! THE MODEL reads expressions: terms, sums, tests, all -/
def CdM (M : MM) (c : Nat) (cs : List Nat) : Prop := ∀ i, i < cs.length → rI M 15 (c + i) = nI (cs.getD i 0)
theorem getD_l {xs ys : List Nat} {i : Nat} (h : i < xs.length) : (xs ++ ys).getD i 0 = xs.getD i 0 := by
  rw [List.getD_eq_getElem?_getD, List.getD_eq_getElem?_getD, List.getElem?_append_left h]
theorem getD_r {xs ys : List Nat} {i : Nat} : (xs ++ ys).getD (xs.length + i) 0 = ys.getD i 0 := by
  rw [List.getD_eq_getElem?_getD, List.getD_eq_getElem?_getD, List.getElem?_append_right (Nat.le_add_right _ _), Nat.add_sub_cancel_left]
theorem CdM.app {M : MM} {c v : Nat} {xs ys : List Nat} (h : CdM M c xs) (hv : rI M 15 (c + xs.length) = nI v) (hy : CdM M (c + xs.length + 1) ys) : CdM M c (xs ++ v :: ys) := by
  intro i hi
  rw [List.length_append] at hi
  have hc : (v :: ys).length = ys.length + 1 := rfl
  by_cases h1 : i < xs.length
  · rw [getD_l h1]; exact h i h1
  · obtain ⟨j, rfl⟩ : ∃ j, i = xs.length + j := ⟨i - xs.length, by omega⟩
    rw [getD_r]
    cases j with
    | zero => exact hv
    | succ j =>
      have := hy j (by omega)
      rw [show c + (xs.length + (j + 1)) = c + xs.length + 1 + j by omega, this]
      rfl
theorem CdM.k {M M' : MM} {c c1 d dc : Nat} {cs : List Nat} (h : CdM M c cs) (K : KX c1 d dc M M') (hc : c + cs.length ≤ c1) : CdM M' c cs := fun i hi => (K.2.1 _ (by omega)).trans (h i hi)
theorem CdM.one {M : MM} {c v : Nat} (h : rI M 15 c = nI v) : CdM M c [v] := fun i hi => by
  have : i = 0 := by have : ([v] : List Nat).length = 1 := rfl; omega
  subst this
  exact h
theorem OpM.k {M M' : MM} {c d d1 dc : Nat} {o : Nat → Nat} (h : OpM M d o) (K : KX c d1 dc M M') (hd : d ≤ d1) : OpM M' d o := fun i a b => by
  rw [K.2.2.1 i (by omega)]
  exact h i a b
/-- from a state that wants a part, a parser is what the Model does -/
def ROK (mb e : Nat) (T : Nat → Nat) (n : Nat) (fl : Bool) (o : Nat → Nat) (d d' dc : Nat) (pre : MM → Prop) (post : MM → List Tk → Prop) (pr : List Tk → PEx) : Prop :=
  ∀ (M : MM) (P : MR → Prop) (ts : List Tk) (c : Nat) (x3 x4 x5 : Option Value), ES M T n fl ts c → OpM M d o → pre M →
  (∀ k M', pr ts = .error k → KX c d dc M M' → rI M' 0 9 = nI k → P (some (.int (nI 0)), M')) →
  (∀ x t M', pr ts = .ok (x, t) → KX c d dc M M' → ES M' T n fl t (c + x.2.length) → CdM M' c x.2 → t.length < ts.length → post M' t → ∀ x3 x4 x5, EM mb (e + 2) cX19_reads (some .boolean) 11 [some (.ref mb), some (.int (nI d')), some (.int (nI 0)), x3, x4, x5] [] M' P) →
  EM mb (e + 2) cX19_reads (some .boolean) 11 [some (.ref mb), some (.int (nI d)), some (.int (nI 1)), x3, x4, x5] [] M P
section
variable {mb e : Nat} {T : Nat → Nat} {n : Nat} {fl : Bool} {o : Nat → Nat} {d dc di : Nat} {pre : MM → Prop} {post postL : MM → List Tk → Prop}
/-- a loop: op, inner, op, inner .. -/
theorem r_loop {inner : List Tk → PEx} {lp : Nat → Ex → List Tk → PEx} {cond : List Tk → Bool} {comb : List Tk → Ex → Ex → Ex} {vv : List Tk → Nat} (hdc : dc ≤ di)
    (hlp : ∀ f x ts, lp (f + 1) x ts = if cond ts = true then (match inner ts.tail with
      | .error k => .error k
      | .ok (y, t) => lp f (comb ts x y) t) else .ok (x, ts))
    (hcomb : ∀ ts x y, (comb ts x y).2 = x.2 ++ vv ts :: y.2)
    (hpost : ∀ M ts, post M ts → cond ts = false → postL M ts)
    (hstep : ∀ (M : MM) (P : MR → Prop) (ts : List Tk) (c : Nat) (x3 x4 x5 : Option Value), ES M T n fl ts c → cond ts = true → post M ts → (∀ M', KX c d dc M M' → ES M' T n fl ts.tail (c + 1) → rI M' 15 c = nI (vv ts) → pre M' → ∀ x3 x4 x5, EM mb (e + 2) cX19_reads (some .boolean) 11 [some (.ref mb), some (.int (nI d)), some (.int (nI 1)), x3, x4, x5] [] M' P) → EM mb (e + 2) cX19_reads (some .boolean) 11 [some (.ref mb), some (.int (nI d)), some (.int (nI 0)), x3, x4, x5] [] M P)
    (hin : ROK mb e T n fl o d d di pre post inner) {P : MR → Prop} {M0 : MM} {c0 N : Nat} (hOp : OpM M0 d o) :
    ∀ (f : Nat) (x : Ex) (ts : List Tk) (M : MM), ts.length ≤ f → ts.length < N → KX c0 d dc M0 M → ES M T n fl ts (c0 + x.2.length) → CdM M c0 x.2 → post M ts →
    (∀ k M', lp f x ts = .error k → KX c0 d dc M0 M' → rI M' 0 9 = nI k → P (some (.int (nI 0)), M')) →
    (∀ y t M', lp f x ts = .ok (y, t) → KX c0 d dc M0 M' → ES M' T n fl t (c0 + y.2.length) → CdM M' c0 y.2 → t.length < N → postL M' t → ∀ x3 x4 x5, EM mb (e + 2) cX19_reads (some .boolean) 11 [some (.ref mb), some (.int (nI d)), some (.int (nI 0)), x3, x4, x5] [] M' P) →
    ∀ x3 x4 x5, EM mb (e + 2) cX19_reads (some .boolean) 11 [some (.ref mb), some (.int (nI d)), some (.int (nI 0)), x3, x4, x5] [] M P
  | 0, x, ts, M, hf, hN, K, E, C, hp, he, hk, x3, x4, x5 => by
    have := E.1.len1
    omega
  | f + 1, x, ts, M, hf, hN, K, E, C, hp, he, hk, x3, x4, x5 => by
    rw [hlp] at he hk
    cases hc : cond ts with
    | false =>
      rw [hc] at he hk
      exact hk x ts M (by rw [if_neg (by decide)]) K E C hN (hpost M ts hp hc) x3 x4 x5
    | true =>
      rw [hc, if_pos rfl] at he hk
      refine hstep M P ts _ x3 x4 x5 E hc hp (fun M1 K1 E1 v1 p1 y3 y4 y5 => ?_)
      have K01 : KX c0 d dc M0 M1 := K.tr K1 (by omega) (Nat.le_refl _) (Nat.le_refl _)
      refine hin M1 P ts.tail _ y3 y4 y5 E1 (hOp.k K01 (Nat.le_refl _)) p1 (fun k M' hr K' h9 => he k M' (by rw [hr]) (K01.tr K' (by omega) (Nat.le_refl _) hdc) h9) (fun y t M2 hr K2 E2 C2 l2 p2 => ?_)
      have hcl : (comb ts x y).2.length = x.2.length + 1 + y.2.length := by rw [hcomb, List.length_append]; show x.2.length + (y.2.length + 1) = _; omega
      have hl : ts.tail.length = ts.length - 1 := List.length_tail
      refine r_loop hdc hlp hcomb hpost hstep hin hOp f (comb ts x y) t M2 (by omega) (by omega) (K01.tr K2 (by omega) (Nat.le_refl _) hdc) ?_ ?_ p2 (fun k M' hr' => he k M' (by rw [hr]; exact hr')) (fun z t' M' hr' => hk z t' M' (by rw [hr]; exact hr'))
      · rw [hcl, show c0 + (x.2.length + 1 + y.2.length) = c0 + x.2.length + 1 + y.2.length by omega]
        exact E2
      · rw [hcomb]
        refine CdM.app ((C.k K1 (Nat.le_refl _)).k K2 (by omega)) ?_ C2
        rw [K2.2.1 _ (by omega)]
        exact v1
abbrev tt1 : MM → Prop := fun _ => True
abbrev pt0 : MM → List Tk → Prop := fun _ _ => True
abbrev ptT : MM → List Tk → Prop := fun _ t => isG 42 t = false
abbrev ptU : MM → List Tk → Prop := fun _ t => isG 42 t = false ∧ isG 43 t = false ∧ isG 45 t = false
abbrev preC (d : Nat) : MM → Prop := fun M => rI M 21 d = bI false
abbrev ptC (d : Nat) : MM → List Tk → Prop := fun M t => (isG 42 t = false ∧ isG 43 t = false ∧ isG 45 t = false) ∧ (isG 60 t = true ∨ isG 61 t = true → rI M 21 d = bI true)
abbrev ptA (d : Nat) : MM → List Tk → Prop := fun M t => ((isG 42 t = false ∧ isG 43 t = false ∧ isG 45 t = false) ∧ (isG 60 t = true ∨ isG 61 t = true → rI M 21 d = bI true)) ∧ isW 1111 t = false ∧ isW 423 t = false
theorem r_term {part : List Tk → PEx} (hd : d ≤ 5) (hO : TpO T n) (hp : ROK mb e T n fl o d d (d + 1) tt1 pt0 part) : ROK mb e T n fl o d d (d + 1) tt1 ptT (pTerm part) := by
  intro M P ts c x3 x4 x5 E hOp _ he hk
  unfold pTerm at he hk
  refine hp M P ts c x3 x4 x5 E hOp trivial (fun k M' hr K h9 => he k M' (by rw [hr]) K h9) (fun x t M' hr K E' C l _ => ?_)
  rw [hr] at he hk
  exact r_loop (di := d + 1) (cond := fun ts => isG 42 ts) (comb := fun _ x y => (fun φ => x.1 φ * y.1 φ, x.2 ++ 22 :: y.2)) (vv := fun _ => 22) (post := pt0) (postL := ptT) (pre := tt1) (Nat.le_refl _) (fun f x ts => rfl) (fun _ _ _ => rfl) (fun _ _ _ h => h) (fun M P ts c y3 y4 y5 E h _ hP => m_op1 hd hO E (Or.inr (Or.inr ⟨rfl, rfl⟩)) h (fun M' a b c => hP M' a b c trivial)) hp hOp t.length x t M' (Nat.le_refl _) l K E' C trivial he hk
theorem r_sum {part : List Tk → PEx} (hd : d ≤ 5) (hO : TpO T n) (hp : ROK mb e T n fl o d d (d + 1) tt1 pt0 part) : ROK mb e T n fl o d d (d + 1) tt1 ptU (pSum part) := by
  intro M P ts c x3 x4 x5 E hOp _ he hk
  unfold pSum at he hk
  have ht := r_term hd hO hp
  refine ht M P ts c x3 x4 x5 E hOp trivial (fun k M' hr K h9 => he k M' (by rw [hr]) K h9) (fun x t M' hr K E' C l pt => ?_)
  rw [hr] at he hk
  refine r_loop (lp := pSm part) (di := d + 1) (cond := fun ts => isG 43 ts || isG 45 ts) (comb := fun ts x y => if isG 43 ts = true then (fun φ => x.1 φ + y.1 φ, x.2 ++ 20 :: y.2) else (fun φ => x.1 φ - y.1 φ, x.2 ++ 21 :: y.2)) (vv := fun ts => if isG 43 ts = true then 20 else 21) (post := ptT) (postL := ptU) (pre := tt1) (Nat.le_refl _) (fun f x ts => ?_) (fun ts x y => ?_) (fun M ts h hc => ⟨h, (Bool.or_eq_false_iff.mp hc).1, (Bool.or_eq_false_iff.mp hc).2⟩) (fun M P ts c y3 y4 y5 E h _ hP => ?_) ht hOp t.length x t M' (Nat.le_refl _) l K E' C pt he hk
  · show (if isG 43 ts = true ∨ isG 45 ts = true then _ else _) = _
    by_cases hh : isG 43 ts = true ∨ isG 45 ts = true
    · rw [if_pos hh, if_pos (by rw [Bool.or_eq_true]; exact hh)]
      rfl
    · rw [if_neg hh, if_neg (by rw [Bool.or_eq_true]; exact hh)]
  · split <;> rfl
  · cases h43 : isG 43 ts with
    | true => exact m_op1 hd hO E (Or.inl ⟨rfl, rfl⟩) h43 (fun M' a b c => hP M' a b (by rw [h43]; exact c) trivial)
    | false =>
      rw [h43] at h
      exact m_op1 hd hO E (Or.inr (Or.inl ⟨rfl, rfl⟩)) h (fun M' a b c => hP M' a b (by rw [h43]; exact c) trivial)
theorem r_test {part : List Tk → PEx} (hd : d ≤ 5) (hO : TpO T n) (hp : ROK mb e T n fl o d d (d + 1) tt1 pt0 part) : ROK mb e T n fl o d d d (preC d) (ptC d) (pTest part) := by
  intro M P ts c x3 x4 x5 E hOp hcm he hk
  unfold pTest at he hk
  have hs := r_sum hd hO hp
  refine hs M P ts c x3 x4 x5 E hOp trivial (fun k M' hr K h9 => he k M' (by rw [hr]) (KX.rf.tr K (Nat.le_refl _) (Nat.le_refl _) (Nat.le_succ _)) h9) (fun x t M' hr K E' C l pt => ?_)
  rw [hr] at he hk
  dsimp only at he hk
  have Kd : KX c d d M M' := KX.rf.tr K (Nat.le_refl _) (Nat.le_refl _) (Nat.le_succ _)
  have cm' : rI M' 21 d = bI false := (K.2.2.2 d (Nat.lt_succ_self _)).trans hcm
  by_cases hc : isG 60 t = true ∨ isG 61 t = true
  · rw [if_pos hc] at he hk
    intro y3 y4 y5
    have go : ∀ v, (if isG 60 t = true then 24 else 25) = v → ∀ M1, KX (c + x.2.length) d d M' M1 → ES M1 T n fl t.tail (c + x.2.length + 1) → rI M1 15 (c + x.2.length) = nI v → rI M1 21 d = bI true → ∀ x3 x4 x5, EM mb (e + 2) cX19_reads (some .boolean) 11 [some (.ref mb), some (.int (nI d)), some (.int (nI 1)), x3, x4, x5] [] M1 P := by
      intro v hv M1 K1 E1 v1 c1 z3 z4 z5
      have K01 : KX c d d M M1 := Kd.tr K1 (by omega) (Nat.le_refl _) (Nat.le_refl _)
      refine hs M1 P t.tail _ z3 z4 z5 E1 (hOp.k K01 (Nat.le_refl _)) trivial (fun k M2 hr2 K2 h9 => he k M2 (by rw [hr2]) (K01.tr K2 (by omega) (Nat.le_refl _) (Nat.le_succ _)) h9) (fun y t' M2 hr2 K2 E2 C2 l2 p2 => ?_)
      rw [hr2] at hk
      have hl : t.tail.length = t.length - 1 := List.length_tail
      have hcl : ∀ (F G : Law), (if isG 60 t = true then ((F, x.2 ++ 24 :: y.2) : Ex) else (G, x.2 ++ 25 :: y.2)).2 = x.2 ++ v :: y.2 := by
        intro F G
        by_cases h60 : isG 60 t = true
        · rw [if_pos h60] at hv ⊢; rw [← hv]
        · rw [if_neg h60] at hv ⊢; rw [← hv]
      refine hk _ t' M2 rfl (K01.tr K2 (by omega) (Nat.le_refl _) (Nat.le_succ _)) ?_ ?_ (by omega) ⟨p2, fun _ => (K2.2.2.2 d (Nat.lt_succ_self _)).trans c1⟩
      · rw [hcl, List.length_append, show c + (x.2.length + (v :: y.2).length) = c + x.2.length + 1 + y.2.length by show c + (x.2.length + (y.2.length + 1)) = _; omega]
        exact E2
      · rw [hcl]
        refine CdM.app ((C.k K1 (Nat.le_refl _)).k K2 (by omega)) ?_ C2
        rw [K2.2.1 _ (by omega)]
        exact v1
    cases h60 : isG 60 t with
    | true => exact m_op2 hd hO E' (Or.inl ⟨rfl, rfl⟩) h60 cm' (go 24 (if_pos h60))
    | false =>
      have h61 : isG 61 t = true := hc.resolve_left (by rw [h60]; decide)
      exact m_op2 hd hO E' (Or.inr ⟨rfl, rfl⟩) h61 cm' (go 25 (if_neg (by rw [h60]; decide)))
  · rw [if_neg hc] at he hk
    exact hk x t M' rfl Kd E' C l ⟨pt, fun z => absurd z hc⟩
theorem r_all {part : List Tk → PEx} (hd : d ≤ 5) (hO : TpO T n) (hp : ROK mb e T n fl o d d (d + 1) tt1 pt0 part) : ROK mb e T n fl o d d d (preC d) (ptA d) (pAll part) := by
  intro M P ts c x3 x4 x5 E hOp hcm he hk
  unfold pAll at he hk
  have ht := r_test hd hO hp
  refine ht M P ts c x3 x4 x5 E hOp hcm (fun k M' hr K h9 => he k M' (by rw [hr]) K h9) (fun x t M' hr K E' C l pt => ?_)
  rw [hr] at he hk
  refine r_loop (lp := pAl part) (di := d) (cond := fun ts => isW 1111 ts || isW 423 ts) (comb := fun ts x y => if isW 1111 ts = true then (fun φ => if x.1 φ ≠ 0 ∧ y.1 φ ≠ 0 then nI 1 else nI 0, x.2 ++ 26 :: y.2) else (fun φ => if x.1 φ ≠ 0 ∨ y.1 φ ≠ 0 then nI 1 else nI 0, x.2 ++ 27 :: y.2)) (vv := fun ts => if isW 1111 ts = true then 26 else 27) (post := ptC d) (postL := ptA d) (pre := preC d) (Nat.le_refl _) (fun f x ts => ?_) (fun ts x y => ?_) (fun M ts h hc => ⟨h, (Bool.or_eq_false_iff.mp hc).1, (Bool.or_eq_false_iff.mp hc).2⟩) (fun M P ts c y3 y4 y5 E h _ hP => ?_) ht hOp t.length x t M' (Nat.le_refl _) l K E' C pt he hk
  · show (if isW 1111 ts = true ∨ isW 423 ts = true then _ else _) = _
    by_cases hh : isW 1111 ts = true ∨ isW 423 ts = true
    · rw [if_pos hh, if_pos (by rw [Bool.or_eq_true]; exact hh)]
      rfl
    · rw [if_neg hh, if_neg (by rw [Bool.or_eq_true]; exact hh)]
  · split <;> rfl
  · cases h43 : isW 1111 ts with
    | true => exact m_op3 hd hO E (Or.inl ⟨rfl, rfl⟩) h43 (fun M' a b c g => hP M' a b (by rw [h43]; exact c) g)
    | false =>
      rw [h43] at h
      exact m_op3 hd hO E (Or.inr ⟨rfl, rfl⟩) h (fun M' a b c g => hP M' a b (by rw [h43]; exact c) g)
end
