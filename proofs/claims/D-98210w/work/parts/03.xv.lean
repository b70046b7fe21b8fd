/-! THE ABSTRACT RUNS: a step function, its runs by fuel n and call depth d -/
def xw {F R : Type} (step : F → Option (R ⊕ F ⊕ (F × (R → F)))) (rec : Nat → F → Option R) (d : Nat) (f : F) : Option R :=
  match step f with
  | none => none
  | some (.inl r) => some r
  | some (.inr (.inl g)) => rec d g
  | some (.inr (.inr (g, k))) => match d with
    | 0 => none
    | d' + 1 => match rec d' g with
      | none => none
      | some q => rec (d' + 1) (k q)
def xv {F R : Type} (step : F → Option (R ⊕ F ⊕ (F × (R → F)))) : Nat → Nat → F → Option R
  | 0 => fun _ _ => none
  | n + 1 => xw step (xv step n)
def Xv {F R : Type} (step : F → Option (R ⊕ F ⊕ (F × (R → F)))) (d : Nat) (f : F) (r : R) : Prop := ∃ n, xv step n d f = some r
section
variable {F R : Type} {step : F → Option (R ⊕ F ⊕ (F × (R → F)))}
theorem xw_mono {r1 r2 : Nat → F → Option R} (h : ∀ d f r, r1 d f = some r → r2 d f = some r) {d : Nat} {f : F} {r : R} (e : xw step r1 d f = some r) : xw step r2 d f = some r := by
  unfold xw at e ⊢
  split at e
  · cases e
  · exact e
  · exact h _ _ _ e
  · split at e
    · cases e
    · split at e
      · cases e
      · rename_i hq
        rw [h _ _ _ hq]
        exact h _ _ _ e
theorem xv_succ : ∀ (n d : Nat) (f : F) (r : R), xv step n d f = some r → xv step (n + 1) d f = some r
  | 0, _, _, _, h => by cases h
  | n + 1, _, _, _, h => xw_mono (xv_succ n) h
theorem xv_le {n m : Nat} (hm : n ≤ m) {d : Nat} {f : F} {r : R} (h : xv step n d f = some r) : xv step m d f = some r := by
  induction hm with
  | refl => exact h
  | step _ ih => exact xv_succ _ _ _ _ ih
theorem xv_deep (n : Nat) : ∀ (d : Nat) (f : F) (r : R), xv step n d f = some r → xv step n (d + 1) f = some r := by
  induction n with
  | zero => intro d f r h; cases h
  | succ n ih =>
    intro d f r h
    change xw step (xv step n) d f = some r at h
    show xw step (xv step n) (d + 1) f = some r
    unfold xw at h ⊢
    split at h
    · cases h
    · exact h
    · exact ih _ _ _ h
    · split at h
      · cases h
      · split at h
        · cases h
        · rename_i hq
          simp only [ih _ _ _ hq]
          exact ih _ _ _ h
theorem Xv.deep {d : Nat} {f : F} {r : R} (h : Xv step d f r) : Xv step (d + 1) f r := by
  obtain ⟨n, h⟩ := h
  exact ⟨n, xv_deep n d f r h⟩
theorem Xv.deepLe {d d' : Nat} (hd : d ≤ d') {f : F} {r : R} (h : Xv step d f r) : Xv step d' f r := by
  induction hd with
  | refl => exact h
  | step _ ih => exact ih.deep
theorem Xv.det {d : Nat} {f : F} {r1 r2 : R} (h1 : Xv step d f r1) (h2 : Xv step d f r2) : r1 = r2 := by
  obtain ⟨n, h1⟩ := h1
  obtain ⟨m, h2⟩ := h2
  have a := xv_le (Nat.le_max_left n m) h1
  have b := xv_le (Nat.le_max_right n m) h2
  rw [a] at b
  exact Option.some.inj b
theorem Xv.iff {d : Nat} {f : F} {r r0 : R} (h : Xv step d f r0) : Xv step d f r ↔ r = r0 := ⟨fun x => x.det h, fun e => e ▸ h⟩
theorem Xv.ret {d : Nat} {f : F} {r r0 : R} (h : step f = some (.inl r0)) : Xv step d f r ↔ r = r0 := by
  refine Xv.iff ⟨1, ?_⟩
  show xw step (xv step 0) d f = some r0
  unfold xw
  rw [h]
theorem Xv.next {d : Nat} {f g : F} {r : R} (h : step f = some (.inr (.inl g))) : Xv step d f r ↔ Xv step d g r := by
  constructor
  · intro ⟨n, e⟩
    cases n with
    | zero => cases e
    | succ n =>
      change xw step (xv step n) d f = some r at e
      unfold xw at e
      rw [h] at e
      exact ⟨n, e⟩
  · intro ⟨n, e⟩
    refine ⟨n + 1, ?_⟩
    show xw step (xv step n) d f = some r
    unfold xw
    rw [h]
    exact e
theorem Xv.call {d : Nat} {f g : F} {k : R → F} {r : R} (h : step f = some (.inr (.inr (g, k)))) : Xv step (d + 1) f r ↔ ∃ q, Xv step d g q ∧ Xv step (d + 1) (k q) r := by
  constructor
  · intro ⟨n, e⟩
    cases n with
    | zero => cases e
    | succ n =>
      change xw step (xv step n) (d + 1) f = some r at e
      unfold xw at e
      rw [h] at e
      dsimp only at e
      split at e
      · cases e
      · rename_i q hq
        exact ⟨q, ⟨n, hq⟩, ⟨n, e⟩⟩
  · intro ⟨q, ⟨n, e1⟩, ⟨m, e2⟩⟩
    refine ⟨max n m + 1, ?_⟩
    show xw step (xv step (max n m)) (d + 1) f = some r
    unfold xw
    rw [h]
    dsimp only
    rw [xv_le (Nat.le_max_left n m) e1]
    exact xv_le (Nat.le_max_right n m) e2
end
/-! LOCALS by their places -/
abbrev LsT : Type := List (Option Value)
def lg : LsT → Nat → Option Value
  | [], _ => none
  | x :: _, 0 => x
  | _ :: l, i + 1 => lg l i
/-- a long whose second half goes, goes -/
def lcl (x : Option Value) : Option Value := match x with
  | some (.long _) => none
  | some (.double _) => none
  | x => x
def ls1 : LsT → Nat → Value → LsT
  | [], _, _ => []
  | _ :: l, 0, v => some v :: l
  | x :: l, 1, v => lcl x :: ls1 l 0 v
  | x :: l, i + 2, v => x :: ls1 l (i + 1) v
def ls2 : LsT → Nat → Value → LsT
  | [], _, _ => []
  | [_], 0, v => [some v]
  | _ :: _ :: l, 0, v => some v :: none :: l
  | x :: l, 1, v => lcl x :: ls2 l 0 v
  | x :: l, i + 2, v => x :: ls2 l (i + 1) v
/-- the entry's locals -/
def lent : List Value → Nat → LsT
  | [], n => List.replicate n none
  | .long v :: l, n => some (.long v) :: none :: lent l (n - 2)
  | .double v :: l, n => some (.double v) :: none :: lent l (n - 2)
  | v :: l, n => some v :: lent l (n - 1)
def lfs : Nat → LsT → List (Nat × Value)
  | _, [] => []
  | k, none :: l => lfs (k + 1) l
  | k, some v :: l => (k, v) :: lfs (k + 1) l
theorem lfs_mem : ∀ (l : LsT) (k i : Nat) (v : Value), (i, v) ∈ lfs k l ↔ k ≤ i ∧ lg l (i - k) = some v
  | [], k, i, v => by simp [lfs, lg]
  | none :: l, k, i, v => by
    rw [lfs, lfs_mem l]
    constructor
    · intro ⟨h1, h2⟩
      refine ⟨by omega, ?_⟩
      rw [show i - k = (i - (k + 1)) + 1 by omega]
      exact h2
    · intro ⟨h1, h2⟩
      rcases Nat.lt_or_ge k i with h | h
      · refine ⟨h, ?_⟩
        rw [show i - k = (i - (k + 1)) + 1 by omega] at h2
        exact h2
      · rw [show i - k = 0 by omega] at h2
        cases h2
  | some w :: l, k, i, v => by
    rw [lfs, List.mem_cons, lfs_mem l]
    constructor
    · rintro (h | ⟨h1, h2⟩)
      · cases h
        exact ⟨Nat.le_refl _, by rw [Nat.sub_self]; rfl⟩
      · refine ⟨by omega, ?_⟩
        rw [show i - k = (i - (k + 1)) + 1 by omega]
        exact h2
    · intro ⟨h1, h2⟩
      rcases Nat.lt_or_ge k i with h | h
      · refine Or.inr ⟨h, ?_⟩
        rw [show i - k = (i - (k + 1)) + 1 by omega] at h2
        exact h2
      · left
        have : i = k := by omega
        subst this
        rw [Nat.sub_self] at h2
        cases h2
        rfl
/-- the machine's locals hold these -/
def LH (LS : Array Slot) (nL : Nat) (ls : LsT) : Prop := ls.length = nL ∧ lv_has LS nL (lfs 0 ls)
theorem lv_has_sub {LS : Array Slot} {nL : Nat} {l l' : List (Nat × Value)} (h : lv_has LS nL l) (hs : ∀ q ∈ l', q ∈ l) : lv_has LS nL l' := ⟨h.1, h.2.1, fun q hq => h.2.2 q (hs q hq)⟩
theorem LH.at {LS : Array Slot} {nL : Nat} {ls : LsT} (h : LH LS nL ls) {i : Nat} {v : Value} (hg : lg ls i = some v) : LS[i]? = some (.val v) := h.2.2.2 (i, v) ((lfs_mem ls 0 i v).mpr ⟨Nat.zero_le _, hg⟩)
theorem lcl_some {x : Option Value} {w : Value} (h : lcl x = some w) : x = some w ∧ w.category ≠ 2 := by
  unfold lcl at h
  split at h
  · cases h
  · cases h
  · subst h
    refine ⟨rfl, ?_⟩
    rename_i h1 h2
    cases w with
    | long v => exact (h1 v rfl).elim
    | double v => exact (h2 v rfl).elim
    | _ => simp [Value.category]
theorem ls1_len : ∀ (l : LsT) (i : Nat) (v : Value), (ls1 l i v).length = l.length
  | [], _, _ => by simp [ls1]
  | _ :: l, 0, v => by simp [ls1]
  | x :: l, 1, v => by simp [ls1, ls1_len l 0 v]
  | x :: l, i + 2, v => by simp [ls1, ls1_len l (i + 1) v]
theorem ls1_at : ∀ (l : LsT) (i : Nat) (v : Value) (j : Nat) (w : Value), lg (ls1 l i v) j = some w → (j = i ∧ w = v) ∨ (j ≠ i ∧ ¬ (j + 1 = i ∧ w.category = 2) ∧ lg l j = some w)
  | [], i, v, j, w, h => by simp [ls1, lg] at h
  | x :: l, 0, v, 0, w, h => by simp [ls1, lg] at h; simp [h]
  | x :: l, 0, v, j + 1, w, h => by simp [ls1, lg] at h; simp [h, lg]
  | x :: l, 1, v, 0, w, h => by
    simp only [ls1, lg] at h
    obtain ⟨h1, h2⟩ := lcl_some h
    refine Or.inr ⟨by omega, fun z => h2 z.2, ?_⟩
    simp [lg, h1]
  | x :: l, 1, v, j + 1, w, h => by
    simp only [ls1, lg] at h
    rcases ls1_at l 0 v j w h with ⟨a, b⟩ | ⟨a, b, c⟩
    · exact Or.inl ⟨by omega, b⟩
    · exact Or.inr ⟨by omega, fun z => by omega, c⟩
  | x :: l, i + 2, v, 0, w, h => by
    simp only [ls1, lg] at h
    exact Or.inr ⟨by omega, fun z => by omega, by simp [lg, h]⟩
  | x :: l, i + 2, v, j + 1, w, h => by
    simp only [ls1, lg] at h
    rcases ls1_at l (i + 1) v j w h with ⟨a, b⟩ | ⟨a, b, c⟩
    · exact Or.inl ⟨by omega, b⟩
    · exact Or.inr ⟨by omega, fun z => b ⟨by omega, z.2⟩, c⟩
theorem ls2_len : ∀ (l : LsT) (i : Nat) (v : Value), (ls2 l i v).length = l.length
  | [], _, _ => by simp [ls2]
  | [x], 0, v => by simp [ls2]
  | x :: y :: l, 0, v => by simp [ls2]
  | x :: l, 1, v => by simp [ls2, ls2_len l 0 v]
  | x :: l, i + 2, v => by simp [ls2, ls2_len l (i + 1) v]
theorem ls2_at : ∀ (l : LsT) (i : Nat) (v : Value) (j : Nat) (w : Value), lg (ls2 l i v) j = some w → (j = i ∧ w = v) ∨ (j ≠ i ∧ j ≠ i + 1 ∧ ¬ (j + 1 = i ∧ w.category = 2) ∧ lg l j = some w)
  | [], i, v, j, w, h => by simp [ls2, lg] at h
  | [x], 0, v, 0, w, h => by simp [ls2, lg] at h; simp [h]
  | [x], 0, v, j + 1, w, h => by simp [ls2, lg] at h
  | x :: y :: l, 0, v, 0, w, h => by simp [ls2, lg] at h; simp [h]
  | x :: y :: l, 0, v, 1, w, h => by simp [ls2, lg] at h
  | x :: y :: l, 0, v, j + 2, w, h => by simp [ls2, lg] at h; simp [h, lg]
  | x :: l, 1, v, 0, w, h => by
    simp only [ls2, lg] at h
    obtain ⟨h1, h2⟩ := lcl_some h
    refine Or.inr ⟨by omega, by omega, fun z => h2 z.2, ?_⟩
    simp [lg, h1]
  | x :: l, 1, v, j + 1, w, h => by
    simp only [ls2, lg] at h
    rcases ls2_at l 0 v j w h with ⟨a, b⟩ | ⟨a, a2, b, c⟩
    · exact Or.inl ⟨by omega, b⟩
    · exact Or.inr ⟨by omega, by omega, fun z => by omega, c⟩
  | x :: l, i + 2, v, 0, w, h => by
    simp only [ls2, lg] at h
    exact Or.inr ⟨by omega, by omega, fun z => by omega, by simp [lg, h]⟩
  | x :: l, i + 2, v, j + 1, w, h => by
    simp only [ls2, lg] at h
    rcases ls2_at l (i + 1) v j w h with ⟨a, b⟩ | ⟨a, a2, b, c⟩
    · exact Or.inl ⟨by omega, b⟩
    · exact Or.inr ⟨by omega, by omega, fun z => b ⟨by omega, z.2⟩, c⟩
theorem LH.st1 {LS : Array Slot} {nL : Nat} {ls : LsT} {i : Nat} {v : Value} (hn : ls.length = nL) (h : lv_has LS nL ((i, v) :: (lfs 0 ls).filter (fun q => !(q.1 == i) && !(q.1 + 1 == i && q.2.category == 2)))) : LH LS nL (ls1 ls i v) := by
  refine ⟨by rw [ls1_len, hn], lv_has_sub h ?_⟩
  intro ⟨j, w⟩ hq
  obtain ⟨-, hq⟩ := (lfs_mem _ _ _ _).mp hq
  rw [Nat.sub_zero] at hq
  rcases ls1_at ls i v j w hq with ⟨a, b⟩ | ⟨a, b, c⟩
  · rw [a, b]; exact List.mem_cons_self
  · refine List.mem_cons_of_mem _ (List.mem_filter.mpr ⟨(lfs_mem _ _ _ _).mpr ⟨Nat.zero_le _, by rw [Nat.sub_zero]; exact c⟩, ?_⟩)
    simp only [Bool.and_eq_true, Bool.not_eq_true', beq_eq_false_iff_ne, ne_eq, Bool.and_eq_false_iff]
    refine ⟨a, ?_⟩
    by_cases h1 : j + 1 = i
    · exact Or.inr (fun z => b ⟨h1, z⟩)
    · exact Or.inl h1
theorem LH.st2 {LS : Array Slot} {nL : Nat} {ls : LsT} {i : Nat} {v : Value} (hn : ls.length = nL) (h : lv_has LS nL ((i, v) :: (lfs 0 ls).filter (fun q => !(q.1 == i) && (!(q.1 == i + 1) && !(q.1 + 1 == i && q.2.category == 2))))) : LH LS nL (ls2 ls i v) := by
  refine ⟨by rw [ls2_len, hn], lv_has_sub h ?_⟩
  intro ⟨j, w⟩ hq
  obtain ⟨-, hq⟩ := (lfs_mem _ _ _ _).mp hq
  rw [Nat.sub_zero] at hq
  rcases ls2_at ls i v j w hq with ⟨a, b⟩ | ⟨a, a2, b, c⟩
  · rw [a, b]; exact List.mem_cons_self
  · refine List.mem_cons_of_mem _ (List.mem_filter.mpr ⟨(lfs_mem _ _ _ _).mpr ⟨Nat.zero_le _, by rw [Nat.sub_zero]; exact c⟩, ?_⟩)
    simp only [Bool.and_eq_true, Bool.not_eq_true', beq_eq_false_iff_ne, ne_eq, Bool.and_eq_false_iff]
    refine ⟨a, a2, ?_⟩
    by_cases h1 : j + 1 = i
    · exact Or.inr (fun z => b ⟨h1, z⟩)
    · exact Or.inl h1
