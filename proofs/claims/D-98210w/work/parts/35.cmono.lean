/-! A STEP NEVER LESSENS what has been made -/
def leM (a b : CM) : Prop := a.1 ≤ b.1 ∧ a.2.1 ≤ b.2.1
theorem leM.rf {a : CM} : leM a a := ⟨Nat.le_refl _, Nat.le_refl _⟩
theorem leM.tr {a b c : CM} (h : leM a b) (h2 : leM b c) : leM a c := ⟨Nat.le_trans h.1 h2.1, Nat.le_trans h.2 h2.2⟩
theorem leM.p {σ : CM} {a : Nat} {c : Cl} : leM σ (pC σ a c) := ⟨Nat.le_refl _, Nat.le_refl _⟩
theorem leM.a {σ : CM} {k : Nat} {c : Cl} : leM σ (aC σ k c) := ⟨Nat.le_succ _, Nat.le_add_right _ _⟩
def fM (f : CF) : CM := f.2.2.2.2.2
def JMono (J : CJ) : Prop := ∀ kind As σ v σ', J kind As σ = some (v, σ') → leM σ σ'
/-- what a step says of what has been made -/
def stM (σ : CM) (r : CR ⊕ CF ⊕ (CF × (CR → CF))) : Prop := match r with
  | .inl q => leM σ q.2
  | .inr (.inl g) => leM σ (fM g)
  | .inr (.inr (g, kf)) => leM σ (fM g) ∧ ∀ q, fM (kf q) = q.2
section
variable {zs : Nat → Nat} {J : CJ} {k : CK} {pc : Nat} {ls : LsT} {st : List Value} {σ : CM} {r : CR ⊕ CF ⊕ (CF × (CR → CF))}
theorem mo_get {idx : Nat} (h : cget k pc ls st σ idx = some r) : stM σ r := by
  unfold cget at h; repeat' split at h
  all_goals first | (cases h; exact leM.rf) | cases h
theorem mo_put {idx : Nat} (h : cput k pc ls st σ idx = some r) : stM σ r := by
  unfold cput at h; repeat' split at h
  all_goals first | (cases h; exact leM.p) | cases h
theorem mo_ald {t : Nat} (h : cald k pc ls st σ t = some r) : stM σ r := by
  unfold cald at h; repeat' split at h
  all_goals first | (cases h; exact leM.rf) | cases h
theorem mo_ast {t : Nat} {zs : Nat → Nat} (h : cast_ zs k pc ls st σ t = some r) : stM σ r := by
  unfold cast_ at h; repeat' split at h
  all_goals first | (cases h; exact leM.p) | cases h
theorem mo_len (h : clen k pc ls st σ = some r) : stM σ r := by
  unfold clen at h; repeat' split at h
  all_goals first | (cases h; exact leM.rf) | cases h
theorem mo_new {idx : Nat} (h : cnew k pc ls st σ idx = some r) : stM σ r := by
  unfold cnew at h; repeat' split at h
  all_goals first | (cases h; exact leM.a) | cases h
theorem mo_newa {t : ArrayType} (h : cnewa k pc ls st σ t = some r) : stM σ r := by
  unfold cnewa at h
  split at h
  · split at h
    · split at h
      · cases h; exact leM.a
      · cases h
    · cases h
  · cases h
theorem mo_anew {idx : Nat} (h : canew k pc ls st σ idx = some r) : stM σ r := by
  unfold canew at h; repeat' split at h
  all_goals first | (cases h; exact leM.a) | cases h
theorem leM.m {σ : CM} {N M : Nat} : leM σ (mC σ N M) := ⟨Nat.le_add_right _ _, Nat.le_add_right _ _⟩
theorem mo_mul {idx : Nat} (h : cmul k pc ls st σ idx = some r) : stM σ r := by
  unfold cmul at h; repeat' split at h
  all_goals first | (cases h; exact leM.m) | cases h
theorem mo_cast {idx : Nat} (h : ccast k pc ls st σ idx = some r) : stM σ r := by
  unfold ccast at h; repeat' split at h
  all_goals first | (cases h; exact leM.rf) | cases h
theorem mo_stat {idx : Nat} (h : cstat zs k pc ls st σ idx = some r) : stM σ r := by
  unfold cstat at h; repeat' split at h
  all_goals first | (cases h; exact leM.rf) | cases h
theorem mo_ldc {len idx : Nat} (h : cldc zs k len pc ls st σ idx = some r) : stM σ r := by
  unfold cldc at h; repeat' split at h
  all_goals first | (cases h; exact leM.rf) | cases h
theorem mo_call {idx tag : Nat} (h : ccall k pc ls st σ idx tag = some r) : stM σ r := by
  obtain ⟨y, cc, rt, o2, nL2, n, rc, -, As, rest, -, -, -, -, -, rfl⟩ := ccall_inv h
  refine ⟨leM.rf, fun q => ?_⟩
  obtain ⟨q, σ'⟩ := q
  cases q <;> rfl
theorem mo_inv {idx tag : Nat} (hJ : JMono J) (h : cinv J k pc ls st σ idx tag = some r) : stM σ r := by
  unfold cinv at h
  split at h
  · split at h
    · obtain ⟨⟨v, σ'⟩, hj, hg⟩ := Option.bind_eq_some_iff.mp h
      cases hg
      exact hJ _ _ _ _ _ hj
    · cases h
  · exact mo_call h
theorem mo_throw {x : Nat} (h : cthrow k x pc ls σ = some r) : stM σ r := by
  unfold cthrow at h; repeat' split at h
  all_goals first | (cases h; exact leM.rf) | cases h
end
