set_option maxRecDepth 100000
/-! FREE PLACES STAY FREE: a run of the component makes new cells only at the end -/
def dmM (a b : CM) : Prop := a.1 ≤ b.1 ∧ ∀ q, q < a.1 → gC a q = none → gC b q = none
theorem dmM.rf {a : CM} : dmM a a := ⟨Nat.le_refl _, fun _ _ h => h⟩
theorem dmM.tr {a b c : CM} (h : dmM a b) (h2 : dmM b c) : dmM a c := ⟨Nat.le_trans h.1 h2.1, fun q hq e => h2.2 q (Nat.lt_of_lt_of_le hq h.1) (h.2 q hq e)⟩
theorem dmM.p {σ : CM} {a : Nat} {c c0 : Cl} (h : gC σ a = some c0) : dmM σ (pC σ a c) := ⟨Nat.le_refl _, fun q _ e => by
  rw [gC_ne (fun z => by rw [z, h] at e; cases e)]; exact e⟩
theorem dmM.a {σ : CM} {k : Nat} {c : Cl} : dmM σ (aC σ k c) := ⟨Nat.le_succ _, fun q hq e => by rw [gC_old (Nat.ne_of_lt hq)]; exact e⟩
def JDom (J : CJ) : Prop := ∀ kind As σ v σ', J kind As σ = some (v, σ') → dmM σ σ'
/-- what a step says of what has been made -/
def stD (σ : CM) (r : CR ⊕ CF ⊕ (CF × (CR → CF))) : Prop := match r with
  | .inl q => dmM σ q.2
  | .inr (.inl g) => dmM σ (fM g)
  | .inr (.inr (g, kf)) => dmM σ (fM g) ∧ ∀ q, fM (kf q) = q.2
section
variable {zs : Nat → Nat} {J : CJ} {k : CK} {pc : Nat} {ls : LsT} {st : List Value} {σ : CM} {r : CR ⊕ CF ⊕ (CF × (CR → CF))}
theorem dm_get {idx : Nat} (h : cget k pc ls st σ idx = some r) : stD σ r := by
  unfold cget at h; repeat' split at h
  all_goals first | (cases h; exact dmM.rf) | cases h
theorem dm_put {idx : Nat} (h : cput k pc ls st σ idx = some r) : stD σ r := by
  unfold cput at h; repeat' split at h
  all_goals first | (cases h; exact dmM.p (by assumption)) | cases h
theorem dm_ald {t : Nat} (h : cald k pc ls st σ t = some r) : stD σ r := by
  unfold cald at h; repeat' split at h
  all_goals first | (cases h; exact dmM.rf) | cases h
theorem dm_ast {t : Nat} {zs : Nat → Nat} (h : cast_ zs k pc ls st σ t = some r) : stD σ r := by
  unfold cast_ at h; repeat' split at h
  all_goals first | (cases h; exact dmM.p (by assumption)) | cases h
theorem dm_len (h : clen k pc ls st σ = some r) : stD σ r := by
  unfold clen at h; repeat' split at h
  all_goals first | (cases h; exact dmM.rf) | cases h
theorem dm_new {idx : Nat} (h : cnew k pc ls st σ idx = some r) : stD σ r := by
  unfold cnew at h; repeat' split at h
  all_goals first | (cases h; exact dmM.a) | cases h
theorem dm_newa {t : ArrayType} (h : cnewa k pc ls st σ t = some r) : stD σ r := by
  unfold cnewa at h
  split at h
  · split at h
    · split at h
      · cases h; exact dmM.a
      · cases h
    · cases h
  · cases h
theorem dm_anew {idx : Nat} (h : canew k pc ls st σ idx = some r) : stD σ r := by
  unfold canew at h; repeat' split at h
  all_goals first | (cases h; exact dmM.a) | cases h
theorem dmM.m {σ : CM} {N M : Nat} : dmM σ (mC σ N M) := ⟨Nat.le_add_right _ _, fun q hq e => by
  show (if q = σ.1 then _ else if σ.1 < q ∧ q < σ.1 + (1 + N) then _ else σ.2.2 q : Option Cl) = none
  rw [if_neg (by omega), if_neg (by omega)]
  exact e⟩
theorem dm_mul {idx : Nat} (h : cmul k pc ls st σ idx = some r) : stD σ r := by
  unfold cmul at h; repeat' split at h
  all_goals first | (cases h; exact dmM.m) | cases h
theorem dm_cast {idx : Nat} (h : ccast k pc ls st σ idx = some r) : stD σ r := by
  unfold ccast at h; repeat' split at h
  all_goals first | (cases h; exact dmM.rf) | cases h
theorem dm_stat {idx : Nat} (h : cstat zs k pc ls st σ idx = some r) : stD σ r := by
  unfold cstat at h; repeat' split at h
  all_goals first | (cases h; exact dmM.rf) | cases h
theorem dm_ldc {len idx : Nat} (h : cldc zs k len pc ls st σ idx = some r) : stD σ r := by
  unfold cldc at h; repeat' split at h
  all_goals first | (cases h; exact dmM.rf) | cases h
theorem dm_call {idx tag : Nat} (h : ccall k pc ls st σ idx tag = some r) : stD σ r := by
  obtain ⟨y, cc, rt, o2, nL2, n, rc, -, As, rest, -, -, -, -, -, rfl⟩ := ccall_inv h
  refine ⟨dmM.rf, fun q => ?_⟩
  obtain ⟨q, σ'⟩ := q
  cases q <;> rfl
theorem dm_inv {idx tag : Nat} (hJ : JDom J) (h : cinv J k pc ls st σ idx tag = some r) : stD σ r := by
  unfold cinv at h
  split at h
  · split at h
    · obtain ⟨⟨v, σ'⟩, hj, hg⟩ := Option.bind_eq_some_iff.mp h
      cases hg
      exact hJ _ _ _ _ _ hj
    · cases h
  · exact dm_call h
theorem dm_throw {x : Nat} (h : cthrow k x pc ls σ = some r) : stD σ r := by
  unfold cthrow at h; repeat' split at h
  all_goals first | (cases h; exact dmM.rf) | cases h
end

theorem cstep_dom {zs : Nat → Nat} {J : CJ} (hJ : JDom J) {f : CF} {r : CR ⊕ CF ⊕ (CF × (CR → CF))} (h : cstep zs J f = some r) : stD (fM f) r := by
  unfold cstep at h
  split at h
  · exact dm_throw h
  · split at h
    · cases h
    · split at h
      all_goals first
        | (obtain ⟨-, h9⟩ := iflen h; clear h; have h := h9; clear h9)
        | skip
      · exact dm_get h
      · exact dm_put h
      · exact dm_ald h
      · exact dm_ald h
      · exact dm_ald h
      · exact dm_ald h
      · exact dm_ast h
      · exact dm_ast h
      · exact dm_ast h
      · exact dm_ast h
      · exact dm_len h
      · exact dm_new h
      · exact dm_newa h
      · exact dm_anew h
      · split at h
        · exact dm_mul h
        · cases h
      · exact dm_cast h
      · exact dm_stat h
      · exact dm_ldc h
      · exact dm_ldc h
      · split at h
        · cases h; exact dmM.rf
        · cases h
      · exact dm_inv hJ h
      · exact dm_inv hJ h
      · exact dm_inv hJ h
      · obtain ⟨_, _, rfl⟩ := Option.map_eq_some_iff.mp h
        exact dmM.rf
      · split at h
        · cases h; exact dmM.rf
        · cases h
      · obtain ⟨_, _, rfl⟩ := Option.map_eq_some_iff.mp h
        exact dmM.rf
      · split at h
        · cases h; exact dmM.rf
        · cases h
      · split at h
        · cases h; exact dmM.rf
        · cases h
      · obtain ⟨_, _, rfl⟩ := Option.map_eq_some_iff.mp h
        exact dmM.rf
theorem cxv_dom {zs : Nat → Nat} {J : CJ} (hJ : JDom J) : ∀ (n d : Nat) (f : CF) (r : CR), xv (cstep zs J) n d f = some r → dmM (fM f) r.2 := by
  intro n
  induction n with
  | zero => intro d f r h; cases h
  | succ n ih =>
    intro d f r h
    change xw (cstep zs J) (xv (cstep zs J) n) d f = some r at h
    unfold xw at h
    split at h
    · cases h
    · rename_i r0 hs
      cases h
      exact cstep_dom hJ hs
    · rename_i g hs
      exact (cstep_dom hJ hs).tr (ih _ _ _ h)
    · rename_i g kf hs
      obtain ⟨h1, h2⟩ := cstep_dom hJ hs
      split at h
      · cases h
      · split at h
        · cases h
        · rename_i q hq
          have h3 := ih _ _ _ hq
          have h4 := ih _ _ _ h
          rw [h2 q] at h4
          exact (h1.tr h3).tr h4
theorem Jc_dom {zs : Nat → Nat} : JDom (Jc zs) := by
  intro kind As σ v σ' h
  unfold Jc at h
  split at h
  · cases h; exact dmM.rf
  · cases h; exact dmM.rf
  · cases h; exact dmM.rf
  · cases h; exact dmM.rf
  · cases h; exact dmM.rf
  · unfold Jcpy at h
    split at h
    · split at h
      · cases h; exact dmM.p (by assumption)
      · cases h
    · split at h
      · cases h; exact dmM.p (by assumption)
      · cases h
    · cases h
  · unfold Jgro at h
    split at h
    · split at h
      · cases h; exact dmM.a
      · cases h
    · cases h
  · obtain ⟨t, -, hg⟩ := Option.map_eq_some_iff.mp h
    cases hg
    exact dmM.rf
  · obtain ⟨t, -, hg⟩ := Option.bind_eq_some_iff.mp h
    split at hg
    · cases hg; exact dmM.rf
    · cases hg
  · obtain ⟨t, -, hg⟩ := Option.bind_eq_some_iff.mp h
    split at hg
    · cases hg; exact dmM.rf
    · cases hg
  · split at h
    · cases h; exact dmM.p (by assumption)
    · cases h
  · split at h
    · cases h; exact dmM.p (by assumption)
    · cases h
  · split at h
    · cases h; exact dmM.rf
    · cases h; exact dmM.a
  · cases h
/-- a run makes no cell where none was -/
theorem EC.dom {zs : Nat → Nat} {d : Nat} {c : ByteArray} {rt : Option FieldType} {o md pc : Nat} {ls : LsT} {st : List Value} {σ : CM} {r : CR} (h : EC zs (Jc zs) d c rt o md pc ls st σ (fun q => q = r)) : dmM σ r.2 := by
  obtain ⟨q, ⟨n, hn⟩, rfl⟩ := h
  exact cxv_dom Jc_dom _ _ _ _ hn
