/-! A RUN NEVER LESSENS what has been made -/
theorem cstep_mono {zs : Nat → Nat} {J : CJ} (hJ : JMono J) {f : CF} {r : CR ⊕ CF ⊕ (CF × (CR → CF))} (h : cstep zs J f = some r) : stM (fM f) r := by
  unfold cstep at h
  split at h
  · exact mo_throw h
  · split at h
    · cases h
    · split at h
      all_goals first
        | (obtain ⟨-, h9⟩ := iflen h; clear h; have h := h9; clear h9)
        | skip
      · exact mo_get h
      · exact mo_put h
      · exact mo_ald h
      · exact mo_ald h
      · exact mo_ald h
      · exact mo_ald h
      · exact mo_ast h
      · exact mo_ast h
      · exact mo_ast h
      · exact mo_ast h
      · exact mo_len h
      · exact mo_new h
      · exact mo_newa h
      · exact mo_anew h
      · split at h
        · exact mo_mul h
        · cases h
      · exact mo_cast h
      · exact mo_stat h
      · exact mo_ldc h
      · exact mo_ldc h
      · split at h
        · cases h; exact leM.rf
        · cases h
      · exact mo_inv hJ h
      · exact mo_inv hJ h
      · exact mo_inv hJ h
      · obtain ⟨_, _, rfl⟩ := Option.map_eq_some_iff.mp h
        exact leM.rf
      · split at h
        · cases h; exact leM.rf
        · cases h
      · obtain ⟨_, _, rfl⟩ := Option.map_eq_some_iff.mp h
        exact leM.rf
      · split at h
        · cases h; exact leM.rf
        · cases h
      · split at h
        · cases h; exact leM.rf
        · cases h
      · obtain ⟨_, _, rfl⟩ := Option.map_eq_some_iff.mp h
        exact leM.rf
theorem cxv_mono {zs : Nat → Nat} {J : CJ} (hJ : JMono J) : ∀ (n d : Nat) (f : CF) (r : CR), xv (cstep zs J) n d f = some r → leM (fM f) r.2 := by
  intro n
  induction n with
  | zero => intro d f r h; cases h
  | succ n ih =>
    intro d f r h
    change xw (cstep zs J) (xv (cstep zs J) n) d f = some r at h
    unfold xw at h
    split at h
    · cases h
    · rename_i r0 hs
      cases h
      exact cstep_mono hJ hs
    · rename_i g hs
      exact (cstep_mono hJ hs).tr (ih _ _ _ h)
    · rename_i g kf hs
      obtain ⟨h1, h2⟩ := cstep_mono hJ hs
      split at h
      · cases h
      · split at h
        · cases h
        · rename_i q hq
          have h3 := ih _ _ _ hq
          have h4 := ih _ _ _ h
          rw [h2 q] at h4
          exact (h1.tr h3).tr h4
theorem JOK.mono {l : Launch} {D : va_G} {ac : Nat → ClassId} {A : Nat → Prop} {zs : Nat → Nat} {J : CJ} (h : JOK l D ac A zs J) : JMono J := fun kind As σ v σ' hj => ⟨(h kind As σ v σ' hj).1, (h kind As σ v σ' hj).2.1⟩
