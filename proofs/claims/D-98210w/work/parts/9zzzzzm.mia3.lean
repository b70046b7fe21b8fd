set_option maxRecDepth 100000
/-! THE MODEL: counts, years, steps, hours, feeding, on all that it holds -/
section
variable {mb e : Nat} {M M' : MM} {P : MR → Prop} {B : Nat} {a : Ab}
theorem mi_count {w : Int32} (hI : MIa M a) (hP : ∀ M', MIa M' a → P (some (.int (spCount a.q a.s a.Li a.n a.T.1 w)), M')) : EM mb (e + 1) cX19_count (some .int) 0 [some (.ref mb), some (.int w)] [] M P := m_count hI.1.1.qm hI.1.2.1 hI.1.2.2.1.2.1 hI.1.2.2.1.2.2 hI.2.1.1 hI.2.2.2.1 (hP _ hI.th)
theorem kpA_k {L : List Nat} (h : ((List.range 47).all (fun k => !(kpA k) || !(L.contains k))) = true) : ∀ k, kpA k = true → L.contains k = false := fun k hk => by
  have hb : k < 47 := by
    unfold kpA at hk
    rw [Bool.or_eq_true, Bool.or_eq_true] at hk
    rcases hk with (z | z) | z
    · have := of_decide_eq_true z; omega
    · have := of_decide_eq_true z; omega
    · have := of_decide_eq_true z; omega
  have := List.all_eq_true.mp h k (List.mem_range.mpr hb)
  rw [hk] at this
  simpa using this
theorem mi_knock {d h x : Int32} (hI : MIa M a) (hA : AOK B a) (h1 : okKn a.q d h x = false → ∀ M', MIa M' a → P (some (.int (spKnock a.q a.s d h x)), M')) (h2 : okKn a.q d h x = true → ∀ M', MIa M' ((a.q, tS a.q a.s (ix d) (ix h) (dgt (ix x)), a.Li), (ksN a.n, ksU a.n a.u a.s), a.mk, a.T) → P (some (.int (spKnock a.q a.s d h x)), M')) : EM mb (e + 6) cX19_knock (some .int) 0 [some (.ref mb), some (.int d), some (.int h), some (.int x)] [] M P := m_knock hI.1.1.qm hI.1.1.1 hI.1.2.1 hI.2.1 hA.1.2.2.2.1 (by have := hA.2.2.2.2; omega) (fun z M' K => h1 z M' (MIa.b hI K)) (fun z M' K S U => h2 z M' (MI.k hI K.L (kpA_k (by decide)) rfl S U))
theorem mi_near {d v : Int32} (hI : MIa M a) (h1 : okNr a.q a.s d v = false → ∀ M', MIa M' a → P (some (.int (bI false)), M')) (h2 : okNr a.q a.s d v = true → ∀ M', MIa M' ((a.q, upN a.s (80 * ix d) (ix v), a.Li), (ksN a.n, ksU a.n a.u a.s), a.mk, a.T) → P (some (.int (bI true)), M')) : EM mb (e + 6) cX19_near (some .boolean) 0 [some (.ref mb), some (.int d), some (.int v)] [] M P := m_near hI.1.1.qm hI.1.1.1 hI.1.2.1 hI.2.1 (fun z M' K => h1 z M' (MIa.b hI K)) (fun z M' K S U => h2 z M' (MI.k hI K.L (kpA_k (by decide)) rfl S U))
theorem mi_undo (hI : MIa M a) (h1 : a.n = 0 → ∀ M', MIa M' a → P (some (.int (bI false)), M')) (h2 : 0 < a.n → ∀ M', MIa M' ((a.q, a.u (a.n - 1), a.Li), (a.n - 1, a.u), a.mk, a.T) → P (some (.int (bI true)), M')) : EM mb (e + 6) cX19_undo (some .boolean) 0 [some (.ref mb)] [] M P := m_undo hI.2.1 (fun z M' K => h1 z M' (MI.k hI K.L (kpA_k (by decide)) rfl (hI.1.2.1.k (K.1 32 (by omega) rfl)) (hI.2.1.kl K.L rfl rfl))) (fun z M' K S U => h2 z M' (MI.k hI K.L (kpA_k (by decide)) rfl S U))
theorem mi_years {y b c : Int32} (hI : MIa M a) (hA : AOK B a) (hP : ∀ M', MIa M' a → rI M' 0 0 = bI (!vYr a.q y b c) → P (some (.int (spYears a.q a.s y b c)), M')) : EM mb (e + 7) cX19_years (some .int) 0 [some (.ref mb), some (.int y), some (.int b), some (.int c), none, none, none, none, none, none, none, none, none] [] M P := m_years hI.1.1.qm hI.1.1.1 hI.1.2.1 hA.1.2.2.2 hA.2.2.2.2.1 (by have := hA.2.2.2.2; omega) (fun M' K S t => hP M' (MI.ask hI K rfl rfl S) t)
theorem mi_hours {v : Int32} (hI : MIa M a) (hA : AOK B a) (h1 : vHr v = false → ∀ M', MIa M' a → P (some (.int (-1)), M')) (h2 : vHr v = true → ∀ M', MIa M' ((a.q, hrS a.q (ix v) a.s, a.Li), (0, a.u), a.mk, a.T) → P (some (.int (spHours a.q a.s v)), M')) : EM mb (e + 7) cX19_hours (some .int) 0 [some (.ref mb), some (.int v), none] [] M P := m_hours hI.1.1.qm hI.1.1.1 hI.1.2.1 hA.1.2.2.2 (by have := hA.2.2.2.2; omega) (by have := hA.2.2.2.2; omega) (fun z M' K => h1 z M' (MI.k hI K.L (fun _ _ => rfl) rfl (hI.1.2.1.k (K.1 32 (by omega) rfl)) (hI.2.1.kl K.L rfl rfl))) (fun z M' K r S => h2 z M' (MI.k hI K.L (kpA_k (by decide)) rfl S ⟨r, Nat.zero_le _, fun i hi => absurd hi (Nat.not_lt_zero i)⟩))
end
