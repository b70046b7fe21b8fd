set_option maxRecDepth 100000
/-! CODES mean what the reader says -/
/-- tokens as tapes give them; a rest of tokens -/
def TkB (ts : List Tk) : Prop := ∀ t, t ∈ ts → t.1 = 2 → t.2.1 ≤ 9999
def Sub (t ts : List Tk) : Prop := ∀ z, z ∈ t → z ∈ ts
theorem Sub.rf {t : List Tk} : Sub t t := fun _ h => h
theorem Sub.tl {t ts : List Tk} (h : Sub t ts) : Sub t.tail ts := fun z hz => h z (List.mem_of_mem_tail hz)
theorem Sub.tr {a b c : List Tk} (h : Sub a b) (g : Sub b c) : Sub a c := fun z hz => g z (h z hz)
theorem TkB.s {t ts : List Tk} (h : TkB ts) (g : Sub t ts) : TkB t := fun z hz => h z (g z hz)
theorem TkB.hd {ts : List Tk} (h : TkB ts) (h2 : (hdT ts).1 = 2) : (hdT ts).2.1 ≤ 9999 := by
  cases ts with
  | nil => exact absurd h2 (by decide)
  | cons t ts => exact h t List.mem_cons_self h2
/-- a frame that is delivered to -/
def Top (f : Fm) (l : List Fm) : Prop := l = [] ∨ ntF f ≠ nI 1
theorem dlv_top {f : Fm} {l : List Fm} {v : Int32} (h : Top f l) : dlv (f :: l) v = (fPut f v).map (fun g => g :: l) := by
  cases l with
  | nil => rfl
  | cons g l =>
    show (if ntF f = nI 1 then _ else _) = _
    rw [if_neg (h.resolve_left (fun z => nomatch z))]
/-- what is asked of a part's codes -/
def PCd (N : Nat) (ix : Nat → Nat) (m : Nat) (part : List Tk → PEx) : Prop := ∀ ts x t, TkB ts → part ts = .ok (x, t) → Sub t ts ∧ 0 < x.2.length ∧ (∀ c, c ∈ x.2 → c < 20000) ∧ ∀ w φ, (∀ i, i < N → φ i = w (ix i)) → ∀ f l, l.length + 1 + m ≤ 6 → cRun w x.2 (f :: l) = dlv (f :: l) (x.1 φ)
def TCd (N : Nat) (ix : Nat → Nat) (m : Nat) (pr : List Tk → PEx) : Prop := ∀ ts x t, TkB ts → pr ts = .ok (x, t) → Sub t ts ∧ 0 < x.2.length ∧ (∀ c, c ∈ x.2 → c < 20000) ∧ ∀ w φ, (∀ i, i < N → φ i = w (ix i)) → ∀ f l, Top f l → tbF f = nI 0 → l.length + 1 + m ≤ 6 → ∃ b, cRun w x.2 (f :: l) = some ((kpF f, kbF f, ahF f, agF f, smF f, sbF f, some (x.1 φ), b, ntF f) :: l)
def SCd (N : Nat) (ix : Nat → Nat) (m : Nat) (pr : List Tk → PEx) : Prop := ∀ ts x t, TkB ts → pr ts = .ok (x, t) → Sub t ts ∧ 0 < x.2.length ∧ (∀ c, c ∈ x.2 → c < 20000) ∧ ∀ w φ, (∀ i, i < N → φ i = w (ix i)) → ∀ f l, Top f l → tbF f = nI 0 → smF f = nI 0 → sbF f = nI 20 → l.length + 1 + m ≤ 6 → ∃ f' b a, cRun w x.2 (f :: l) = some (f' :: l) ∧ fSum f' = some (kpF f, kbF f, ahF f, agF f, x.1 φ, b, some a, nI 0, ntF f)
def ECd (N : Nat) (ix : Nat → Nat) (m : Nat) (pr : List Tk → PEx) : Prop := ∀ ts x t, TkB ts → pr ts = .ok (x, t) → Sub t ts ∧ 0 < x.2.length ∧ (∀ c, c ∈ x.2 → c < 20000) ∧ ∀ w φ, (∀ i, i < N → φ i = w (ix i)) → ∀ f l, Top f l → tbF f = nI 0 → smF f = nI 0 → sbF f = nI 20 → agF f = nI 0 → l.length + 1 + m ≤ 6 → ∃ f' g, cRun w x.2 (f :: l) = some (f' :: l) ∧ fSum f' = some g ∧ fCmp g = some (x.1 φ) ∧ kpF g = kpF f ∧ kbF g = kbF f ∧ ntF g = ntF f ∧ tbF g = nI 0
def ACd (N : Nat) (ix : Nat → Nat) (m : Nat) (pr : List Tk → PEx) : Prop := ∀ ts x t, TkB ts → pr ts = .ok (x, t) → Sub t ts ∧ 0 < x.2.length ∧ (∀ c, c ∈ x.2 → c < 20000) ∧ ∀ w φ, (∀ i, i < N → φ i = w (ix i)) → ∀ f l, Top f l → tbF f = nI 0 → smF f = nI 0 → sbF f = nI 20 → agF f = nI 0 → kbF f = nI 0 → l.length + 1 + m ≤ 6 → ∃ f' g, cRun w x.2 (f :: l) = some (f' :: l) ∧ fSum f' = some g ∧ fVal f' = some (x.1 φ) ∧ ntF g = ntF f ∧ tbF g = nI 0
theorem cs_app {xs ys : List Nat} {v : Nat} (hx : ∀ c, c ∈ xs → c < 20000) (hv : v < 20000) (hy : ∀ c, c ∈ ys → c < 20000) : ∀ c, c ∈ xs ++ v :: ys → c < 20000 := by
  intro c hc
  rw [List.mem_append, List.mem_cons] at hc
  rcases hc with h | rfl | h
  · exact hx c h
  · exact hv
  · exact hy c h
theorem cRun_op {w : Nat → Int32} {xs ys : List Nat} {v : Nat} {st st' st2 : List Fm} (h : cRun w xs st = some st') (h2 : cStp w v st' = some st2) : cRun w (xs ++ v :: ys) st = cRun w ys st2 := by
  rw [cRun_app, h]
  show (cStp w v st').bind (cRun w ys) = _
  rw [h2]
  rfl
theorem t_term {N m : Nat} {ix : Nat → Nat} {part : List Tk → PEx} (hp : PCd N ix m part) : TCd N ix m (pTerm part) := by
  intro ts x t hB h
  unfold pTerm at h
  cases hr : part ts with
  | error k => rw [hr] at h; cases h
  | ok y =>
    obtain ⟨y, t1⟩ := y
    rw [hr] at h
    dsimp only at h
    obtain ⟨s1, n1, c1, r1⟩ := hp ts y t1 hB hr
    have key : ∀ (fu : Nat) (y : Ex) (t1 : List Tk), Sub t1 ts → 0 < y.2.length → (∀ c, c ∈ y.2 → c < 20000) → (∀ w φ, (∀ i, i < N → φ i = w (ix i)) → ∀ f l, Top f l → tbF f = nI 0 → l.length + 1 + m ≤ 6 → ∃ b, cRun w y.2 (f :: l) = some ((kpF f, kbF f, ahF f, agF f, smF f, sbF f, some (y.1 φ), b, ntF f) :: l)) → pTm part fu y t1 = .ok (x, t) → Sub t ts ∧ 0 < x.2.length ∧ (∀ c, c ∈ x.2 → c < 20000) ∧ ∀ w φ, (∀ i, i < N → φ i = w (ix i)) → ∀ f l, Top f l → tbF f = nI 0 → l.length + 1 + m ≤ 6 → ∃ b, cRun w x.2 (f :: l) = some ((kpF f, kbF f, ahF f, agF f, smF f, sbF f, some (x.1 φ), b, ntF f) :: l) := by
      intro fu
      induction fu with
      | zero => intro y t1 s1 n1 c1 r1 h; cases h; exact ⟨s1, n1, c1, r1⟩
      | succ fu ih =>
        intro y t1 s1 n1 c1 r1 h
        unfold pTm at h
        split at h
        · cases hr : part t1.tail with
          | error k => rw [hr] at h; cases h
          | ok z =>
            obtain ⟨z, t2⟩ := z
            rw [hr] at h
            dsimp only at h
            obtain ⟨s2, n2, c2, r2⟩ := hp t1.tail z t2 (hB.s s1.tl) hr
            refine ih _ t2 (s2.tr s1.tl) (by dsimp only; rw [List.length_append]; omega) (cs_app c1 (by decide) c2) (fun w φ hφ f l hT hb hl => ?_) h
            obtain ⟨b, e1⟩ := r1 w φ hφ f l hT hb hl
            refine ⟨nI 22, ?_⟩
            rw [cRun_op e1 (show cStp w 22 _ = some ((kpF f, kbF f, ahF f, agF f, smF f, sbF f, some (y.1 φ), nI 22, ntF f) :: l) from rfl), r2 w φ hφ _ l hl, dlv_top (show Top (kpF f, kbF f, ahF f, agF f, smF f, sbF f, some (y.1 φ), nI 22, ntF f) l from hT)]
            rfl
        · cases h; exact ⟨s1, n1, c1, r1⟩
    refine key t1.length y t1 s1 n1 c1 (fun w φ hφ f l hT hb hl => ⟨nI 0, ?_⟩) h
    rw [r1 w φ hφ f l hl, dlv_top hT]
    unfold fPut
    rw [if_pos hb, hb]
    rfl
theorem t_sum {N m : Nat} {ix : Nat → Nat} {part : List Tk → PEx} (hp : PCd N ix m part) : SCd N ix m (pSum part) := by
  intro ts x t hB h
  have ht := t_term hp
  unfold pSum at h
  cases hr : pTerm part ts with
  | error k => rw [hr] at h; cases h
  | ok y =>
    obtain ⟨y, t1⟩ := y
    rw [hr] at h
    dsimp only at h
    obtain ⟨s1, n1, c1, r1⟩ := ht ts y t1 hB hr
    have key : ∀ (fu : Nat) (y : Ex) (t1 : List Tk), Sub t1 ts → 0 < y.2.length → (∀ c, c ∈ y.2 → c < 20000) → (∀ w φ, (∀ i, i < N → φ i = w (ix i)) → ∀ f l, Top f l → tbF f = nI 0 → smF f = nI 0 → sbF f = nI 20 → l.length + 1 + m ≤ 6 → ∃ f' b a, cRun w y.2 (f :: l) = some (f' :: l) ∧ fSum f' = some (kpF f, kbF f, ahF f, agF f, y.1 φ, b, some a, nI 0, ntF f)) → pSm part fu y t1 = .ok (x, t) → Sub t ts ∧ 0 < x.2.length ∧ (∀ c, c ∈ x.2 → c < 20000) ∧ ∀ w φ, (∀ i, i < N → φ i = w (ix i)) → ∀ f l, Top f l → tbF f = nI 0 → smF f = nI 0 → sbF f = nI 20 → l.length + 1 + m ≤ 6 → ∃ f' b a, cRun w x.2 (f :: l) = some (f' :: l) ∧ fSum f' = some (kpF f, kbF f, ahF f, agF f, x.1 φ, b, some a, nI 0, ntF f) := by
      intro fu
      induction fu with
      | zero => intro y t1 s1 n1 c1 r1 h; cases h; exact ⟨s1, n1, c1, r1⟩
      | succ fu ih =>
        intro y t1 s1 n1 c1 r1 h
        unfold pSm at h
        split at h
        · cases hr : pTerm part t1.tail with
          | error k => rw [hr] at h; cases h
          | ok z =>
            obtain ⟨z, t2⟩ := z
            rw [hr] at h
            dsimp only at h
            obtain ⟨s2, n2, c2, r2⟩ := ht t1.tail z t2 (hB.s s1.tl) hr
            split at h
            · refine ih _ t2 (s2.tr s1.tl) (by dsimp only; rw [List.length_append]; omega) (cs_app c1 (by decide) c2) (fun w φ hφ f l hT hb hm hs hl => ?_) h
              obtain ⟨f', b, a, e1, e2⟩ := r1 w φ hφ f l hT hb hm hs hl
              obtain ⟨b2, e3⟩ := r2 w φ hφ (kpF f, kbF f, ahF f, agF f, y.1 φ, nI 20, some a, nI 0, ntF f) l hT rfl hl
              exact ⟨(kpF f, kbF f, ahF f, agF f, y.1 φ, nI 20, some (z.1 φ), b2, ntF f), nI 20, z.1 φ, (cRun_op e1 (show cStp w 20 (f' :: l) = some ((kpF f, kbF f, ahF f, agF f, y.1 φ, nI 20, some a, nI 0, ntF f) :: l) by show (fSum f').map _ = _; rw [e2]; rfl)).trans e3, rfl⟩
            · refine ih _ t2 (s2.tr s1.tl) (by dsimp only; rw [List.length_append]; omega) (cs_app c1 (by decide) c2) (fun w φ hφ f l hT hb hm hs hl => ?_) h
              obtain ⟨f', b, a, e1, e2⟩ := r1 w φ hφ f l hT hb hm hs hl
              obtain ⟨b2, e3⟩ := r2 w φ hφ (kpF f, kbF f, ahF f, agF f, y.1 φ, nI 21, some a, nI 0, ntF f) l hT rfl hl
              exact ⟨(kpF f, kbF f, ahF f, agF f, y.1 φ, nI 21, some (z.1 φ), b2, ntF f), nI 21, z.1 φ, (cRun_op e1 (show cStp w 21 (f' :: l) = some ((kpF f, kbF f, ahF f, agF f, y.1 φ, nI 21, some a, nI 0, ntF f) :: l) by show (fSum f').map _ = _; rw [e2]; rfl)).trans e3, rfl⟩
        · cases h; exact ⟨s1, n1, c1, r1⟩
    refine key t1.length y t1 s1 n1 c1 (fun w φ hφ f l hT hb hm hs hl => ?_) h
    obtain ⟨b, e1⟩ := r1 w φ hφ f l hT hb hl
    refine ⟨(kpF f, kbF f, ahF f, agF f, smF f, sbF f, some (y.1 φ), b, ntF f), nI 20, y.1 φ, e1, ?_⟩
    show some (kpF f, kbF f, ahF f, agF f, (if sbF f = nI 21 then smF f - y.1 φ else smF f + y.1 φ), sbF f, some (y.1 φ), nI 0, ntF f) = _
    rw [hm, hs, if_neg (by decide), nI_0, Int32.zero_add]
theorem fSum_tb {f g : Fm} (h : fSum f = some g) : tbF g = nI 0 ∧ ntF g = ntF f := by
  unfold fSum at h
  cases ht : tmF f with
  | none => rw [ht] at h; cases h
  | some t =>
    rw [ht] at h
    have := Option.some.inj h
    rw [← this]
    exact ⟨rfl, rfl⟩
theorem t_test {N m : Nat} {ix : Nat → Nat} {part : List Tk → PEx} (hp : PCd N ix m part) : ECd N ix m (pTest part) := by
  intro ts x t hB h
  have ht := t_sum hp
  unfold pTest at h
  cases hr : pSum part ts with
  | error k => rw [hr] at h; cases h
  | ok y =>
    obtain ⟨y, t1⟩ := y
    rw [hr] at h
    dsimp only at h
    obtain ⟨s1, n1, c1, r1⟩ := ht ts y t1 hB hr
    split at h
    · cases hr2 : pSum part t1.tail with
      | error k => rw [hr2] at h; cases h
      | ok z =>
        obtain ⟨z, t2⟩ := z
        rw [hr2] at h
        dsimp only at h
        obtain ⟨s2, n2, c2, r2⟩ := ht t1.tail z t2 (hB.s s1.tl) hr2
        have h' := Except.ok.inj h
        have hx := congrArg Prod.fst h'
        have htt := congrArg Prod.snd h'
        dsimp only at hx htt
        subst htt
        by_cases h60 : isG 60 t1 = true
        · rw [if_pos h60] at hx
          subst hx
          refine ⟨s2.tr s1.tl, by dsimp only; rw [List.length_append]; omega, cs_app c1 (by decide) c2, fun w φ hφ f l hT hb hm hs hg hl => ?_⟩
          obtain ⟨f', b, a, e1, e2⟩ := r1 w φ hφ f l hT hb hm hs hl
          obtain ⟨f2, b2, a2, e3, e4⟩ := r2 w φ hφ (kpF f, kbF f, some (y.1 φ), nI 24, nI 0, nI 20, some a, nI 0, ntF f) l hT rfl rfl rfl hl
          exact ⟨f2, _, (cRun_op e1 (show cStp w 24 (f' :: l) = some ((kpF f, kbF f, some (y.1 φ), nI 24, nI 0, nI 20, some a, nI 0, ntF f) :: l) by show (fSum f').map _ = _; rw [e2]; rfl)).trans e3, e4, rfl, rfl, rfl, rfl, rfl⟩
        · rw [if_neg h60] at hx
          subst hx
          refine ⟨s2.tr s1.tl, by dsimp only; rw [List.length_append]; omega, cs_app c1 (by decide) c2, fun w φ hφ f l hT hb hm hs hg hl => ?_⟩
          obtain ⟨f', b, a, e1, e2⟩ := r1 w φ hφ f l hT hb hm hs hl
          obtain ⟨f2, b2, a2, e3, e4⟩ := r2 w φ hφ (kpF f, kbF f, some (y.1 φ), nI 25, nI 0, nI 20, some a, nI 0, ntF f) l hT rfl rfl rfl hl
          exact ⟨f2, _, (cRun_op e1 (show cStp w 25 (f' :: l) = some ((kpF f, kbF f, some (y.1 φ), nI 25, nI 0, nI 20, some a, nI 0, ntF f) :: l) by show (fSum f').map _ = _; rw [e2]; rfl)).trans e3, e4, rfl, rfl, rfl, rfl, rfl⟩
    · cases h
      refine ⟨s1, n1, c1, fun w φ hφ f l hT hb hm hs hg hl => ?_⟩
      obtain ⟨f', b, a, e1, e2⟩ := r1 w φ hφ f l hT hb hm hs hl
      refine ⟨f', _, e1, e2, ?_, rfl, rfl, rfl, rfl⟩
      unfold fCmp
      rw [hg, if_neg (by decide), if_neg (by decide)]
theorem fVal_of {f g : Fm} {v : Int32} (h1 : fSum f = some g) (h2 : fCmp g = some v) : fVal f = fKept g v := by
  unfold fVal
  rw [h1]
  show (fCmp g).bind _ = _
  rw [h2]
  rfl
theorem t_all {N m : Nat} {ix : Nat → Nat} {part : List Tk → PEx} (hp : PCd N ix m part) : ACd N ix m (pAll part) := by
  intro ts x t hB h
  have ht := t_test hp
  unfold pAll at h
  cases hr : pTest part ts with
  | error k => rw [hr] at h; cases h
  | ok y =>
    obtain ⟨y, t1⟩ := y
    rw [hr] at h
    dsimp only at h
    obtain ⟨s1, n1, c1, r1⟩ := ht ts y t1 hB hr
    have key : ∀ (fu : Nat) (y : Ex) (t1 : List Tk), Sub t1 ts → 0 < y.2.length → (∀ c, c ∈ y.2 → c < 20000) → (∀ w φ, (∀ i, i < N → φ i = w (ix i)) → ∀ f l, Top f l → tbF f = nI 0 → smF f = nI 0 → sbF f = nI 20 → agF f = nI 0 → kbF f = nI 0 → l.length + 1 + m ≤ 6 → ∃ f' g, cRun w y.2 (f :: l) = some (f' :: l) ∧ fSum f' = some g ∧ fVal f' = some (y.1 φ) ∧ ntF g = ntF f ∧ tbF g = nI 0) → pAl part fu y t1 = .ok (x, t) → Sub t ts ∧ 0 < x.2.length ∧ (∀ c, c ∈ x.2 → c < 20000) ∧ ∀ w φ, (∀ i, i < N → φ i = w (ix i)) → ∀ f l, Top f l → tbF f = nI 0 → smF f = nI 0 → sbF f = nI 20 → agF f = nI 0 → kbF f = nI 0 → l.length + 1 + m ≤ 6 → ∃ f' g, cRun w x.2 (f :: l) = some (f' :: l) ∧ fSum f' = some g ∧ fVal f' = some (x.1 φ) ∧ ntF g = ntF f ∧ tbF g = nI 0 := by
      intro fu
      induction fu with
      | zero => intro y t1 s1 n1 c1 r1 h; cases h; exact ⟨s1, n1, c1, r1⟩
      | succ fu ih =>
        intro y t1 s1 n1 c1 r1 h
        unfold pAl at h
        split at h
        · cases hr : pTest part t1.tail with
          | error k => rw [hr] at h; cases h
          | ok z =>
            obtain ⟨z, t2⟩ := z
            rw [hr] at h
            dsimp only at h
            obtain ⟨s2, n2, c2, r2⟩ := ht t1.tail z t2 (hB.s s1.tl) hr
            split at h
            · refine ih _ t2 (s2.tr s1.tl) (by dsimp only; rw [List.length_append]; omega) (cs_app c1 (by decide) c2) (fun w φ hφ f l hT hb hm hs hg hk hl => ?_) h
              obtain ⟨f', g, e1, e2, e3, e4, e5⟩ := r1 w φ hφ f l hT hb hm hs hg hk hl
              obtain ⟨f2, g2, a1, a2, a3, a4, a5, a6, a7⟩ := r2 w φ hφ (some (y.1 φ), nI 26, ahF g, nI 0, nI 0, nI 20, tmF g, tbF g, ntF g) l (show l = [] ∨ ntF g ≠ nI 1 by rw [e4]; exact hT) e5 rfl rfl rfl hl
              refine ⟨f2, g2, (cRun_op e1 (show cStp w 26 (f' :: l) = some ((some (y.1 φ), nI 26, ahF g, nI 0, nI 0, nI 20, tmF g, tbF g, ntF g) :: l) by show (fTest f').map _ = _; unfold fTest; rw [e3, e2]; rfl)).trans a1, a2, ?_, a6.trans e4, a7⟩
              rw [fVal_of a2 a3]
              unfold fKept
              rw [a4, a5, if_pos rfl]
              rfl
            · refine ih _ t2 (s2.tr s1.tl) (by dsimp only; rw [List.length_append]; omega) (cs_app c1 (by decide) c2) (fun w φ hφ f l hT hb hm hs hg hk hl => ?_) h
              obtain ⟨f', g, e1, e2, e3, e4, e5⟩ := r1 w φ hφ f l hT hb hm hs hg hk hl
              obtain ⟨f2, g2, a1, a2, a3, a4, a5, a6, a7⟩ := r2 w φ hφ (some (y.1 φ), nI 27, ahF g, nI 0, nI 0, nI 20, tmF g, tbF g, ntF g) l (show l = [] ∨ ntF g ≠ nI 1 by rw [e4]; exact hT) e5 rfl rfl rfl hl
              refine ⟨f2, g2, (cRun_op e1 (show cStp w 27 (f' :: l) = some ((some (y.1 φ), nI 27, ahF g, nI 0, nI 0, nI 20, tmF g, tbF g, ntF g) :: l) by show (fTest f').map _ = _; unfold fTest; rw [e3, e2]; rfl)).trans a1, a2, ?_, a6.trans e4, a7⟩
              rw [fVal_of a2 a3]
              unfold fKept
              rw [a4, a5, if_neg (show ¬ nI 27 = nI 26 by decide), if_pos rfl]
              rfl
        · cases h; exact ⟨s1, n1, c1, r1⟩
    refine key t1.length y t1 s1 n1 c1 (fun w φ hφ f l hT hb hm hs hg hk hl => ?_) h
    obtain ⟨f', g, e1, e2, e3, e4, e5, e6, e7⟩ := r1 w φ hφ f l hT hb hm hs hg hl
    refine ⟨f', g, e1, e2, ?_, e6, e7⟩
    rw [fVal_of e2 e3]
    unfold fKept
    rw [e5, hk, if_neg (by decide), if_neg (by decide)]
abbrev nF (fl : Bool) : Nat := if fl = true then 4 else 6
theorem t_part {fl : Bool} : ∀ (m : Nat), PCd (nF fl) (fcC fl) m (pPart fl m) := by
  intro m
  induction m with
  | zero =>
    intro ts x t hB h
    unfold pPart at h
    split at h <;> cases h
  | succ m ih =>
    intro ts x t hB h
    rw [pPart] at h
    split at h
    · cases hf : fcI fl ts with
      | some i =>
        rw [hf] at h
        cases h
        obtain ⟨w1, w2, w3, w4, w5⟩ := fc_some hf
        refine ⟨Sub.rf.tl, Nat.succ_pos _, fun c hc => ?_, fun w φ hφ f l hl => ?_⟩
        · rw [List.mem_singleton] at hc; omega
        · have hi : i < nF fl := by
            unfold fcI at hf
            have := (whW_s hf).1
            cases fl <;> exact this
          show (cStp w (fcC fl i) (f :: l)).bind (cRun w []) = _
          have : cStp w (fcC fl i) (f :: l) = dlv (f :: l) (φ i) := by
            unfold cStp
            dsimp only
            rw [if_neg (by omega), if_neg (by omega), if_neg (by omega), if_neg (by omega), if_neg (by omega), if_neg (by omega)]
            unfold cVal
            rw [if_neg (by omega), if_pos (by omega), hφ i hi]
          rw [this]
          cases dlv (f :: l) (φ i) <;> rfl
      | none =>
        rw [hf] at h
        dsimp only at h
        split at h
        · rename_i h2
          cases h
          have hv := hB.hd h2
          refine ⟨Sub.rf.tl, Nat.succ_pos _, fun c hc => ?_, fun w φ hφ f l hl => ?_⟩
          · rw [List.mem_singleton] at hc; omega
          · show (cStp w (100 + (hdT ts).2.1) (f :: l)).bind (cRun w []) = _
            have : cStp w (100 + (hdT ts).2.1) (f :: l) = dlv (f :: l) (nI (hdT ts).2.1) := by
              unfold cStp
              dsimp only
              rw [if_neg (by omega), if_neg (by omega), if_neg (by omega), if_neg (by omega), if_neg (by omega), if_neg (by omega)]
              unfold cVal
              rw [if_pos (by omega), Nat.add_sub_cancel_left]
            rw [this]
            cases dlv (f :: l) (nI (hdT ts).2.1) <;> rfl
        · split at h
          · cases hr : pPart fl m ts.tail with
            | error k => rw [hr] at h; cases h
            | ok y =>
              obtain ⟨y, t1⟩ := y
              rw [hr] at h
              cases h
              obtain ⟨s1, n1, c1, r1⟩ := ih ts.tail y t (hB.s Sub.rf.tl) hr
              refine ⟨s1.tr Sub.rf.tl, Nat.succ_pos _, fun c hc => ?_, fun w φ hφ f l hl => ?_⟩
              · rcases List.mem_cons.mp hc with rfl | hc
                · decide
                · exact c1 c hc
              · show (cStp w 30 (f :: l)).bind (cRun w y.2) = _
                have : cStp w 30 (f :: l) = some (opn (nI 1) :: f :: l) := by
                  show (if l.length < 5 then _ else _) = _
                  rw [if_pos (by omega)]
                  rfl
                rw [this]
                show cRun w y.2 (opn (nI 1) :: f :: l) = _
                rw [r1 w φ hφ _ (f :: l) (show l.length + 1 + 1 + m ≤ 6 by omega)]
                rfl
          · cases hr : pAll (pPart fl m) ts.tail with
            | error k => rw [hr] at h; cases h
            | ok y =>
              obtain ⟨y, t1⟩ := y
              rw [hr] at h
              dsimp only at h
              obtain ⟨s1, n1, c1, r1⟩ := t_all ih ts.tail y t1 (hB.s Sub.rf.tl) hr
              cases hs : pSg 41 t1 with
              | error k => rw [hs] at h; cases h
              | ok t2 =>
                rw [hs] at h
                cases h
                have ht2 : t = t1.tail := by
                  unfold pSg at hs
                  split at hs
                  · exact (Except.ok.inj hs).symm
                  · cases hs
                refine ⟨by rw [ht2]; exact (s1.tl).tr Sub.rf.tl, Nat.succ_pos _, fun c hc => ?_, fun w φ hφ f l hl => ?_⟩
                · rw [List.cons_append, List.mem_cons, List.mem_append, List.mem_singleton] at hc
                  rcases hc with rfl | hc | rfl
                  · decide
                  · exact c1 c hc
                  · decide
                · show (cStp w 28 (f :: l)).bind (cRun w (y.2 ++ [29])) = _
                  have : cStp w 28 (f :: l) = some (opn (nI 0) :: f :: l) := by
                    show (if l.length < 5 then _ else _) = _
                    rw [if_pos (by omega)]
                    rfl
                  rw [this]
                  obtain ⟨f', g, e1, e2, e3, e4, e5⟩ := r1 w φ hφ (opn (nI 0)) (f :: l) (Or.inr (by decide)) rfl rfl rfl rfl rfl (show l.length + 1 + 1 + m ≤ 6 by omega)
                  show cRun w (y.2 ++ [29]) (opn (nI 0) :: f :: l) = _
                  rw [cRun_app, e1]
                  show (cStp w 29 (f' :: f :: l)).bind (cRun w []) = _
                  have : cStp w 29 (f' :: f :: l) = dlv (f :: l) (y.1 φ) := by
                    show (fVal f').bind (fun v => dlv (f :: l) v) = _
                    rw [e3]
                    rfl
                  rw [this]
                  cases dlv (f :: l) (y.1 φ) <;> rfl
    · cases h
theorem t_exp {fl : Bool} {ts t : List Tk} {x : Ex} (hB : TkB ts) (h : pExp fl ts = .ok (x, t)) : Sub t ts ∧ 0 < x.2.length ∧ CdOK (nF fl) (fcC fl) x.2 x.1 := by
  obtain ⟨s1, n1, c1, r1⟩ := t_all (t_part 5) ts x t hB h
  refine ⟨s1, n1, c1, fun w φ hφ => ?_⟩
  obtain ⟨f', g, e1, e2, e3, e4, e5⟩ := r1 w φ hφ (opn (nI 0)) [] (Or.inl rfl) rfl rfl rfl rfl rfl (show 0 + 1 + 5 ≤ 6 by omega)
  exact ⟨f', e1, e3⟩
