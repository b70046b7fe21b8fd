set_option maxRecDepth 100000
/-! THE WHOLE COMPONENT: a step that can be undone -/
/-- the ghosts with other steps back -/
def Gkn (G : Gh) (ow' : Nat → Nat) (w d0 cap : Nat) (x dd lk ul : Nat → Nat) : Gh := (upN (upN (upN G.1 5 d0) 6 cap) 11 w, fun k => if k = 0 then ow' else if k = 4 then x else if k = 5 then dd else if k = 6 then lk else if k = 7 then ul else G.2.1 k, G.2.2)
def oI (n i : Nat) : Nat := if n = 16 then i + 1 else i
theorem ksU_l {n : Nat} {u : Nat → Nat → Nat} {s : Nat → Nat} (hn : n ≤ 16) : ksU n u s (ksN n - 1) = s := by
  unfold ksU ksN
  by_cases h : n = 16
  · rw [if_pos h, if_pos h]; exact if_pos rfl
  · rw [if_neg h, if_neg h]; exact if_pos (by omega)
theorem ksU_o {n i : Nat} {u : Nat → Nat → Nat} {s : Nat → Nat} (hn : n ≤ 16) (hi : i + 1 < ksN n) : ksU n u s i = u (oI n i) := by
  unfold ksU oI
  unfold ksN at hi
  by_cases h : n = 16
  · rw [if_pos h] at hi ⊢
    rw [if_pos h]; exact if_neg (by omega)
  · rw [if_neg h] at hi ⊢
    rw [if_neg h]; exact if_neg (by omega)
theorem oI_lt {n i : Nat} (hi : i + 1 < ksN n) : oI n i < n := by
  unfold oI
  unfold ksN at hi
  by_cases h16 : n = 16
  · rw [if_pos h16] at hi ⊢; omega
  · rw [if_neg h16] at hi ⊢; omega
theorem oI_e {n i : Nat} (h : i + 1 + 1 = ksN n) : oI n i + 1 = n := by
  unfold oI
  unfold ksN at h
  by_cases h16 : n = 16
  · rw [if_pos h16] at h ⊢; omega
  · rw [if_neg h16] at h ⊢; omega
theorem oI_n {n i : Nat} (h : i + 1 + 1 ≠ ksN n) : oI n i + 1 ≠ n := by
  unfold oI
  unfold ksN at h
  by_cases h16 : n = 16
  · rw [if_pos h16] at h ⊢; omega
  · rw [if_neg h16] at h ⊢; omega
theorem oI_s {n i : Nat} : oI n (i + 1) = oI n i + 1 := by unfold oI; split <;> rfl
section
variable {zs ow' : Nat → Nat} {e : Nat} {σ σ1 σ' : CM} {P : CR → Prop} {S : Nat → Prop} {x0 B : Nat} {G : Gh} {a : Ab} {q : QT}
/-- a mark does not mind other steps back -/
theorem CIe.ul {w2 mm n n' d0 cap : Nat} {x dd lk ul : Nat → Nat} {qm : QT} {sm : Nat → Nat} {Lm : List It} (h : CIe σ G q n mm qm sm Lm) (hu : ∀ i, i < n' → (∃ j, j < n ∧ ul i = G.ul j) ∨ ∀ b, G.ow b < ul i) : CIe σ (Gkn G G.ow w2 d0 cap x dd lk ul) q n' mm qm sm Lm := by
  obtain ⟨na, hm, qam, fxm, tm, tlm, LL, h1, h2, h3, h4, h5, ⟨h6, h7, h8⟩, h9⟩ := h
  have mo : ∀ v, 39 < v → (∃ b, mow G.ow fxm b = v) → ∃ b, G.ow b = v := fun v hv ⟨b, hb⟩ => ⟨b, by
    unfold mow at hb
    split at hb
    · omega
    · split at hb
      · omega
      · exact hb⟩
  have tmb : ∃ b, G.ow b = tm := mo tm h6 ⟨na, h3.2.2.2.2.1 na (Nat.le_refl _) (by omega)⟩
  have tlb : ∀ d, d < qD qm → ∃ b, G.ow b = tlm d := fun d hd => mo _ (h9 d hd).1 ⟨LL d, h3.2.2.2.2.2 d hd _ (Or.inl rfl)⟩
  refine ⟨na, hm, qam, fxm, tm, tlm, LL, h1, h2, h3, h4, h5, ⟨h6, h7, fun i hi => ?_⟩, fun d hd => ⟨(h9 d hd).1, (h9 d hd).2.1, fun i hi => ?_⟩⟩
  · show ul i ≠ tm
    rcases hu i hi with ⟨j, hj, z⟩ | z
    · rw [z]; exact h8 j hj
    · obtain ⟨b, hb⟩ := tmb
      have := z b
      omega
  · show ul i ≠ tlm d
    rcases hu i hi with ⟨j, hj, z⟩ | z
    · rw [z]; exact (h9 d hd).2.2 j hj
    · obtain ⟨b, hb⟩ := tlb d hd
      have := z b
      omega
theorem CI.kn {j : Nat} {s' : Nat → Nat} (hI : CI zs σ x0 G a) (hj : j < qD a.q) (hK : KpB σ σ1 (G.A 1) G.d0 a.n G.cap G.x j (qDk a.q j) (rowOf a.s j)) (hS : Fs S σ1 σ') (hSt : ∀ b, S b → G.ow b = 1 ∨ G.ow b = G.t ∨ G.ow b = G.tl j) (N' : NightAt G.ow G.t G.tl σ' G.n0 G.qa G.fx a.q s' G.L) (hr : ∀ d, d < qD a.q → d ≠ j → rowOf s' d = rowOf a.s d) (h400 : s' 400 = a.s 400 ∧ s' 401 = a.s 401) : CO zs x0 σ G a ((a.q, s', a.Li), (ksN a.n, ksU a.n a.u a.s), a.mk, a.T) σ' := by
  have hw := hI.hw
  have h40 := hI.h40
  have f1 := hI.fx1
  have x2 := hI.x2
  obtain ⟨⟨-, t2, t3, t4, t5, t6, t7⟩, ⟨r1, -⟩, hn, hh, hd, hu, hm, ho, hz⟩ := id hI
  obtain ⟨d', cap', x', F1, A1, hx1, hx2, hc1, hc2, hd1, hd2, hd3, g1, LK⟩ := hK
  obtain ⟨⟨U1, U2, U3, U4⟩, ⟨U5, U6⟩, U7⟩ := id hu
  have w1 := F1.2.2.2
  have w' := hS.hw w1
  have s1 : σ'.1 = σ1.1 := hS.1
  have lk1 := fun b hb => LK.ltT w1 (b := b) hb
  have gl := w1 _ _ g1
  have nS : ∀ b, σ.1 ≤ b → ¬ S b := fun b hb z => by
    have := t4 b hb
    have := t7 j hj
    rcases hSt b z with y | y | y <;> omega
  have kS : ∀ b, σ.1 ≤ b → gC σ' b = gC σ1 b := fun b hb => hS.2.2.1 b (nS b hb)
  have F : Fr (fun b => b = G.A 1 ∨ (b = G.d0 ∧ 0 < G.cap) ∨ S b) 5 160 σ σ' := (F1.sub (S' := fun b => b = G.A 1 ∨ (b = G.d0 ∧ 0 < G.cap) ∨ S b) (fun b _ z => by rcases z with z | z; exact Or.inl z; exact Or.inr (Or.inl z)) (Nat.le_refl _) (Nat.le_refl _)).n hS (fun b z => Or.inr (Or.inr (Or.inr z)))
  have tn : ∀ b, b < σ.1 → (b = G.A 1 ∨ (b = G.d0 ∧ 0 < G.cap) ∨ S b) → G.ow b = 4 ∨ b = G.fx ∨ G.TN a.q (G.ow b) := fun b hb hs => by
    rcases hs with z | z | z
    · rw [z]; exact Or.inl U5
    · rw [z.1]; exact Or.inl (U6 z.2)
    · rcases hSt b z with y | y | y
      · exact Or.inr (Or.inl (t3 b y))
      · exact Or.inr (Or.inr (Or.inl y))
      · exact Or.inr (Or.inr (Or.inr ⟨j, hj, y⟩))
  have TNg : ∀ v, G.TN a.q v → 39 < v := fun v hv => by
    rcases hv with rfl | ⟨d, hd, rfl⟩
    · exact t6
    · exact t7 d hd
  have tn2 : ∀ b, b < σ.1 → (b = G.A 1 ∨ (b = G.d0 ∧ 0 < G.cap) ∨ S b) → G.ow b ≠ 0 ∧ G.ow b ≠ 2 ∧ G.ow b ≠ 3 ∧ G.ow b ≠ 5 ∧ G.ow b ≠ 6 ∧ (G.ow b < 8 ∨ 38 < G.ow b) ∧ G.ow b ≠ 39 := fun b hb hs => by
    rcases tn b hb hs with z | z | z
    · omega
    · rw [z, f1]; omega
    · have := TNg _ z; omega
  -- the new tags
  let kd := qDk a.q j
  let ow' : Nat → Nat := fun b => if b < σ.1 then G.ow b else if b = σ.1 + 1 ∨ b = σ.1 + 1 + 1 ∨ (kd ≠ 5 ∧ b = σ.1 + 1 + 2) then G.w else if b = d' then 4 else 39
  have eo : ∀ b, b < σ.1 → ow' b = G.ow b := fun b hb => if_pos hb
  have ol : ∀ b, LkT kd (σ.1 + 1) b → ow' b = G.w := fun b hb => by
    have hb' : b = σ.1 + 1 ∨ b = σ.1 + 1 + 1 ∨ (kd ≠ 5 ∧ b = σ.1 + 1 + 2) := hb
    show (if b < σ.1 then G.ow b else if b = σ.1 + 1 ∨ b = σ.1 + 1 + 1 ∨ (kd ≠ 5 ∧ b = σ.1 + 1 + 2) then G.w else if b = d' then 4 else 39) = G.w
    rw [if_neg (by omega), if_pos hb']
  have od : ow' d' = 4 := by
    rcases hd1 with ⟨z1, z2⟩ | z
    · obtain ⟨mc, ff, a1, a2, -⟩ := id U1
      rw [z1, eo _ (hw _ _ a2)]; exact U6 z2
    · show (if d' < σ.1 then G.ow d' else if d' = σ.1 + 1 ∨ d' = σ.1 + 1 + 1 ∨ (kd ≠ 5 ∧ d' = σ.1 + 1 + 2) then G.w else if d' = d' then 4 else 39) = 4
      rw [if_neg (by omega), if_neg (show ¬ (d' = σ.1 + 1 ∨ d' = σ.1 + 1 + 1 ∨ (kd ≠ 5 ∧ d' = σ.1 + 1 + 2)) from hd3), if_pos rfl]
  have o0 : ow' σ.1 = 39 := by
    show (if σ.1 < σ.1 then G.ow σ.1 else if σ.1 = σ.1 + 1 ∨ σ.1 = σ.1 + 1 + 1 ∨ (kd ≠ 5 ∧ σ.1 = σ.1 + 1 + 2) then G.w else if σ.1 = d' then 4 else 39) = 39
    rw [if_neg (by omega), if_neg (by omega), if_neg (Ne.symm hd2)]
  have dl : d' < σ1.1 := by
    obtain ⟨mc, ff, a1, a2, -⟩ := id A1
    exact w1 _ _ a2
  have o9 : ∀ b, σ'.1 ≤ b → ow' b = 39 := fun b hb => by
    have nl : ¬ LkT kd (σ.1 + 1) b := fun z => by have := lk1 b z; omega
    show (if b < σ.1 then G.ow b else if b = σ.1 + 1 ∨ b = σ.1 + 1 + 1 ∨ (kd ≠ 5 ∧ b = σ.1 + 1 + 2) then G.w else if b = d' then 4 else 39) = 39
    have := F1.1.1
    rw [if_neg (by omega), if_neg (show ¬ (b = σ.1 + 1 ∨ b = σ.1 + 1 + 1 ∨ (kd ≠ 5 ∧ b = σ.1 + 1 + 2)) from nl), if_neg (by omega)]
  have olt : ∀ b, ow' b < G.w + 1 := fun b => by
    have := t2 b
    show (if b < σ.1 then G.ow b else if b = σ.1 + 1 ∨ b = σ.1 + 1 + 1 ∨ (kd ≠ 5 ∧ b = σ.1 + 1 + 2) then G.w else if b = d' then 4 else 39) < G.w + 1
    split
    · omega
    · split
      · omega
      · split <;> omega
  have o1 : ∀ b, ow' b = 1 → b = G.fx := fun b hb => by
    by_cases h : b < σ.1
    · rw [eo b h] at hb; exact t3 b hb
    · have hb : (if b < σ.1 then G.ow b else if b = σ.1 + 1 ∨ b = σ.1 + 1 + 1 ∨ (kd ≠ 5 ∧ b = σ.1 + 1 + 2) then G.w else if b = d' then 4 else 39) = 1 := hb
      rw [if_neg h] at hb
      split at hb
      · omega
      · split at hb <;> omega
  have re : ∀ b, G.ow b ≠ 39 → ow' b = G.ow b := fun b hb => by
    by_cases h : b < σ.1
    · exact eo b h
    · exact absurd (t4 b (by omega)) hb
  have hf : ∃ Φ, gC σ' G.fx = some (.inr (0, 6, .inl Φ)) := N'.two.2
  have hxl := hw _ _ r1
  have ulw : ∀ i, i < a.n → G.ul i < G.w := fun i hi => by
    obtain ⟨-, -, ⟨b6, -⟩, -⟩ := U7 i hi
    rw [← b6 _ (Or.inl rfl)]; exact t2 _
  have n16 := U2
  have kn1 : 1 ≤ ksN a.n ∧ ksN a.n ≤ 16 := by unfold ksN; split <;> omega
  refine ⟨Gkn G ow' (G.w + 1) d' cap' x' (fun i => if i + 1 = ksN a.n then j else G.dd (oI a.n i)) (fun i => if i + 1 = ksN a.n then σ.1 + 1 else G.lk (oI a.n i)) (fun i => if i + 1 = ksN a.n then G.w else G.ul (oI a.n i)), ⟨⟨w', olt, o1, o9, by show 39 < G.w + 1; omega, t6, t7⟩, ⟨F.g hxl (fun z => (tn2 _ hxl z).2.1 x2) r1, (eo _ hxl).trans x2⟩, N'.re ⟨by omega, fun d hd => by have := t7 d hd; omega⟩ re, HiA.fr hh hw eo F (fun b hb hs => (tn2 b hb hs).1), CId.fr (r := (G.op, G.al, G.gg)) (m0 := G.m0) (w := G.w + 1) hd hw F (fun b hb hs => (tn2 b hb hs).2.2.1) eo, ?_, ⟨?_, fun k hk => ⟨(hm.2 k hk).1, fun qm sm Lm e => ?_⟩⟩, CIo.fr (r := (G.op, G.al, G.gg)) (w := G.w + 1) ho hw F (fun b hb hs => ⟨(tn2 b hb hs).2.2.2.2.1, (tn2 b hb hs).2.2.2.2.2.1⟩) eo, hz.fr hw F (fun b hb hs => (tn2 b hb hs).1) eo⟩, ⟨⟨F.1.1, ?_⟩, F.2.1.1, ?_⟩⟩
  · -- steps back
    obtain ⟨mc, ff, a1, a2, a3, a4, a5⟩ := id A1
    have FS : Fr S 0 0 σ1 σ' := hS.fr w1
    obtain ⟨mc0, ff0, bA1, -⟩ := id U1
    have lA := hw _ _ bA1
    have nA : ¬ S (G.A 1) := fun z => by have := t7 j hj; rcases hSt _ z with y | y | y <;> omega
    have nD : ¬ S d' := fun z => by
      rcases hd1 with ⟨z1, z2⟩ | y
      · rw [z1] at z
        have := U6 z2
        have := t7 j hj
        rcases hSt _ z with y | y | y <;> omega
      · exact nS d' y.1 z
    have xo : ∀ i, i + 1 < ksN a.n → x' i = G.x (oI a.n i) := fun i hi => by
      rw [hx1 i hi]
      unfold oI
      split <;> rfl
    have nX : ∀ i, i < ksN a.n → ¬ S (x' i) := fun i hi z => by
      by_cases hl : i + 1 = ksN a.n
      · have : x' i = σ.1 := by rw [← hx2, ← hl]; rfl
        rw [this] at z
        exact nS _ (Nat.le_refl _) z
      · rw [xo i (by omega)] at z
        obtain ⟨⟨-, b2, -⟩, -⟩ := U7 _ (oI_lt (n := a.n) (i := i) (by omega))
        have := t7 j hj
        rcases hSt _ z with y | y | y <;> omega
    refine ⟨⟨A1.fr w1 FS nA nD nX, kn1.2, hc2, fun z => by have z : cap' = 0 := z; omega⟩, ⟨(eo _ lA).trans U5, fun _ => od⟩, fun i hi => ?_⟩
    have hi : i < ksN a.n := hi
    by_cases hl : i + 1 = ksN a.n
    · have xi : x' i = σ.1 := by rw [← hx2, ← hl]; rfl
      have ui : ksU a.n a.u a.s i = a.s := by rw [show i = ksN a.n - 1 by omega]; exact ksU_l U2
      refine ⟨⟨?_, ?_, ?_⟩, ⟨?_, ?_⟩, ⟨fun b hb => ?_, ?_, ?_, fun jj hjj => ?_⟩, ?_, fun d hd hne => ?_⟩
      · show gC σ' (x' i) = some (.inl (29, [.int (nI (if i + 1 = ksN a.n then j else G.dd (oI a.n i))), .ref (if i + 1 = ksN a.n then σ.1 + 1 else G.lk (oI a.n i))]))
        rw [xi, if_pos hl, if_pos hl, kS _ (Nat.le_refl _)]
        exact g1
      · show ow' (x' i) = 39
        rw [xi]; exact o0
      · show (if i + 1 = ksN a.n then j else G.dd (oI a.n i)) < qD a.q
        rw [if_pos hl]; exact hj
      · show LockAt σ' (if i + 1 = ksN a.n then σ.1 + 1 else G.lk (oI a.n i)) (qDk a.q (if i + 1 = ksN a.n then j else G.dd (oI a.n i))) (rowOf (ksU a.n a.u a.s i) (if i + 1 = ksN a.n then j else G.dd (oI a.n i)))
        rw [if_pos hl, if_pos hl, ui]
        exact LK.kT (fun b hb => kS b (by have hb : b = σ.1 + 1 ∨ b = σ.1 + 1 + 1 ∨ (kd ≠ 5 ∧ b = σ.1 + 1 + 2) := hb; omega))
      · show NV (qDk a.q (if i + 1 = ksN a.n then j else G.dd (oI a.n i))) (rowOf (ksU a.n a.u a.s i) (if i + 1 = ksN a.n then j else G.dd (oI a.n i)))
        rw [if_pos hl, ui]
        exact (hn.2.2.1 j hj).2
      · have hb : LkT (qDk a.q (if i + 1 = ksN a.n then j else G.dd (oI a.n i))) (if i + 1 = ksN a.n then σ.1 + 1 else G.lk (oI a.n i)) b := hb
        show ow' b = (if i + 1 = ksN a.n then G.w else G.ul (oI a.n i))
        rw [if_pos hl] at hb ⊢
        rw [if_pos hl] at hb
        exact ol b hb
      · show 39 < (if i + 1 = ksN a.n then G.w else G.ul (oI a.n i))
        rw [if_pos hl]; exact t5
      · show ¬ G.TN a.q (if i + 1 = ksN a.n then G.w else G.ul (oI a.n i))
        rw [if_pos hl]
        intro z
        rcases z with z | ⟨d, hd, z⟩
        · have := t2 G.n0
          rw [hn.2.2.2.2.1 G.n0 (Nat.le_refl _) (by omega)] at this
          omega
        · have := t2 (G.L d)
          rw [hn.2.2.2.2.2 d hd _ (Or.inl rfl)] at this
          omega
      · show (if jj + 1 = ksN a.n then G.w else G.ul (oI a.n jj)) ≠ (if i + 1 = ksN a.n then G.w else G.ul (oI a.n i))
        rw [if_pos hl, if_neg (by omega)]
        have := ulw _ (oI_lt (n := a.n) (i := jj) (by omega))
        omega
      · show ksU a.n a.u a.s i 400 = s' 400 ∧ ksU a.n a.u a.s i 401 = s' 401
        rw [ui, h400.1, h400.2]; exact ⟨rfl, rfl⟩
      · have hne : d ≠ (if i + 1 = ksN a.n then j else G.dd (oI a.n i)) := hne
        rw [if_pos hl] at hne
        show rowOf (if i + 1 = ksN a.n then s' else ksU a.n a.u a.s (i + 1)) d = rowOf (ksU a.n a.u a.s i) d
        rw [if_pos hl, ui]
        exact hr d hd hne
    · have hi1 : i + 1 < ksN a.n := by omega
      have ho := oI_lt hi1
      have ui := ksU_o (u := a.u) (s := a.s) U2 hi1
      obtain ⟨⟨b1, b2, b3⟩, ⟨b4, b5⟩, ⟨b6, b7, b8, b9⟩, b10, b11⟩ := U7 _ ho
      have lx := hw _ _ b1
      have ns : ∀ b, b < σ.1 → G.ow b = 39 ∨ G.ow b = G.ul (oI a.n i) → ¬ (b = G.A 1 ∨ (b = G.d0 ∧ 0 < G.cap) ∨ S b) := fun b hb h z => by
        rcases h with h | h
        · exact (tn2 b hb z).2.2.2.2.2.2 h
        · rcases tn b hb z with y | y | y
          · omega
          · rw [y, f1] at h; omega
          · rw [h] at y; exact b8 y
      refine ⟨⟨?_, ?_, ?_⟩, ⟨?_, ?_⟩, ⟨fun b hb => ?_, ?_, ?_, fun jj hjj => ?_⟩, ?_, fun d hd hne => ?_⟩
      · show gC σ' (x' i) = some (.inl (29, [.int (nI (if i + 1 = ksN a.n then j else G.dd (oI a.n i))), .ref (if i + 1 = ksN a.n then σ.1 + 1 else G.lk (oI a.n i))]))
        rw [xo i hi1, if_neg hl, if_neg hl]
        exact F.g lx (ns _ lx (Or.inl b2)) b1
      · show ow' (x' i) = 39
        rw [xo i hi1, eo _ lx]; exact b2
      · show (if i + 1 = ksN a.n then j else G.dd (oI a.n i)) < qD a.q
        rw [if_neg hl]; exact b3
      · show LockAt σ' (if i + 1 = ksN a.n then σ.1 + 1 else G.lk (oI a.n i)) (qDk a.q (if i + 1 = ksN a.n then j else G.dd (oI a.n i))) (rowOf (ksU a.n a.u a.s i) (if i + 1 = ksN a.n then j else G.dd (oI a.n i)))
        rw [if_neg hl, if_neg hl, ui]
        exact b4.kT (fun b hb => F.2.2.1 b (b4.ltT hw hb) (ns _ (b4.ltT hw hb) (Or.inr (b6 b hb))))
      · show NV (qDk a.q (if i + 1 = ksN a.n then j else G.dd (oI a.n i))) (rowOf (ksU a.n a.u a.s i) (if i + 1 = ksN a.n then j else G.dd (oI a.n i)))
        rw [if_neg hl, ui]
        exact b5
      · have hb : LkT (qDk a.q (if i + 1 = ksN a.n then j else G.dd (oI a.n i))) (if i + 1 = ksN a.n then σ.1 + 1 else G.lk (oI a.n i)) b := hb
        show ow' b = (if i + 1 = ksN a.n then G.w else G.ul (oI a.n i))
        rw [if_neg hl] at hb ⊢
        rw [if_neg hl] at hb
        rw [eo _ (b4.ltT hw hb)]
        exact b6 b hb
      · show 39 < (if i + 1 = ksN a.n then G.w else G.ul (oI a.n i))
        rw [if_neg hl]; exact b7
      · show ¬ G.TN a.q (if i + 1 = ksN a.n then G.w else G.ul (oI a.n i))
        rw [if_neg hl]; exact b8
      · show (if jj + 1 = ksN a.n then G.w else G.ul (oI a.n jj)) ≠ (if i + 1 = ksN a.n then G.w else G.ul (oI a.n i))
        rw [if_neg hl, if_neg (by omega)]
        exact b9 _ (by unfold oI; split <;> omega)
      · show ksU a.n a.u a.s i 400 = s' 400 ∧ ksU a.n a.u a.s i 401 = s' 401
        rw [ui, h400.1, h400.2]; exact b10
      · have hne : d ≠ (if i + 1 = ksN a.n then j else G.dd (oI a.n i)) := hne
        rw [if_neg hl] at hne
        have key := b11 d hd hne
        show rowOf (if i + 1 = ksN a.n then s' else ksU a.n a.u a.s (i + 1)) d = rowOf (ksU a.n a.u a.s i) d
        rw [if_neg hl, ui, ← key]
        by_cases hl2 : i + 1 + 1 = ksN a.n
        · rw [show i + 1 = ksN a.n - 1 by omega, ksU_l U2]
          have : oI a.n i + 1 = a.n := oI_e hl2
          unfold Ab.un
          rw [if_pos this]
        · rw [ksU_o U2 (by omega), oI_s]
          have : oI a.n i + 1 ≠ a.n := oI_n hl2
          unfold Ab.un
          rw [if_neg this]
  · have l7 := hw _ _ hm.1.1
    exact ⟨F.g l7 (fun z => (tn2 _ l7 z).2.2.2.1 hm.1.2) hm.1.1, (eo _ l7).trans hm.1.2⟩
  · obtain ⟨mm, h4, h5⟩ := (hm.2 k hk).2 qm sm Lm e
    have h6 := h5.ul (w2 := G.w) (n' := ksN a.n) (d0 := d') (cap := cap') (x := x') (dd := fun i => if i + 1 = ksN a.n then j else G.dd (oI a.n i)) (lk := fun i => if i + 1 = ksN a.n then σ.1 + 1 else G.lk (oI a.n i)) (ul := fun i => if i + 1 = ksN a.n then G.w else G.ul (oI a.n i)) (fun i hi => by
      by_cases hl : i + 1 = ksN a.n
      · rw [if_pos hl]; exact Or.inr t2
      · rw [if_neg hl]; exact Or.inl ⟨_, oI_lt (by omega), rfl⟩)
    exact ⟨mm, h4, h6.fr (r := (G.op, G.al, G.gg)) (m0 := G.m0) (w := G.w + 1) hw F (fun b hb hs => by
      rcases tn b hb hs with z | z | z
      · exact Or.inr (Or.inl ⟨show 2 ≤ G.ow b by omega, show G.ow b ≤ 38 by omega⟩)
      · exact Or.inl z
      · exact Or.inr (Or.inr z)) h40 f1 hf eo⟩
  · have := F.1.2
    show σ'.1 + 3 * G.m0 + 8 * a.T.1 ≤ _
    omega
  · have := F.2.1.2
    show σ'.2.1 + 49 * G.m0 + 2100 * a.T.1 ≤ _
    omega
end
