set_option maxRecDepth 100000
/-! THE WHOLE COMPONENT: nights kept, tags changed -/
section
variable {zs ow ow' tl : Nat → Nat} {σ σ' : CM} {t n0 qa fx hl : Nat} {q : QT} {s L : Nat → Nat} {Li : List It}
/-- tags that say something are kept -/
theorem LawC.re {x : Value} {n : Nat} {o : Option Law} (h : LawC (Zo ow) σ x n o) (e : ∀ b, ow b ≠ 39 → ow' b = ow b) : LawC (Zo ow') σ x n o := by
  cases o with
  | none => exact h
  | some F =>
    obtain ⟨⟨ea, m, h1, h2, h3⟩, h4⟩ := h
    exact ⟨⟨ea, m, h1, h2, h3.mo (fun b (hb : ow b = 0) => show ow' b = 0 by rw [e b (by omega)]; exact hb) (Nat.le_refl _)⟩, h4⟩
theorem AL.re {l n : Nat} {x : Nat → Nat} (h : AL (Zo ow) σ l n x) (e : ∀ b, ow b ≠ 39 → ow' b = ow b) : AL (Zo ow') σ l n x := by
  obtain ⟨mc, d, cap, f, a1, a2, a3, a4, a5, a6⟩ := h
  have a5 : ow l = 0 := a5
  have a6 : ow d = 0 := a6
  exact ⟨mc, d, cap, f, a1, a2, a3, a4, show ow' l = 0 by rw [e l (by omega)]; exact a5, show ow' d = 0 by rw [e d (by omega)]; exact a6⟩
theorem QC.re (h : QC ow σ qa fx q) (e : ∀ b, ow b ≠ 39 → ow' b = ow b) : QC ow' σ qa fx q := by
  obtain ⟨hl, nl, ka, na, sl, fo, xl, xe, hx, mx, dx, sx, ⟨a1, a2⟩, ⟨b1, b2⟩, ⟨c1, c2, ⟨c3, c5⟩, c6, c8⟩, ⟨d1, d2⟩, ⟨e1, e2⟩, f1, f2, f3, f4⟩ := h
  have z : ∀ b, ow b = 0 → ow' b = 0 := fun b hb => by rw [e b (by omega)]; exact hb
  exact ⟨hl, nl, ka, na, sl, fo, xl, xe, hx, mx, dx, sx, ⟨a1, z _ a2⟩, ⟨b1.re e, fun h hh => ⟨(b2 h hh).1, z _ (b2 h hh).2.1, (b2 h hh).2.2.1, z _ (b2 h hh).2.2.2⟩⟩, ⟨c1.re e, fun d hd => ⟨(c2 d hd).1, z _ (c2 d hd).2⟩, ⟨c3, z _ c5⟩, c6, z _ c8⟩, ⟨d1.re e, fun k hk => ⟨(d2 k hk).1, z _ (d2 k hk).2⟩⟩, ⟨e1.re e, e2.re e⟩, f1, z _ f2, by rw [e fx (by omega)]; exact f3, f4⟩
theorem HiA.re (h : HiA ow σ hl Li) (e : ∀ b, ow b ≠ 39 → ow' b = ow b) : HiA ow' σ hl Li := by
  obtain ⟨hx, h1, h2⟩ := h
  exact ⟨hx, h1.re e, fun i hi => ⟨(h2 i hi).1, by rw [e _ (by rw [(h2 i hi).2]; omega)]; exact (h2 i hi).2⟩⟩
theorem NightAt.re (h : NightAt ow t tl σ n0 qa fx q s L) (h39 : t ≠ 39 ∧ ∀ d, d < qD q → tl d ≠ 39) (e : ∀ b, ow b ≠ 39 → ow' b = ow b) : NightAt ow' t tl σ n0 qa fx q s L := by
  obtain ⟨h0, hQ, hL, hT, ht, hl⟩ := h
  exact ⟨h0, hQ.re e, hL, hT, fun b h1 h2 => by rw [e b (by rw [ht b h1 h2]; exact h39.1)]; exact ht b h1 h2, fun d hd b hb => by rw [e b (by rw [hl d hd b hb]; exact h39.2 d hd)]; exact hl d hd b hb⟩
/-- only the scratch arrays of the night's feelings may change -/
theorem NightAt.f3 {S : Nat → Prop} {c m : Nat} (h : NightAt ow t tl σ n0 qa fx q s L) (hw : HW σ) (hF : Fr S c m σ σ') (hn : ∀ b, b < σ.1 → S b → b = fx ∨ b = n0 + 3 ∨ (ow b ≠ 0 ∧ ow b ≠ 1 ∧ ow b ≠ t ∧ ∀ d, d < qD q → ow b ≠ tl d)) (h3 : ∃ F, gC σ' (n0 + 3) = some (.inr (0, 4, .inl F))) (hf : ∃ Φ, gC σ' fx = some (.inr (0, 6, .inl Φ))) : NightAt ow t tl σ' n0 qa fx q s L := by
  obtain ⟨hne, ho0, ho1⟩ := h.felt
  obtain ⟨F0, g3⟩ : ∃ F, gC σ (n0 + 3) = some (.inr (0, 4, .inl F)) := by obtain ⟨⟨h0, lf, kf, hNB, hlf⟩, -⟩ := id h; exact hNB.2.2.1
  obtain ⟨Φ0, gf⟩ : ∃ Φ, gC σ fx = some (.inr (0, 6, .inl Φ)) := by obtain ⟨-, hQ, -⟩ := id h; obtain ⟨hl, nl, ka, na, sl, fo, xl, xe, hx, mx, dx, sx, -, -, -, -, -, -, -, -, f4⟩ := hQ; exact f4
  have ofx : ow fx = 1 := by obtain ⟨-, hQ, -⟩ := id h; obtain ⟨hl, nl, ka, na, sl, fo, xl, xe, hx, mx, dx, sx, -, -, -, -, -, -, -, f3, -⟩ := hQ; exact f3
  obtain ⟨F1, g3'⟩ := h3
  obtain ⟨Φ1, gf'⟩ := hf
  have S2 : Fs (fun b => b = fx ∨ b = n0 + 3) σ' (pC (pC σ' fx (.inr (0, 6, .inl Φ0))) (n0 + 3) (.inr (0, 4, .inl F0))) := (Fs.rf.p gf' (Or.inl rfl)).p (by rw [gC_ne (Ne.symm hne)]; exact g3') (Or.inr rfl)
  have F2 : Fr (fun b => S b ∧ b ≠ fx ∧ b ≠ n0 + 3) c m σ (pC (pC σ' fx (.inr (0, 6, .inl Φ0))) (n0 + 3) (.inr (0, 4, .inl F0))) := by
    refine ⟨hF.1, hF.2.1, fun b hb hs => ?_, S2.hw hF.2.2.2⟩
    by_cases b3 : b = n0 + 3
    · rw [b3, gC_self, g3]
    · rw [gC_ne b3]
      by_cases bf : b = fx
      · rw [bf, gC_self, gf]
      · rw [gC_ne bf]
        exact hF.2.2.1 b hb (fun z => hs ⟨z, bf, b3⟩)
  have N2 := h.fr hw F2 (fun b hb hs => by
    rcases hn b hb hs.1 with z | z | z
    · exact absurd z hs.2.1
    · exact absurd z hs.2.2
    · exact z)
  have S3 : Fs (fun b => b = fx ∨ b = n0 + 3) (pC (pC σ' fx (.inr (0, 6, .inl Φ0))) (n0 + 3) (.inr (0, 4, .inl F0))) σ' := by
    refine ⟨rfl, rfl, fun b hb => ?_, fun b c hb => ?_⟩
    · have hb : ¬ (b = fx ∨ b = n0 + 3) := hb
      rw [gC_ne (fun z => hb (Or.inr z)), gC_ne (fun z => hb (Or.inl z))]
    · by_cases b3 : b = n0 + 3
      · rw [b3, gC_self]; exact ⟨_, rfl⟩
      · rw [gC_ne b3]
        by_cases bf : b = fx
        · rw [bf, gC_self]; exact ⟨_, rfl⟩
        · rw [gC_ne bf]; exact ⟨c, hb⟩
  refine N2.k (N2.2.1.k (fun b hb => S3.2.2.1 b (fun z => ?_)) (fun Φ _ => ⟨Φ1, gf'⟩)) S3 ⟨F1, g3'⟩
  rcases z with z | z
  · rw [z] at hb; omega
  · rw [z] at hb; exact ho0 hb
/-- the two arrays, from any night that stands there -/
theorem NightAt.two (h : NightAt ow t tl σ n0 qa fx q s L) : (∃ F, gC σ (n0 + 3) = some (.inr (0, 4, .inl F))) ∧ ∃ Φ, gC σ fx = some (.inr (0, 6, .inl Φ)) := by
  obtain ⟨⟨h0, lf, kf, hNB, hlf⟩, hQ, -⟩ := h
  obtain ⟨hl, nl, ka, na, sl, fo, xl, xe, hx, mx, dx, sx, -, -, -, -, -, -, -, -, f4⟩ := hQ
  exact ⟨hNB.2.2.1, f4⟩
end
/-! what it holds -/
/-- ghosts: numbers, functions, the root's own values, the reader's, the marks -/
abbrev Gh : Type := (Nat → Nat) × (Nat → Nat → Nat) × (Int32 × Int32 × Int64) × (Value × Int32) × (Nat → Option Nat)
abbrev Gh.t (G : Gh) : Nat := G.1 0
abbrev Gh.n0 (G : Gh) : Nat := G.1 1
abbrev Gh.qa (G : Gh) : Nat := G.1 2
abbrev Gh.fx (G : Gh) : Nat := G.1 3
abbrev Gh.hl (G : Gh) : Nat := G.1 4
abbrev Gh.d0 (G : Gh) : Nat := G.1 5
abbrev Gh.cap (G : Gh) : Nat := G.1 6
abbrev Gh.fa (G : Gh) : Nat := G.1 7
abbrev Gh.pt (G : Gh) : Nat := G.1 8
abbrev Gh.dp (G : Gh) : Nat := G.1 9
abbrev Gh.m0 (G : Gh) : Nat := G.1 10
abbrev Gh.w (G : Gh) : Nat := G.1 11
abbrev Gh.ow (G : Gh) : Nat → Nat := G.2.1 0
abbrev Gh.tl (G : Gh) : Nat → Nat := G.2.1 1
abbrev Gh.L (G : Gh) : Nat → Nat := G.2.1 2
abbrev Gh.A (G : Gh) : Nat → Nat := G.2.1 3
abbrev Gh.x (G : Gh) : Nat → Nat := G.2.1 4
abbrev Gh.dd (G : Gh) : Nat → Nat := G.2.1 5
abbrev Gh.lk (G : Gh) : Nat → Nat := G.2.1 6
abbrev Gh.ul (G : Gh) : Nat → Nat := G.2.1 7
abbrev Gh.C (G : Gh) : Nat → Nat := G.2.1 8
abbrev Gh.op (G : Gh) : Int32 := G.2.2.1.1
abbrev Gh.al (G : Gh) : Int32 := G.2.2.1.2.1
abbrev Gh.gg (G : Gh) : Int64 := G.2.2.1.2.2
abbrev Gh.dr (G : Gh) : Value := G.2.2.2.1.1
abbrev Gh.hg (G : Gh) : Int32 := G.2.2.2.1.2
abbrev Gh.mf (G : Gh) : Nat → Option Nat := G.2.2.2.2
/-- the abstract state: quarter, row, history; steps back; marks; tape -/
abbrev Ab : Type := (QT × (Nat → Nat) × List It) × (Nat × (Nat → Nat → Nat)) × MkT × TP
abbrev Ab.q (a : Ab) : QT := a.1.1
abbrev Ab.s (a : Ab) : Nat → Nat := a.1.2.1
abbrev Ab.Li (a : Ab) : List It := a.1.2.2
abbrev Ab.n (a : Ab) : Nat := a.2.1.1
abbrev Ab.u (a : Ab) : Nat → Nat → Nat := a.2.1.2
abbrev Ab.mk (a : Ab) : MkT := a.2.2.1
abbrev Ab.T (a : Ab) : TP := a.2.2.2
/-- the row before the i-th step back, the next one -/
def Ab.un (a : Ab) (i : Nat) : Nat → Nat := if i = a.n then a.s else a.u i
/-- tags of the night at hand -/
def Gh.TN (G : Gh) (q : QT) (v : Nat) : Prop := v = G.t ∨ ∃ d, d < qD q ∧ v = G.tl d
/-- the tags as a mark's night sees them -/
def mow (ow : Nat → Nat) (fxm : Nat) : Nat → Nat := fun b => if b = fxm then 1 else if ow b = 1 then 39 else ow b
def CIt (σ : CM) (G : Gh) (q : QT) : Prop := HW σ ∧ (∀ b, G.ow b < G.w) ∧ (∀ b, G.ow b = 1 → b = G.fx) ∧ (∀ b, σ.1 ≤ b → G.ow b = 39) ∧ 39 < G.w ∧ 39 < G.t ∧ ∀ d, d < qD q → 39 < G.tl d
def CIr (σ : CM) (x0 : Nat) (G : Gh) : Prop := gC σ x0 = some (.inl (0, rtF G.n0 G.hl G.op G.al G.gg G.A)) ∧ G.ow x0 = 2
def CIn (σ : CM) (G : Gh) (a : Ab) : Prop := NightAt G.ow G.t G.tl σ G.n0 G.qa G.fx a.q a.s G.L
def CIh (σ : CM) (G : Gh) (a : Ab) : Prop := HiA G.ow σ G.hl a.Li
def CId (zs : Nat → Nat) (σ : CM) (G : Gh) (T : TP) : Prop := RdT σ (G.A 0) G.C G.dr G.hg G.fa (nI G.pt) (nI G.dp) T ∧ RdK zs σ G.C ∧ CuA σ G.C [] ∧ G.C 7 ≠ G.C 9 ∧ G.ow (G.A 0) = 3 ∧ ∀ k, k < 10 → G.ow (G.C k) = 3
/-- a step back that is kept -/
def CIb (σ : CM) (G : Gh) (a : Ab) (i : Nat) : Prop := (gC σ (G.x i) = some (.inl (29, [.int (nI (G.dd i)), .ref (G.lk i)])) ∧ G.ow (G.x i) = 39 ∧ G.dd i < qD a.q) ∧ (LockAt σ (G.lk i) (qDk a.q (G.dd i)) (rowOf (a.u i) (G.dd i)) ∧ NV (qDk a.q (G.dd i)) (rowOf (a.u i) (G.dd i))) ∧ ((∀ b, LkT (qDk a.q (G.dd i)) (G.lk i) b → G.ow b = G.ul i) ∧ 39 < G.ul i ∧ ¬ G.TN a.q (G.ul i) ∧ ∀ j, j < i → G.ul j ≠ G.ul i) ∧ (a.u i 400 = a.s 400 ∧ a.u i 401 = a.s 401) ∧ ∀ d, d < qD a.q → d ≠ G.dd i → rowOf (a.un (i + 1)) d = rowOf (a.u i) d
def CIu (zs : Nat → Nat) (σ : CM) (G : Gh) (a : Ab) : Prop := (ALm σ (G.A 1) G.d0 a.n G.cap G.x ∧ a.n ≤ 16 ∧ G.cap ≤ 42 ∧ (G.cap = 0 → G.d0 = zs 101)) ∧ (G.ow (G.A 1) = 4 ∧ (0 < G.cap → G.ow G.d0 = 4)) ∧ ∀ i, i < a.n → CIb σ G a i
/-- a mark -/
def CIe (σ : CM) (G : Gh) (q : QT) (n : Nat) (m : Nat) (qm : QT) (sm : Nat → Nat) (Lm : List It) : Prop := ∃ na hm qam fxm tm tlm LL, gC σ m = some (.inl (30, [.ref na, .ref hm])) ∧ G.ow m = 39 ∧ NightAt (mow G.ow fxm) tm tlm σ na qam fxm qm sm LL ∧ HiA (mow G.ow fxm) σ hm Lm ∧ (fxm = G.fx ∨ G.ow fxm = 39) ∧ (39 < tm ∧ ¬ G.TN q tm ∧ ∀ i, i < n → G.ul i ≠ tm) ∧ ∀ d, d < qD qm → 39 < tlm d ∧ ¬ G.TN q (tlm d) ∧ ∀ i, i < n → G.ul i ≠ tlm d
def CIm (σ : CM) (G : Gh) (a : Ab) : Prop := (gC σ (G.A 7) = some (.inr (6, 4, .inr (.inr (.inr (.inr G.mf))))) ∧ G.ow (G.A 7) = 5) ∧ ∀ k, k < 4 → (a.mk k).isSome = (G.mf k).isSome ∧ ∀ qm sm Lm, a.mk k = some (qm, sm, Lm) → ∃ m, G.mf k = some m ∧ CIe σ G a.q a.n m qm sm Lm
def BrX (σ : CM) (ow : Nat → Nat) (x0 dp rw lk : Nat) : Prop := ∃ v G, gC σ dp = some (.inl (31, [.ref rw, .ref lk, .ref x0, .int v, .ref x0])) ∧ (∃ lf, gC σ lk = some (.inr (5, 5, .inr (.inr (.inr (.inr lf)))))) ∧ gC σ rw = some (.inr (0, 4, .inl G)) ∧ ow dp = 6 ∧ ow lk = 6 ∧ ow rw = 6
def TnX (σ : CM) (ow : Nat → Nat) (x0 dp rw lk : Nat) : Prop := ∃ G, gC σ dp = some (.inl (32, [.ref rw, .ref lk, .ref x0, .ref x0])) ∧ (∃ lf, gC σ lk = some (.inr (5, 5, .inr (.inr (.inr (.inr lf)))))) ∧ gC σ rw = some (.inr (0, 4, .inl G)) ∧ ow dp = 6 ∧ ow lk = 6 ∧ ow rw = 6
def CIo (σ : CM) (x0 : Nat) (G : Gh) : Prop := (∃ rw lk rw' lk', BrX σ G.ow x0 (G.A 2) rw lk ∧ TnX σ G.ow x0 (G.A 5) rw' lk' ∧ rw ≠ rw' ∧ lk ≠ lk') ∧ ErA σ G.ow x0 (G.A 3) ∧ FtA G.ow σ (G.A 4) G.m0 ∧ GmA σ G.ow x0 (G.A 6)
def CIz (zs : Nat → Nat) (σ : CM) (G : Gh) : Prop := LgC zs σ ∧ (∀ i, i < 256 → G.ow (zs (200 + i)) = 0) ∧ gC σ (zs 101) = some (.inr (4, 0, .inr (.inr (.inr (.inr (fun _ => none)))))) ∧ G.ow (zs 101) = 0
def CI (zs : Nat → Nat) (σ : CM) (x0 : Nat) (G : Gh) (a : Ab) : Prop := CIt σ G a.q ∧ CIr σ x0 G ∧ CIn σ G a ∧ CIh σ G a ∧ CId zs σ G a.T ∧ CIu zs σ G a ∧ CIm σ G a ∧ CIo σ x0 G ∧ CIz zs σ G
