set_option maxRecDepth 100000
/-! THE COMPONENT's reader: the draft of a quarter -/
/-- what an owner's cells keep -/
def Kd (t : Nat) (w w' : Nat → Nat) (σ σ' : CM) : Prop := ∀ b c, gC σ b = some c → w' b = w b ∧ (w b = t ∨ w b = 0 → gC σ' b = gC σ b)
theorem Kd.g {t : Nat} {w w' : Nat → Nat} {σ σ' : CM} (h : Kd t w w' σ σ') {b : Nat} {c : Cl} (hb : gC σ b = some c) (hw : w b = t ∨ w b = 0) : gC σ' b = some c := ((h b c hb).2 hw).trans hb
theorem ALm.kd {t : Nat} {w w' : Nat → Nat} {σ σ' : CM} {l d n cap : Nat} {x : Nat → Nat} (h : ALm σ l d n cap x) (K : Kd t w w' σ σ') (hl : w l = t) (hd : w d = t) (hx : ∀ i, i < n → w (x i) = 0) : ALm σ' l d n cap x ∧ w' l = t ∧ w' d = t := by
  obtain ⟨mc, f, h1, h2, h3, h4, h5⟩ := h
  refine ⟨⟨mc, f, K.g h1 (Or.inl hl), K.g h2 (Or.inl hd), h3, fun i hi => ⟨(h4 i hi).1, ?_⟩, h5⟩, (K _ _ h1).1.trans hl, (K _ _ h2).1.trans hd⟩
  rcases (h4 i hi).2 with ⟨c, hc⟩ | ⟨r, hr⟩
  · exact Or.inl ⟨c, K.g hc (Or.inr (hx i hi))⟩
  · exact Or.inr ⟨r, K.g hr (Or.inr (hx i hi))⟩
def DHs (w : Nat → Nat) (σ : CM) (lo : Nat) (q : QT) (hd ch : Nat) (hx mx : Nat → Nat) : Prop := ALm σ (lo + 1) hd (qH q) ch hx ∧ (w (lo + 1) = 2 ∧ w hd = 2 ∧ lo ≤ hd) ∧ (0 < ch ∧ ch ≤ 2 * qH q + 10) ∧ ∀ h, h < qH q → (HandAt σ (hx h) (qK q h) (qN q h) (mx h) (qSl q h) (qTr q h) ∧ qK q h ≤ 4 ∧ w (hx h) = 0 ∧ lo ≤ hx h) ∧ IA σ (mx h) 4 (fun k => qM q (4 * h + k)) ∧ w (mx h) = 0 ∧ lo ≤ mx h
def DDs (zs : Nat → Nat) (w : Nat → Nat) (σ : CM) (lo : Nat) (q : QT) (nd cn : Nat) (dx : Nat → Nat) : Prop := ALm σ (lo + 3) nd (qD q) cn dx ∧ (w (lo + 3) = 3 ∧ w nd = 3 ∧ lo ≤ nd) ∧ (0 < cn ∧ cn ≤ 2 * qD q + 10) ∧ ∀ d, d < qD q → LongAt σ (dx d) (qDn q d) ∧ w (dx d) = 0 ∧ (lo ≤ dx d ∨ ∃ i, i < 256 ∧ dx d = zs (200 + i))
def DAs (w : Nat → Nat) (σ : CM) (lo : Nat) (q : QT) : Prop := ((∃ F, gC σ (lo + 5) = some (.inr (0, 5, .inl F)) ∧ ∀ d, d < qD q → F d = nI (q.2.1 9 d)) ∧ w (lo + 5) = 4) ∧ (∃ F, gC σ (lo + 6) = some (.inr (0, 5, .inl F)) ∧ ∀ d, d < qD q → F d = nI (q.2.1 10 d)) ∧ w (lo + 6) = 4
def DSs (w : Nat → Nat) (σ : CM) (lo : Nat) (q : QT) (sd cs : Nat) (sx : Nat → Nat) : Prop := ALm σ (lo + 7) sd (qS q) cs sx ∧ (w (lo + 7) = 6 ∧ w sd = 6 ∧ lo ≤ sd) ∧ (0 < cs ∧ cs ≤ 2 * qS q + 10) ∧ ∀ k, k < qS q → IA σ (sx k) 2 (fun i => if i = 0 then qA q k else qB q k) ∧ w (sx k) = 0 ∧ lo ≤ sx k
def Zw (w : Nat → Nat) (lo : Nat) : Nat → Prop := fun b => w b = 0 ∧ lo ≤ b
def DLs (w : Nat → Nat) (σ : CM) (lo : Nat) (q : QT) (xl xe : Value) : Prop := LawC (Zw w lo) σ xl 6 (qL q) ∧ LawC (Zw w lo) σ xe 4 (qE q)
def DFs (w : Nat → Nat) (σ : CM) (lo : Nat) : Prop := gC σ (lo + 9) = some (.inl (4, [.ref (lo + 10)])) ∧ w (lo + 9) = 0 ∧ w (lo + 10) = 7 ∧ ∃ Φ, gC σ (lo + 10) = some (.inr (0, 6, .inl Φ))
/-- the draft -/
def DrO (zs : Nat → Nat) (w : Nat → Nat) (lo ra : Nat) (σ : CM) (q : QT) (a : Nat) : Prop := ∃ hd ch nd cn sd cs hx mx dx sx xl xe, (gC σ lo = some (.inl (3, qFs q (lo + 1) (lo + 3) (lo + 5) (lo + 6) (lo + 7) (lo + 9) xl xe)) ∧ w lo = 1) ∧ DHs w σ lo q hd ch hx mx ∧ DDs zs w σ lo q nd cn dx ∧ DAs w σ lo q ∧ DSs w σ lo q sd cs sx ∧ DLs w σ lo q xl xe ∧ DFs w σ lo ∧ ((∀ b, σ.1 ≤ b → w b = 0) ∧ w ra = 9 ∧ ra < lo ∧ ∀ b, b < lo → b ≠ ra → w b = 0) ∧ (qH q ≤ 7 ∧ qD q ≤ 5 ∧ qX q ≤ 1 ∧ 3 * qS q ≤ a)
section
variable {zs w w' : Nat → Nat} {σ σ' : CM} {lo ra : Nat} {q : QT} {hd ch nd cn sd cs : Nat} {hx mx dx sx : Nat → Nat} {xl xe : Value} {a : Nat}
theorem DHs.k (h : DHs w σ lo q hd ch hx mx) (K : Kd 2 w w' σ σ') : DHs w' σ' lo q hd ch hx mx := by
  obtain ⟨h1, ⟨h2, h3, h4⟩, h5, h6⟩ := h
  obtain ⟨A, A1, A2⟩ := h1.kd K h2 h3 (fun i hi => (h6 i hi).1.2.2.1)
  refine ⟨A, ⟨A1, A2, h4⟩, h5, fun h hh => ?_⟩
  obtain ⟨⟨x1, x2, x3, x4⟩, ⟨F, x5, x5'⟩, x6, x7⟩ := h6 h hh
  exact ⟨⟨K.g x1 (Or.inr x3), x2, (K _ _ x1).1.trans x3, x4⟩, ⟨F, K.g x5 (Or.inr x6), x5'⟩, (K _ _ x5).1.trans x6, x7⟩
theorem DDs.k (h : DDs zs w σ lo q nd cn dx) (K : Kd 3 w w' σ σ') : DDs zs w' σ' lo q nd cn dx := by
  obtain ⟨h1, ⟨h2, h3, h4⟩, h5, h6⟩ := h
  obtain ⟨A, A1, A2⟩ := h1.kd K h2 h3 (fun i hi => (h6 i hi).2.1)
  refine ⟨A, ⟨A1, A2, h4⟩, h5, fun d hd => ?_⟩
  obtain ⟨x1, x2, x3⟩ := h6 d hd
  rcases x1 with x1 | x1
  · exact ⟨Or.inl (K.g x1 (Or.inr x2)), (K _ _ x1).1.trans x2, x3⟩
  · exact ⟨Or.inr (K.g x1 (Or.inr x2)), (K _ _ x1).1.trans x2, x3⟩
theorem DAs.k (h : DAs w σ lo q) (K : Kd 4 w w' σ σ') : DAs w' σ' lo q := by
  obtain ⟨⟨⟨F, h1, h2⟩, h3⟩, ⟨G, h4, h5⟩, h6⟩ := h
  exact ⟨⟨⟨F, K.g h1 (Or.inl h3), h2⟩, (K _ _ h1).1.trans h3⟩, ⟨G, K.g h4 (Or.inl h6), h5⟩, (K _ _ h4).1.trans h6⟩
theorem DSs.k (h : DSs w σ lo q sd cs sx) (K : Kd 6 w w' σ σ') : DSs w' σ' lo q sd cs sx := by
  obtain ⟨h1, ⟨h2, h3, h4⟩, h5, h6⟩ := h
  obtain ⟨A, A1, A2⟩ := h1.kd K h2 h3 (fun i hi => (h6 i hi).2.1)
  refine ⟨A, ⟨A1, A2, h4⟩, h5, fun k hk => ?_⟩
  obtain ⟨⟨F, x1, x1'⟩, x2, x3⟩ := h6 k hk
  exact ⟨⟨F, K.g x1 (Or.inr x2), x1'⟩, (K _ _ x1).1.trans x2, x3⟩
/-- expressions stand on cells that are there -/
theorem ExA.on {Z : Nat → Prop} : ∀ {m b : Nat} {F : Law}, ExA Z σ m b F → ExA (fun b => Z b ∧ ∃ c, gC σ b = some c) σ m b F
  | 0, _, _, h => h.elim
  | m + 1, b, F, h => by
    obtain ⟨hz, h⟩ := h
    rcases h with ⟨v, h1, h2⟩ | ⟨w, h0, h1, h2⟩ | ⟨b, G, h1, h2, h3⟩ | ⟨b, l, G, n, ax, ex, kx, Lx, h1, h2, ⟨mc, d, cap, f, a1, a2, a3, a4, a5, a6⟩, h4, h5⟩
    · exact ⟨⟨hz, _, h1⟩, Or.inl ⟨v, h1, h2⟩⟩
    · exact ⟨⟨hz, _, h1⟩, Or.inr (Or.inl ⟨w, h0, h1, h2⟩)⟩
    · exact ⟨⟨hz, _, h1⟩, Or.inr (Or.inr (Or.inl ⟨b, G, h1, h2.on, h3⟩))⟩
    · exact ⟨⟨hz, _, h1⟩, Or.inr (Or.inr (Or.inr ⟨b, l, G, n, ax, ex, kx, Lx, h1, h2.on, ⟨mc, d, cap, f, a1, a2, a3, a4, ⟨a5, _, a1⟩, ⟨a6, _, a2⟩⟩, fun i hi => ⟨(h4 i hi).1, (h4 i hi).2.1, ⟨(h4 i hi).2.2.1, _, (h4 i hi).2.1⟩, (h4 i hi).2.2.2.on⟩, h5⟩))⟩
theorem LawC.kd {x : Value} {n : Nat} {o : Option Law} {t : Nat} (h : LawC (Zw w lo) σ x n o) (K : Kd t w w' σ σ') : LawC (Zw w' lo) σ' x n o := by
  cases o with
  | none => exact h
  | some F =>
    obtain ⟨⟨ea, m, h1, h2, h3⟩, h4⟩ := h
    exact ⟨⟨ea, m, h1, h2, (h3.on.k (fun b hb => by obtain ⟨⟨z1, z2⟩, c, hc⟩ := hb; exact (K b c hc).2 (Or.inr z1))).mo (fun b hb => by obtain ⟨⟨z1, z2⟩, c, hc⟩ := hb; exact ⟨(K b c hc).1.trans z1, z2⟩) (Nat.le_refl _)⟩, h4⟩
theorem DLs.k {t : Nat} (h : DLs w σ lo q xl xe) (K : Kd t w w' σ σ') : DLs w' σ' lo q xl xe := ⟨h.1.kd K, h.2.kd K⟩
theorem DFs.k (h : DFs w σ lo) (K : Kd 7 w w' σ σ') : DFs w' σ' lo := by
  obtain ⟨h1, h2, h3, Φ, h4⟩ := h
  exact ⟨K.g h1 (Or.inr h2), (K _ _ h1).1.trans h2, (K _ _ h4).1.trans h3, Φ, K.g h4 (Or.inl h3)⟩
/-- all of it, while the reader alone changes -/
theorem DrO.k {a' : Nat} (h : DrO zs w lo ra σ q a) (K : ∀ b c, gC σ b = some c → w b ≠ 9 → gC σ' b = gC σ b) (hs : σ.1 ≤ σ'.1) (ha : a ≤ a') : DrO zs w lo ra σ' q a' := by
  obtain ⟨hd, ch, nd, cn, sd, cs, hx, mx, dx, sx, xl, xe, ⟨r1, r2⟩, h1, h2, h3, h4, h5, h6, ⟨b1, b2⟩, c1, c2, c3, c4⟩ := h
  have K' : ∀ t, t ≠ 9 → Kd t w w σ σ' := fun t ht b c hb => ⟨rfl, fun z => K b c hb (by omega)⟩
  exact ⟨hd, ch, nd, cn, sd, cs, hx, mx, dx, sx, xl, xe, ⟨(K _ _ r1 (by omega)).trans r1, r2⟩, h1.k (K' 2 (by omega)), h2.k (K' 3 (by omega)), h3.k (K' 4 (by omega)), h4.k (K' 6 (by omega)), h5.k (K' 2 (by omega)), h6.k (K' 7 (by omega)), ⟨fun b hb => b1 b (by omega), b2⟩, c1, c2, c3, by omega⟩
/-- it can be asked for names -/
theorem DrO.nm (h : DrO zs w lo ra σ q a) : NmQ σ lo q := by
  obtain ⟨hd, ch, nd, cn, sd, cs, hx, mx, dx, sx, xl, xe, ⟨r1, r2⟩, h1, h2, h3, h4, h5, h6, ⟨b1, b2⟩, c1, c2, c3, c4⟩ := h
  exact ⟨⟨c1, c2⟩, _, _, _, _, _, _, xl, xe, hx, mx, dx, r1, h1.1.z trivial trivial, fun h hh => ⟨(h1.2.2.2 h hh).1.1, (h1.2.2.2 h hh).1.2.1⟩, h2.1.z trivial trivial, fun d hd => (h2.2.2.2 d hd).1⟩
end
/-! what a statement leaves -/
def StR (zs : Nat → Nat) (all : List Tk) (ra : Nat) (C : Nat → Nat) (tp : Int32) (lo : Nat) (σ : CM) (a : Nat) (g : Bool) (x : Except Nat (QT × List Tk)) (r : CR) : Prop := match x with
  | .error k => ErR zs σ ra C tp (fun b => b = ra ∨ lo ≤ b) (8 * (all.length - a)) (2100 * (all.length - a)) k r
  | .ok (q, t) => ∃ a' σ' w fa dp, r = (.inl none, σ') ∧ t = all.drop a' ∧ a < a' ∧ RdE zs σ' ra C all (.ref lo) (bI g) fa tp a' dp ∧ Fr (fun b => b = ra ∨ lo ≤ b) (8 * (a' - a)) (2100 * (a' - a)) σ σ' ∧ DrO zs w lo ra σ' q a'
def xGos (q : QT) (g : Bool) (ts : List Tk) : Except Nat (QT × List Tk) := if g = true then .error (erT 3 ts) else (match pNum 0 9 ts.tail with
  | .error k => .error k
  | .ok (v, t) => .ok (qV q 0 0 v, t))
def xGrd (q : QT) (ts : List Tk) : Except Nat (QT × List Tk) := if qX q = 1 then .error (erT 3 ts) else (match pNum 0 23 ts.tail with
  | .error k => .error k
  | .ok (a, t) => (match pWN 555 a 23 t with
    | .error k => .error k
    | .ok (b, t) => .ok (qC (qV (qV q 0 1 a) 0 2 b) 3 1, t)))
def xLaw (q : QT) (ln : Nat) (ts : List Tk) : Except Nat (QT × List Tk) := if (q.2.2.2 ln).isSome = true then .error (erT 3 ts) else (match pExp (decide (ln = 1)) ts.tail with
  | .error k => .error k
  | .ok (x, t) => .ok (qF q ln x.1, t))
/-- with the sign behind -/
def xEnd (x : Except Nat (QT × List Tk)) : Except Nat (QT × List Tk) := match x with
  | .error k => .error k
  | .ok (q, t) => pEnd q t
theorem pGos_x {q : QT} {g : Bool} {ts : List Tk} : pGos q g ts = xEnd (xGos q g ts) := by
  unfold pGos xGos
  split
  · rfl
  · cases pNum 0 9 ts.tail <;> rfl
theorem pGrd_x {q : QT} {ts : List Tk} : pGrd q ts = xEnd (xGrd q ts) := by
  unfold pGrd xGrd
  split
  · rfl
  · cases pNum 0 23 ts.tail with
    | error k => rfl
    | ok v =>
      obtain ⟨a, t⟩ := v
      show (match pWN 555 a 23 t with | .error k => .error k | .ok (b, t) => pEnd (qC (qV (qV q 0 1 a) 0 2 b) 3 1) t) = xEnd (match pWN 555 a 23 t with | .error k => .error k | .ok (b, t) => .ok (qC (qV (qV q 0 1 a) 0 2 b) 3 1, t))
      cases pWN 555 a 23 t <;> rfl
theorem pLaw_x {q : QT} {ln : Nat} {ts : List Tk} : pLaw q ln ts = xEnd (xLaw q ln ts) := by
  unfold pLaw xLaw
  split
  · rfl
  · cases pExp (decide (ln = 1)) ts.tail <;> rfl
