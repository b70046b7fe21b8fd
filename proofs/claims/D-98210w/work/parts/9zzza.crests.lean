set_option maxRecDepth 100000
/-! THE COMPONENT's public calls: rests: the game laid -/
section
variable {zs : Nat → Nat} {e : Nat} {σ : CM} {P : CR → Prop} {ow tl : Nat → Nat} {t n0 qa fx : Nat} {q : QT} {s L : Nat → Nat} {x0 hl : Nat} {op al : Int32} {gg : Int64} {A : Nat → Nat} {B : Nat} {gm pa py : Nat} {rt : Cl}
/-- what stands while the game is laid -/
abbrev GmL (σ σ1 : CM) (ow ow1 : Nat → Nat) (t : Nat) (tl : Nat → Nat) (n0 qa fx : Nat) (q : QT) (s L : Nat → Nat) (x0 : Nat) (rt : Cl) (gm pa py : Nat) (F G : Nat → Int32) (c : Nat) : Prop := (∀ b, b < σ.1 → ow1 b = ow b) ∧ Fr (fun b => b = fx ∨ b = n0 + 3 ∨ b = pa ∨ b = py) (3 * c) (49 * c) σ σ1 ∧ NightAt ow1 t tl σ1 n0 qa fx q s L ∧ gC σ1 x0 = some rt ∧ gC σ1 gm = some (.inl (34, [.ref pa, .ref py, .ref x0])) ∧ gC σ1 pa = some (.inr (0, 70, .inl F)) ∧ gC σ1 py = some (.inr (0, 10, .inl G))
/-- its tags -/
abbrev GmT (σ : CM) (ow tl : Nat → Nat) (t : Nat) (q : QT) (x0 gm pa py : Nat) : Prop := (x0 < σ.1 ∧ gm < σ.1 ∧ pa < σ.1 ∧ py < σ.1) ∧ (ow x0 = 2 ∧ ow gm = 6 ∧ ow pa = 6 ∧ ow py = 6) ∧ (39 < t ∧ ∀ d, d < qD q → 39 < tl d) ∧ pa ≠ py
theorem GmL.fr {σ1 σ2 : CM} {ow1 ow2 : Nat → Nat} {F G : Nat → Int32} {c c' : Nat} (h : GmL σ σ1 ow ow1 t tl n0 qa fx q s L x0 rt gm pa py F G c) (hT : GmT σ ow tl t q x0 gm pa py) (hF : Fr (fun b => b = fx ∨ b = n0 + 3) (3 * c') (49 * c') σ1 σ2) (eo : ∀ b, b < σ1.1 → ow2 b = ow1 b) (N2 : NightAt ow2 t tl σ2 n0 qa fx q s L) : GmL σ σ2 ow ow2 t tl n0 qa fx q s L x0 rt gm pa py F G (c + c') := by
  obtain ⟨e1, F1, N1, R1, g1, p1, y1⟩ := h
  obtain ⟨⟨l1, l2, l3, l4⟩, ⟨t1, t2, t3, t4⟩, h40, -⟩ := hT
  have le := F1.1.1
  have o1 := N1.2.1.ofx
  have o3 := N1.2.2.2.2.1 (n0 + 3) (by omega) (by omega)
  have k : ∀ b, b < σ.1 → (ow b = 2 ∨ ow b = 6) → ¬ (b = fx ∨ b = n0 + 3) := fun b hb ho z => by
    rw [← e1 b hb] at ho
    rcases z with z | z
    · rw [z] at ho; omega
    · rw [z] at ho; omega
  refine ⟨fun b hb => (eo b (by omega)).trans (e1 b hb), (F1.tr (hF.sub (fun b _ z => ?_) (Nat.le_refl _) (Nat.le_refl _))).sub (fun _ _ z => z) (by omega) (by omega), N2, hF.g (by omega) (k _ l1 (Or.inl t1)) R1, hF.g (by omega) (k _ l2 (Or.inr t2)) g1, hF.g (by omega) (k _ l3 (Or.inr t3)) p1, hF.g (by omega) (k _ l4 (Or.inr t4)) y1⟩
  rcases z with z | z
  · exact Or.inl z
  · exact Or.inr (Or.inl z)
theorem GmL.a {σ1 : CM} {ow1 : Nat → Nat} {F G F' : Nat → Int32} {c : Nat} (h : GmL σ σ1 ow ow1 t tl n0 qa fx q s L x0 rt gm pa py F G c) (hT : GmT σ ow tl t q x0 gm pa py) : GmL σ (pC σ1 pa (.inr (0, 70, .inl F'))) ow ow1 t tl n0 qa fx q s L x0 rt gm pa py F' G c := by
  obtain ⟨e1, F1, N1, R1, g1, p1, y1⟩ := h
  obtain ⟨⟨l1, l2, l3, l4⟩, ⟨t1, t2, t3, t4⟩, h40, np⟩ := hT
  have S1 : Fs (fun b => b = pa) σ1 (pC σ1 pa (.inr (0, 70, .inl F'))) := Fs.rf.p p1 rfl
  have t3' : ow1 pa = 6 := (e1 _ l3).trans t3
  exact ⟨e1, F1.n S1 (fun b hb => Or.inr (Or.inr (Or.inr (Or.inl hb)))), N1.w6 h40 F1.2.2.2 S1 (fun b hb => by rw [hb]; exact t3'), S1.g (fun z => by rw [z] at t1; omega) R1, S1.g (fun z => by rw [z, p1] at g1; cases g1) g1, gC_self, S1.g (fun z => np z.symm) y1⟩
theorem GmL.b {σ1 : CM} {ow1 : Nat → Nat} {F G G' : Nat → Int32} {c : Nat} (h : GmL σ σ1 ow ow1 t tl n0 qa fx q s L x0 rt gm pa py F G c) (hT : GmT σ ow tl t q x0 gm pa py) : GmL σ (pC σ1 py (.inr (0, 10, .inl G'))) ow ow1 t tl n0 qa fx q s L x0 rt gm pa py F G' c := by
  obtain ⟨e1, F1, N1, R1, g1, p1, y1⟩ := h
  obtain ⟨⟨l1, l2, l3, l4⟩, ⟨t1, t2, t3, t4⟩, h40, np⟩ := hT
  have S1 : Fs (fun b => b = py) σ1 (pC σ1 py (.inr (0, 10, .inl G'))) := Fs.rf.p y1 rfl
  have t3' : ow1 py = 6 := (e1 _ l4).trans t4
  exact ⟨e1, F1.n S1 (fun b hb => Or.inr (Or.inr (Or.inr (Or.inr hb)))), N1.w6 h40 F1.2.2.2 S1 (fun b hb => by rw [hb]; exact t3'), S1.g (fun z => by rw [z] at t1; omega) R1, S1.g (fun z => by rw [z, y1] at g1; cases g1) g1, S1.g (fun z => np z) p1, gC_self⟩
/-- a lock apart stays -/
theorem LkA.fr {σ1 σ2 : CM} {ow1 ow2 : Nat → Nat} {S : Nat → Prop} {l d c m : Nat} {s1 : Nat → Nat} (h : LkA σ1 ow1 tl t q x0 l d s1) (hw : HW σ1) (hF : Fr S c m σ1 σ2) (eo : ∀ b, b < σ1.1 → ow2 b = ow1 b) (hn : ∀ b, LkT (qDk q d) l b → ¬ S b) : LkA σ2 ow2 tl t q x0 l d s1 := by
  obtain ⟨hL, hV, hA, hx⟩ := h
  exact ⟨hL.kT (fun b hb => hF.2.2.1 b (hL.ltT hw hb) (hn b hb)), hV, fun b hb => by rw [eo b (hL.ltT hw hb)]; exact hA b hb, hx⟩
/-- what is laid of the game, up to a near and a hand -/
def GmV (q : QT) (s : Nat → Nat) (d : Nat) (F G : Nat → Int32) (k h : Nat) : Prop := (∀ i j, i < 9 → j < qH q → qK q j ≠ 2 → (i < k ∨ (i = k ∧ j < h)) → F (7 * (i + 1) + j) = nI (pyS q s d i j)) ∧ ∀ i, i < k → G (i + 1) = nI (gaS q s d i)
theorem GmV.up {d : Nat} {F G : Nat → Int32} {k h : Nat} {v : Int32} (hv : GmV q s d F G k h) (hh : h < qH q) (h7 : qH q ≤ 7) (e : qK q h ≠ 2 → v = nI (pyS q s d k h)) : GmV q s d (upd F (7 * (k + 1) + h) v) G k (h + 1) := by
  refine ⟨fun i j hi hj h2 hc => ?_, hv.2⟩
  by_cases hij : 7 * (i + 1) + j = 7 * (k + 1) + h
  · have : i = k ∧ j = h := by omega
    obtain ⟨rfl, rfl⟩ := this
    rw [upd_e]
    exact e h2
  · rw [upd_n hij]
    refine hv.1 i j hi hj h2 ?_
    rcases hc with hc | ⟨hc1, hc2⟩
    · exact Or.inl hc
    · refine Or.inr ⟨hc1, ?_⟩
      subst hc1
      omega
theorem GmV.g {d : Nat} {F G G' : Nat → Int32} {k h : Nat} (hv : GmV q s d F G k h) (e : ∀ i, i ≤ k → G' i = G i) : GmV q s d F G' k h := ⟨hv.1, fun i hi => by rw [e _ (by omega)]; exact hv.2 i hi⟩
end
