set_option maxRecDepth 100000
/-! THE WHOLE COMPONENT: parts that are not touched -/
section
variable {zs ow ow' : Nat → Nat} {σ σ' : CM} {S : Nat → Prop} {c m x0 : Nat} {G : Gh} {a : Ab} {q : QT}
/-- new tags, the root's own values, the fitted night's free places -/
def Gup (G : Gh) (ow' : Nat → Nat) (r : Int32 × Int32 × Int64) (m0 w : Nat) : Gh := (upN (upN G.1 10 m0) 11 w, fun k => if k = 0 then ow' else G.2.1 k, r, G.2.2.2)
theorem BrX.fr {dp rw lk : Nat} (h : BrX σ ow x0 dp rw lk) (hw : HW σ) (hF : Fr S c m σ σ') (eo : ∀ b, b < σ.1 → ow' b = ow b) (hn : ∀ b, b < σ.1 → S b → b ≠ dp ∧ b ≠ rw ∧ b ≠ lk) : BrX σ' ow' x0 dp rw lk := by
  obtain ⟨v, G, h1, ⟨lf, h2⟩, h3, h4, h5, h6⟩ := h
  have l1 := hw _ _ h1
  have l2 := hw _ _ h2
  have l3 := hw _ _ h3
  exact ⟨v, G, hF.g l1 (fun z => (hn _ l1 z).1 rfl) h1, ⟨lf, hF.g l2 (fun z => (hn _ l2 z).2.2 rfl) h2⟩, hF.g l3 (fun z => (hn _ l3 z).2.1 rfl) h3, (eo _ l1).trans h4, (eo _ l2).trans h5, (eo _ l3).trans h6⟩
theorem TnX.fr {dp rw lk : Nat} (h : TnX σ ow x0 dp rw lk) (hw : HW σ) (hF : Fr S c m σ σ') (eo : ∀ b, b < σ.1 → ow' b = ow b) (hn : ∀ b, b < σ.1 → S b → b ≠ dp ∧ b ≠ rw ∧ b ≠ lk) : TnX σ' ow' x0 dp rw lk := by
  obtain ⟨G, h1, ⟨lf, h2⟩, h3, h4, h5, h6⟩ := h
  have l1 := hw _ _ h1
  have l2 := hw _ _ h2
  have l3 := hw _ _ h3
  exact ⟨G, hF.g l1 (fun z => (hn _ l1 z).1 rfl) h1, ⟨lf, hF.g l2 (fun z => (hn _ l2 z).2.2 rfl) h2⟩, hF.g l3 (fun z => (hn _ l3 z).2.1 rfl) h3, (eo _ l1).trans h4, (eo _ l2).trans h5, (eo _ l3).trans h6⟩
theorem ErA.fr {er : Nat} (h : ErA σ ow x0 er) (hw : HW σ) (hF : Fr S c m σ σ') (eo : ∀ b, b < σ.1 → ow' b = ow b) (hn : ∀ b, b < σ.1 → S b → ow b ≠ 6) : ErA σ' ow' x0 er := by
  obtain ⟨fa, mn, l, ab, be, ff, f0, f1, F0, F1, G, h1, h2, h3, ⟨h4, h5, h6⟩, o1, o2, o3, o4, o5⟩ := h
  have k : ∀ b c, gC σ b = some c → ow b = 6 → gC σ' b = some c ∧ ow' b = 6 := fun b c hb h6 => ⟨hF.g (hw _ _ hb) (fun z => hn _ (hw _ _ hb) z h6) hb, (eo _ (hw _ _ hb)).trans h6⟩
  exact ⟨fa, mn, l, ab, be, ff, f0, f1, F0, F1, G, (k _ _ h1 o1).1, (k _ _ h2 o2).1, h3, ⟨(k _ _ h4 o3).1, (k _ _ h5 o4).1, (k _ _ h6 o5).1⟩, (k _ _ h1 o1).2, (k _ _ h2 o2).2, (k _ _ h4 o3).2, (k _ _ h5 o4).2, (k _ _ h6 o5).2⟩
theorem GmA.fr {gm : Nat} (h : GmA σ ow x0 gm) (hw : HW σ) (hF : Fr S c m σ σ') (eo : ∀ b, b < σ.1 → ow' b = ow b) (hn : ∀ b, b < σ.1 → S b → ow b ≠ 6) : GmA σ' ow' x0 gm := by
  obtain ⟨pa, py, F, G, h1, h2, h3, o1, o2, o3⟩ := h
  have k : ∀ b c, gC σ b = some c → ow b = 6 → gC σ' b = some c ∧ ow' b = 6 := fun b c hb h6 => ⟨hF.g (hw _ _ hb) (fun z => hn _ (hw _ _ hb) z h6) hb, (eo _ (hw _ _ hb)).trans h6⟩
  exact ⟨pa, py, F, G, (k _ _ h1 o1).1, (k _ _ h2 o2).1, (k _ _ h3 o3).1, (k _ _ h1 o1).2, (k _ _ h2 o2).2, (k _ _ h3 o3).2⟩
theorem FtA.fr {f0 m0 : Nat} (h : FtA ow σ f0 m0) (hw : HW σ) (hF : Fr S c m σ σ') (eo : ∀ b, b < σ.1 → ow' b = ow b) (hn : ∀ b, b < σ.1 → S b → ow b < 8 ∨ 38 < ow b) : FtA ow' σ' f0 m0 := by
  obtain ⟨v0, v1, v2, lf, kf, hX, hm⟩ := h
  exact ⟨v0, v1, v2, lf, kf, (hX.own hw eo).fr hw hF (fun b hb hs => by rw [eo b hb]; have := hn b hb hs; exact ⟨by omega, fun i hi => by omega⟩), hm⟩
theorem CId.fr {T : TP} {r : Int32 × Int32 × Int64} {m0 w : Nat} (h : CId zs σ G T) (hw : HW σ) (hF : Fr S c m σ σ') (hn : ∀ b, b < σ.1 → S b → G.ow b ≠ 3) (eo : ∀ b, b < σ.1 → ow' b = G.ow b) : CId zs σ' (Gup G ow' r m0 w) T := by
  obtain ⟨⟨h0, F, h6, hF6⟩, hK, ⟨F7, V, G9, ⟨g7, g8, g9⟩, hcu⟩, h79, oA, oC⟩ := h
  have k : ∀ b c, gC σ b = some c → G.ow b = 3 → gC σ' b = some c := fun b c hb h3 => hF.g (hw _ _ hb) (fun z => hn _ (hw _ _ hb) z h3) hb
  refine ⟨⟨k _ _ h0 oA, F, k _ _ h6 (oC 6 (by omega)), hF6⟩, hK.k (fun j hj => ?_), ⟨F7, V, G9, ⟨k _ _ g7 (oC 7 (by omega)), k _ _ g8 (oC 8 (by omega)), k _ _ g9 (oC 9 (by omega))⟩, hcu⟩, h79, (eo _ (hw _ _ h0)).trans oA, fun j hj => ?_⟩
  · obtain ⟨mm, f, ha⟩ := hK.ar j hj
    show gC σ' (G.C j) = gC σ (G.C j)
    rw [k _ _ ha (oC j (by omega)), ha]
  · have hl : G.C j < σ.1 := by
      have hc : j < 6 ∨ j = 6 ∨ j = 7 ∨ j = 8 ∨ j = 9 := by omega
      rcases hc with hc | rfl | rfl | rfl | rfl
      · obtain ⟨mm, f, ha⟩ := hK.ar j hc; exact hw _ _ ha
      · exact hw _ _ h6
      · exact hw _ _ g7
      · exact hw _ _ g8
      · exact hw _ _ g9
    exact (eo _ hl).trans (oC j hj)
theorem LkT_lt {kd l : Nat} {rr : Nat → Nat} (h : LockAt σ l kd rr) (hw : HW σ) {b : Nat} (hb : LkT kd l b) : b < σ.1 := h.ltT hw hb
theorem CIu.fr {r : Int32 × Int32 × Int64} {m0 w : Nat} (h : CIu zs σ G a) (hz : CIz zs σ G) (hw : HW σ) (hF : Fr S c m σ σ') (hn : ∀ b, b < σ.1 → S b → G.ow b ≠ 4 ∧ G.ow b ≠ 39 ∧ G.ow b ≠ 0 ∧ ∀ i, i < a.n → G.ow b ≠ G.ul i) (eo : ∀ b, b < σ.1 → ow' b = G.ow b) : CIu zs σ' (Gup G ow' r m0 w) a := by
  obtain ⟨⟨h1, h2, h3, h4⟩, ⟨h5, h6⟩, h7⟩ := h
  obtain ⟨mc, f, a1, a2, -⟩ := id h1
  have l1 := hw _ _ a1
  have l2 := hw _ _ a2
  have d0n : ¬ S G.d0 := fun z => by
    by_cases hc : 0 < G.cap
    · exact (hn _ l2 z).1 (h6 hc)
    · have := h4 (by omega)
      have z0 := hz.2.2.2
      rw [← this] at z0
      exact (hn _ l2 z).2.2.1 z0
  refine ⟨⟨h1.fr hw hF (fun z => (hn _ l1 z).1 h5) d0n (fun i hi z => ?_), h2, h3, h4⟩, ⟨(eo _ l1).trans h5, fun hc => (eo _ l2).trans (h6 hc)⟩, fun i hi => ?_⟩
  · obtain ⟨⟨b1, b2, -⟩, -⟩ := h7 i hi
    exact (hn _ (hw _ _ b1) z).2.1 b2
  · obtain ⟨⟨b1, b2, b3⟩, ⟨b4, b5⟩, ⟨b6, b7, b8, b9⟩, b10, b11⟩ := h7 i hi
    have l3 := hw _ _ b1
    exact ⟨⟨hF.g l3 (fun z => (hn _ l3 z).2.1 b2) b1, (eo _ l3).trans b2, b3⟩, ⟨b4.kT (fun b hb => hF.2.2.1 b (b4.ltT hw hb) (fun z => (hn _ (b4.ltT hw hb) z).2.2.2 i hi (b6 b hb))), b5⟩, ⟨fun b hb => (eo _ (b4.ltT hw hb)).trans (b6 b hb), b7, b8, b9⟩, b10, b11⟩
theorem CIe.fr {r : Int32 × Int32 × Int64} {m0 w mm n : Nat} {qm : QT} {sm : Nat → Nat} {Lm : List It} (h : CIe σ G q n mm qm sm Lm) (hw : HW σ) (hF : Fr S c m σ σ') (hn : ∀ b, b < σ.1 → S b → b = G.fx ∨ (2 ≤ G.ow b ∧ G.ow b ≤ 38) ∨ G.TN q (G.ow b)) (h39 : 39 < G.t ∧ ∀ d, d < qD q → 39 < G.tl d) (hfx : G.ow G.fx = 1) (hf : ∃ Φ, gC σ' G.fx = some (.inr (0, 6, .inl Φ))) (eo : ∀ b, b < σ.1 → ow' b = G.ow b) : CIe σ' (Gup G ow' r m0 w) q n mm qm sm Lm := by
  obtain ⟨na, hm, qam, fxm, tm, tlm, LL, h1, h2, h3, h4, h5, ⟨h6, h7, h8⟩, h9⟩ := h
  have TNgt : ∀ v, G.TN q v → 39 < v := fun v hv => by
    rcases hv with rfl | ⟨d, hd, rfl⟩
    · exact h39.1
    · exact h39.2 d hd
  have n39 : ∀ b, b < σ.1 → S b → G.ow b ≠ 39 ∧ G.ow b ≠ 0 := fun b hb hs => by
    rcases hn b hb hs with z | z | z
    · rw [z, hfx]; omega
    · omega
    · have := TNgt _ z; omega
  have em : ∀ b, b < σ.1 → mow ow' fxm b = mow G.ow fxm b := fun b hb => by unfold mow; rw [eo b hb]
  have l1 := hw _ _ h1
  have N1 := h3.own hw em
  have fm : ∀ b, b < σ.1 → S b → b ≠ fxm → mow ow' fxm b ≠ 0 ∧ mow ow' fxm b ≠ 1 ∧ mow ow' fxm b ≠ tm ∧ ∀ d, d < qD qm → mow ow' fxm b ≠ tlm d := fun b hb hs hne => by
    rw [em b hb]
    unfold mow
    rw [if_neg hne]
    by_cases h1 : G.ow b = 1
    · rw [if_pos h1]
      exact ⟨by omega, by omega, by omega, fun d hd => by have := (h9 d hd).1; omega⟩
    · rw [if_neg h1]
      rcases hn b hb hs with z | z | z
      · rw [z, hfx] at h1; exact absurd rfl h1
      · exact ⟨by omega, by omega, by omega, fun d hd => by have := (h9 d hd).1; omega⟩
      · have := TNgt _ z
        exact ⟨by omega, by omega, fun y => h7 (y ▸ z), fun d hd y => (h9 d hd).2.1 (y ▸ z)⟩
  obtain ⟨⟨F3, g3⟩, ⟨Φ, gf⟩⟩ := h3.two
  have o3 : mow ow' fxm (na + 3) = tm := N1.2.2.2.2.1 _ (by omega) (by omega)
  have ne3 : na + 3 ≠ fxm := fun z => by rw [z] at g3; rw [g3] at gf; cases gf
  have g3' := hF.g (hw _ _ g3) (fun z => (fm _ (hw _ _ g3) z ne3).2.2.1 o3) g3
  have gf' : ∃ Φ, gC σ' fxm = some (.inr (0, 6, .inl Φ)) := by
    rcases h5 with h5 | h5
    · rw [h5]; exact hf
    · exact ⟨Φ, hF.g (hw _ _ gf) (fun z => (n39 _ (hw _ _ gf) z).1 h5) gf⟩
  refine ⟨na, hm, qam, fxm, tm, tlm, LL, hF.g l1 (fun z => (n39 _ l1 z).1 h2) h1, (eo _ l1).trans h2, N1.f3 hw hF (fun b hb hs => ?_) ⟨F3, g3'⟩ gf', HiA.fr h4 hw em hF (fun b hb hs => ?_), ?_, ⟨h6, h7, h8⟩, h9⟩
  · by_cases hb' : b = fxm
    · exact Or.inl hb'
    · exact Or.inr (Or.inr (fm b hb hs hb'))
  · by_cases hb' : b = fxm
    · unfold mow; rw [if_pos hb']; omega
    · rw [← em b hb]; exact (fm b hb hs hb').1
  · rcases h5 with h5 | h5
    · exact Or.inl h5
    · exact Or.inr ((eo _ (hw _ _ gf)).trans h5)
theorem CIm.fr {r : Int32 × Int32 × Int64} {m0 w : Nat} (h : CIm σ G a) (hw : HW σ) (hF : Fr S c m σ σ') (hn : ∀ b, b < σ.1 → S b → (b = G.fx ∨ (2 ≤ G.ow b ∧ G.ow b ≤ 38) ∨ G.TN a.q (G.ow b)) ∧ G.ow b ≠ 5) (h39 : 39 < G.t ∧ ∀ d, d < qD a.q → 39 < G.tl d) (hfx : G.ow G.fx = 1) (hf : ∃ Φ, gC σ' G.fx = some (.inr (0, 6, .inl Φ))) (eo : ∀ b, b < σ.1 → ow' b = G.ow b) : CIm σ' (Gup G ow' r m0 w) a := by
  obtain ⟨⟨h1, h2⟩, h3⟩ := h
  have l1 := hw _ _ h1
  refine ⟨⟨hF.g l1 (fun z => (hn _ l1 z).2 h2) h1, (eo _ l1).trans h2⟩, fun k hk => ⟨(h3 k hk).1, fun qm sm Lm e => ?_⟩⟩
  obtain ⟨mm, h4, h5⟩ := (h3 k hk).2 qm sm Lm e
  exact ⟨mm, h4, h5.fr hw hF (fun b hb hs => (hn b hb hs).1) h39 hfx hf eo⟩
theorem CIz.fr {G' : Gh} (h : CIz zs σ G) (hw : HW σ) (hF : Fr S c m σ σ') (hn : ∀ b, b < σ.1 → S b → G.ow b ≠ 0) (eo : ∀ b, b < σ.1 → G'.ow b = G.ow b) : CIz zs σ' G' := by
  obtain ⟨h1, h2, h3, h4⟩ := h
  have l3 := hw _ _ h3
  refine ⟨fun v v1 v2 => ?_, fun i hi => ?_, hF.g l3 (fun z => hn _ l3 z h4) h3, (eo _ l3).trans h4⟩
  · have g0 := h1 v v1 v2
    exact hF.g (hw _ _ g0) (fun z => hn _ (hw _ _ g0) z (h2 _ (lc_lt v1 v2))) g0
  · have hv : ∃ v : Int64, -128 ≤ v ∧ v ≤ 127 ∧ (v + 128).toNatClampNeg = i := by
      have key : ((List.range 256).all (fun i => decide (-128 ≤ Int64.ofNat i - 128) && decide (Int64.ofNat i - 128 ≤ 127) && decide ((Int64.ofNat i - 128 + 128).toNatClampNeg = i))) = true := by decide +kernel
      have := List.all_eq_true.mp key i (List.mem_range.mpr hi)
      rw [Bool.and_eq_true, Bool.and_eq_true] at this
      exact ⟨_, of_decide_eq_true this.1.1, of_decide_eq_true this.1.2, of_decide_eq_true this.2⟩
    obtain ⟨v, v1, v2, rfl⟩ := hv
    exact (eo _ (hw _ _ (h1 v v1 v2))).trans (h2 _ hi)
/-- the tags as before below, new ones where the fitted night or an object of its own grew -/
def nwo (ow ow' : Nat → Nat) (n : Nat) : Nat → Nat := fun b => if b < n then ow b else if 6 ≤ ow' b ∧ ow' b ≤ 38 then ow' b else 39
theorem nwo_o {n b : Nat} (h : b < n) : nwo ow ow' n b = ow b := if_pos h
end
