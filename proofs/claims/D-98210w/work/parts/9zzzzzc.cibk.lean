set_option maxRecDepth 100000
/-! THE WHOLE COMPONENT: a mark gone back to -/
section
variable {zs : Nat → Nat} {e : Nat} {σ σ' : CM} {P : CR → Prop} {x0 B : Nat} {G : Gh} {a : Ab}
theorem ci_mark_bk {k : Nat} {qm : QT} {sm : Nat → Nat} {Lm : List It} (hk : k < 4) (hI : CI zs σ x0 G a) (hA : AOK B a) (he : a.mk k = some (qm, sm, Lm)) (hP : ∀ σ', CO zs x0 σ G a ((qm, sm, Lm), (0, a.u), a.mk, a.T) σ' → P (.inl (some (.int (nI 1))), σ')) : EC zs (Jc zs) (e + 6) cX1_mark (some .boolean) 0 0 0 [some (.ref x0), some (.int (nI k)), some (.int (bI true))] [] σ P := by
  have hw := hI.hw
  have h40 := hI.h40
  have f1 := hI.fx1
  have x2 := hI.x2
  obtain ⟨⟨-, t2, t3, t4, t5, t6, t7⟩, ⟨r1, -⟩, hn, hh, hd, ⟨⟨U1, U2, U3, U4⟩, ⟨U5, U6⟩, U7⟩, hm, ho, hz⟩ := id hI
  obtain ⟨mm, h4, na, hm2, qam, fxm, tm, tlm, LL, k1, k2, k3, k4, k5, -, -⟩ := (hm.2 k hk).2 qm sm Lm he
  obtain ⟨Qm, -, -, Wm⟩ := hA.2.2.1 k hk qm sm Lm he
  have hf : G.ow fxm = 1 ∨ G.ow fxm = 39 := by
    rcases k5 with z | z
    · rw [z]; exact Or.inl f1
    · exact Or.inr z
  have mk : ∀ b v, G.ow b = v → v ≠ 1 → v ≠ 39 → mow G.ow fxm b = v := fun b v hb h1 h2 => (mow_k hf (by omega) (by omega)).trans hb
  have hcap : 0 < a.n → 0 < G.cap := fun h => by obtain ⟨mc, f, -, -, l, -⟩ := id U1; omega
  have st : ∀ b, (b = x0 ∨ b = G.A 1 ∨ b = G.d0 ∧ 0 < a.n) → G.ow b = 2 ∨ G.ow b = 3 ∨ G.ow b = 4 := fun b hb => by
    rcases hb with z | z | z
    · rw [z]; exact Or.inl x2
    · rw [z]; exact Or.inr (Or.inr U5)
    · rw [z.1]; exact Or.inr (Or.inr (U6 (hcap z.2)))
  have smm : ∀ b, (b = x0 ∨ b = G.A 1 ∨ b = G.d0 ∧ 0 < a.n) → mow G.ow fxm b = G.ow b := fun b hb => mow_k hf (by have := st b hb; omega) (by have := st b hb; omega)
  have xd : x0 ≠ G.A 1 ∧ x0 ≠ G.d0 := ⟨fun z => by rw [z, U5] at x2; omega, fun z => by
    by_cases hc : 0 < G.cap
    · rw [z, U6 hc] at x2; omega
    · rw [z, U4 (by omega), hz.2.2.2] at x2; omega⟩
  refine c_mark_bk (w := G.w) hk Qm hw Wm.1 (by omega) (fun b _ => ?_) hI.rt hm.1.1 h4 k1 k3 U1 U2 (fun b hb => by rw [smm b hb]; have := st b hb; omega) xd (fun σ' tl1 x' F r' N etl A' => hP σ' ?_)
  · have := t2 b
    unfold mow
    split
    · omega
    · split <;> omega
  · have hF1 := F.1.1
    have w' := F.2.2.2
    have hd' := CId.fr (ow' := G.ow) (r := (G.op, G.al, G.gg)) (m0 := G.m0) (w := G.w) hd hw F (fun b hb hs z => by
      rcases hs with y | y | y
      · rw [y] at z; omega
      · rw [y] at z; omega
      · rw [y.1, U6 (hcap y.2)] at z; omega) (fun _ _ => rfl)
    have hb5 : ∀ b, lkI qm σ.1 b < 5 := fun b => by unfold lkI; (repeat' split) <;> omega
    have eo : ∀ b, b < σ.1 → (if b < σ'.1 then owC (mow G.ow fxm) qm σ.1 G.w tl1 b else 39) = mow G.ow fxm b := fun b hb => by
      rw [if_pos (by omega)]
      exact if_pos hb
    have on : ∀ b, σ.1 ≤ b → (if b < σ'.1 then owC (mow G.ow fxm) qm σ.1 G.w tl1 b else 39) = 39 ∨ (G.w ≤ (if b < σ'.1 then owC (mow G.ow fxm) qm σ.1 G.w tl1 b else 39) ∧ (if b < σ'.1 then owC (mow G.ow fxm) qm σ.1 G.w tl1 b else 39) < G.w + 6) := fun b hb => by
      by_cases h : b < σ'.1
      · rw [if_pos h]
        refine Or.inr ?_
        unfold owC
        rw [if_neg (by omega)]
        split
        · omega
        · have := hb5 b
          rw [etl]; omega
      · exact Or.inl (if_neg h)
    refine hI.nq (f := fxm) (ow' := fun b => if b < σ'.1 then owC (mow G.ow fxm) qm σ.1 G.w tl1 b else 39) (w := G.w + 6) (t := G.w) (tl := tl1) (fa := G.fa) (pt := G.pt) (dp := G.dp) (dr := G.dr) (hg := G.hg) hf (fun fs z => by obtain ⟨Φ, hΦ⟩ := k3.two.2; rw [hΦ] at z; cases z) F (fun b _ hs => st b hs) eo (fun b hb => by rcases on b hb with z | z <;> omega) (fun b hb z => by rcases on b hb with y | y <;> omega) (fun b hb => if_neg (by omega)) (by omega) ⟨Nat.le_refl _, fun d _ => by rw [etl]; omega⟩ (N.own w' (fun b hb => if_pos hb)) r' (HiA.fr k4 hw eo F (fun b _ hs => by rw [smm b hs]; have := st b hs; omega)) ⟨hd'.1, hd'.2.1, hd'.2.2.1⟩ A' (by omega) (by omega)
end
