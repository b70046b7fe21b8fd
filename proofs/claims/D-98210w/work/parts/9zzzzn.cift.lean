set_option maxRecDepth 100000
/-! THE WHOLE COMPONENT: calls that live a history through -/
section
variable {zs ow ow' : Nat → Nat} {e : Nat} {σ σ' : CM} {P : CR → Prop} {x0 B : Nat} {G : Gh} {a : Ab}
/-- the tags as before below, new ones where the fitted night or an object of its own grew -/
def nw2 (ow ow' : Nat → Nat) (n n' : Nat) : Nat → Nat := fun b => if b < n then ow b else if b < n' ∧ 6 ≤ ow' b ∧ ow' b ≤ 38 then ow' b else 39
theorem nw2_o {n n' b : Nat} (h : b < n) : nw2 ow ow' n n' b = ow b := if_pos h
theorem nw2_n {n n' b : Nat} (h : n ≤ b) : (6 ≤ nw2 ow ow' n n' b ∧ nw2 ow ow' n n' b ≤ 38) ∨ nw2 ow ow' n n' b = 39 := by
  unfold nw2
  rw [if_neg (by omega)]
  split
  · rename_i z; exact Or.inl ⟨z.2.1, z.2.2⟩
  · exact Or.inr rfl
theorem nw2_9 {n n' b : Nat} (h : n ≤ n') (hb : n' ≤ b) : nw2 ow ow' n n' b = 39 := by
  unfold nw2
  rw [if_neg (by omega), if_neg (by omega)]
theorem nw2_t {n n' b : Nat} (eo : ∀ b, b < n → ow' b = ow b) (hb : b < n') (h : 6 ≤ ow' b ∧ ow' b ≤ 38) : nw2 ow ow' n n' b = ow' b := by
  unfold nw2
  by_cases hn : b < n
  · rw [if_pos hn, eo b hn]
  · rw [if_neg hn, if_pos ⟨hb, h⟩]
theorem FtA.t8 {f0 m1 : Nat} (h : FtA ow σ f0 m1) (hw : HW σ) (e : ∀ b, b < σ.1 → 8 ≤ ow b ∧ ow b ≤ 38 → ow' b = ow b) : FtA ow' σ f0 m1 := by
  obtain ⟨v0, v1, v2, lf, kf, ⟨h0, hB, ht, h2, hk⟩, hm⟩ := h
  have hlt := hB.lt hw
  refine ⟨v0, v1, v2, lf, kf, ⟨h0, hB, fun b h1 h2 => ?_, h2, fun i hi => ?_⟩, hm⟩
  · have := ht b h1 h2
    rw [e b (by omega) (by omega)]; exact this
  · rcases hk i hi with z | ⟨l, z1, ⟨r, z2⟩, z3⟩
    · exact Or.inl z
    · exact Or.inr ⟨l, z1, ⟨r, z2⟩, fun b hb => by
        have := z3 b hb
        rw [e b (z2.ltT hw hb) (by omega)]; exact this⟩
theorem CI.ft {c m m1 : Nat} (hI : CI zs σ x0 G a) (eo : ∀ b, b < σ.1 → ow' b = G.ow b) (hF : Fr (fun b => (8 ≤ G.ow b ∧ G.ow b ≤ 38) ∨ b = G.fx) c m σ σ') (N' : NightAt ow' G.t G.tl σ' G.n0 G.qa G.fx a.q a.s G.L) (hX : FtA ow' σ' (G.A 4) m1) (h1 : σ'.1 + 3 * m1 ≤ σ.1 + 3 * G.m0 + 1) (h2 : σ'.2.1 + 49 * m1 ≤ σ.2.1 + 49 * G.m0 + 7) : CO zs x0 σ G a a σ' := by
  have hw := hI.hw
  have x2 := hI.x2
  have f1 := hI.fx1
  have hm := hF.1.1
  obtain ⟨⟨rw, lk, rw', lk', b1, b2, b3, b4⟩, b5, b6, b7⟩ := id hI.2.2.2.2.2.2.2.1
  have n6 : ∀ b, b < σ.1 → ((8 ≤ G.ow b ∧ G.ow b ≤ 38) ∨ b = G.fx) → G.ow b ≠ 6 := fun b hb hs z => by
    rcases hs with y | y
    · omega
    · rw [y, f1] at z; omega
  have e2 : ∀ b, b < σ.1 → nw2 G.ow ow' σ.1 σ'.1 b = G.ow b := fun b hb => nw2_o hb
  refine ⟨Gup G (nw2 G.ow ow' σ.1 σ'.1) (G.op, G.al, G.gg) m1 G.w, hI.q hF (fun b hb hs => ?_) N'.two.1 N'.two.2 (hF.g (hw _ _ hI.rt) (fun z => ?_) hI.rt) e2 (fun b hb => nw2_n hb) (fun b hb => nw2_9 hm hb) ⟨⟨rw, lk, rw', lk', b1.fr hw hF e2 (fun b hb hs => ?_), b2.fr hw hF e2 (fun b hb hs => ?_), b3, b4⟩, b5.fr hw hF e2 n6, hX.t8 hF.2.2.2 (fun b hb h => nw2_t eo hb ⟨by omega, h.2⟩), b7.fr hw hF e2 n6⟩, ⟨⟨hm, ?_⟩, hF.2.1.1, ?_⟩⟩
  · rcases hs with z | z
    · exact Or.inr (Or.inr (Or.inr (Or.inr z)))
    · exact Or.inl z
  · rcases z with z | z
    · omega
    · rw [z, f1] at x2; omega
  · obtain ⟨v, G', -, -, -, o1, o2, o3⟩ := b1
    have := n6 b hb hs
    exact ⟨fun z => by rw [z] at this; exact this o1, fun z => by rw [z] at this; exact this o3, fun z => by rw [z] at this; exact this o2⟩
  · obtain ⟨G', -, -, -, o1, o2, o3⟩ := b2
    have := n6 b hb hs
    exact ⟨fun z => by rw [z] at this; exact this o1, fun z => by rw [z] at this; exact this o3, fun z => by rw [z] at this; exact this o2⟩
  · show σ'.1 + 3 * m1 + 8 * a.T.1 ≤ _
    omega
  · show σ'.2.1 + 49 * m1 + 2100 * a.T.1 ≤ _
    omega
theorem CI.fi (hI : CI zs σ x0 G a) : FtI σ G.ow G.t G.tl x0 G.n0 G.qa G.fx G.hl G.op G.al G.gg G.A a.q a.s G.L a.Li G.m0 := ⟨hI.hw, hI.rt, hI.x2, hI.2.2.1, hI.2.2.2.2.2.2.2.1.2.2.1, hI.h40, hI.2.2.2.1, fun b _ => hI.1.2.2.1 b⟩
theorem ci_judged (hI : CI zs σ x0 G a) (hA : AOK B a) (hP : ∀ σ', CO zs x0 σ G a a σ' → P (.inl (some (.int (spJudged a.q a.Li))), σ')) : EC zs (Jc zs) (e + 129) cX1_judged (some .int) 0 0 0 [some (.ref x0)] [] σ P := c_pjudged hA.1.1 hA.1.2.1 hA.1.2.2.1 hI.fi (fun σ' ow' m1 L8 hX _ => hP σ' (by
    obtain ⟨eo, ⟨c, m, F⟩, N, h1, h2⟩ := L8
    exact hI.ft eo F N hX (by omega) (by omega)))
theorem ci_fits {d kd v : Int32} (hI : CI zs σ x0 G a) (hA : AOK B a) (hP : ∀ σ', CO zs x0 σ G a a σ' → P (.inl (some (.int (spFits a.q a.Li d kd v))), σ')) : EC zs (Jc zs) (e + 130) cX1_fits (some .int) 0 0 0 [some (.ref x0), some (.int d), some (.int kd), some (.int v), none, none, none, none] [] σ P := c_pfits hA.1.1 hA.1.2.1 hA.1.2.2.1 hI.fi (fun σ' ow' m1 L8 hX _ => hP σ' (by
    obtain ⟨eo, ⟨c, m, F⟩, N, h1, h2⟩ := L8
    exact hI.ft eo F N hX (by omega) (by omega))) hI.1.2.2.1
theorem ci_tells {d : Int32} (hI : CI zs σ x0 G a) (hA : AOK B a) (hP : ∀ σ', CO zs x0 σ G a a σ' → P (.inl (some (.int (spTells a.q a.Li d))), σ')) : EC zs (Jc zs) (e + 130) cX1_tells (some .int) 0 0 0 [some (.ref x0), some (.int d), none, none, none, none, none, none] [] σ P := c_ptells hA.1.1 hA.1.2.1 hA.1.2.2.1 hI.fi hI.1.2.2.1 (fun σ' ow' m1 L8 hX _ => hP σ' (by
    obtain ⟨eo, ⟨c, m, F⟩, N, h1, h2⟩ := L8
    exact hI.ft eo F N hX (by omega) (by omega)))
end
