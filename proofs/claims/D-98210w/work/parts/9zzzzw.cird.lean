set_option maxRecDepth 100000
/-! THE WHOLE COMPONENT: a history is read, public -/
def Grd (G : Gh) (ow' : Nat → Nat) (hl fa pt dp : Nat) (dr : Value) (hg : Int32) : Gh := (upN (upN (upN (upN G.1 4 hl) 7 fa) 8 pt) 9 dp, fun k => if k = 0 then ow' else G.2.1 k, G.2.2.1, (dr, hg), G.2.2.2.2)
theorem nI_sj (v : Int32) : ∃ n, v = nI n := ⟨v.toBitVec.toNat, by
  apply Int32.toBitVec_inj.mp
  show v.toBitVec = BitVec.ofNat 32 v.toBitVec.toNat
  exact (BitVec.ofNat_toNat 32 v.toBitVec ▸ by simp)⟩
section
variable {zs ow' : Nat → Nat} {e : Nat} {σ σ' : CM} {P : CR → Prop} {x0 B c m : Nat} {G : Gh} {a : Ab}
theorem CI.rd {hl fa pt dp : Nat} {dr : Value} {hg : Int32} {Li : List It} {T : TP} (hI : CI zs σ x0 G a) (F : Fr (fun b => CuS (G.A 0) G.C b ∨ b = x0) c m σ σ') (hr : gC σ' x0 = some (.inl (0, rtF G.n0 hl G.op G.al G.gg G.A))) (hd : RdT σ' (G.A 0) G.C dr hg fa (nI pt) (nI dp) T ∧ RdK zs σ' G.C ∧ CuA σ' G.C []) (eo : ∀ b, b < σ.1 → ow' b = G.ow b) (en : ∀ b, σ.1 ≤ b → ow' b = 0 ∨ ow' b = 39) (e9 : ∀ b, σ'.1 ≤ b → ow' b = 39) (hh : HiA ow' σ' hl Li) (hc : c + 8 * T.1 ≤ 8 * a.T.1 + 400) (hmm : m + 2100 * T.1 ≤ 2100 * a.T.1 + 56000) : CO zs x0 σ G a ((a.q, a.s, Li), (a.n, a.u), a.mk, T) σ' := by
  have hw := hI.hw
  have h40 := hI.h40
  have f1 := hI.fx1
  have x2 := hI.x2
  obtain ⟨⟨-, t2, t3, t4, t5, t6, t7⟩, ⟨r1, -⟩, hn, -, ⟨hd0, hK0, hC0, h79, oA, oC⟩, hu, hm, ho, hz⟩ := id hI
  have hxl := hw _ _ r1
  have tg : ∀ b, b < σ.1 → (CuS (G.A 0) G.C b ∨ b = x0) → G.ow b = 3 ∨ G.ow b = 2 := fun b _ hs => by
    rcases hs with (z | z | z | z) | z
    · rw [z]; exact Or.inl oA
    · rw [z]; exact Or.inl (oC 7 (by omega))
    · rw [z]; exact Or.inl (oC 8 (by omega))
    · rw [z]; exact Or.inl (oC 9 (by omega))
    · rw [z]; exact Or.inr x2
  have N' : NightAt ow' G.t G.tl σ' G.n0 G.qa G.fx a.q a.s G.L := (hn.own hw eo).fr hw F (fun b hb hs => by
    rw [eo b hb]
    rcases tg b hb hs with z | z <;> exact ⟨by omega, by omega, by omega, fun d hd => by have := t7 d hd; omega⟩)
  have hu' := hu.fr (r := (G.op, G.al, G.gg)) (m0 := G.m0) (w := G.w) hz hw F (fun b hb hs => by
    have := tg b hb hs
    refine ⟨by omega, by omega, by omega, fun i hi z => ?_⟩
    obtain ⟨-, -, ⟨-, b7, -⟩, -⟩ := hu.2.2 i hi
    omega) eo
  have hm' := hm.fr (r := (G.op, G.al, G.gg)) (m0 := G.m0) (w := G.w) hw F (fun b hb hs => by
    have := tg b hb hs
    exact ⟨Or.inr (Or.inl ⟨by omega, by omega⟩), by omega⟩) h40 f1 N'.two.2 eo
  have ho' := ho.fr (r := (G.op, G.al, G.gg)) (w := G.w) hw F (fun b hb hs => by have := tg b hb hs; omega) eo
  have hz' : CIz zs σ' (Grd G ow' hl fa pt dp dr hg) := hz.fr hw F (fun b hb hs => by have := tg b hb hs; omega) eo
  have cl : ∀ k, k < 10 → G.C k < σ.1 := fun k hk => by
    obtain ⟨h0, F6, h6, -⟩ := hd0
    obtain ⟨F7, V, G9, ⟨g7, g8, g9⟩, -⟩ := hC0
    have hcc : k < 6 ∨ k = 6 ∨ k = 7 ∨ k = 8 ∨ k = 9 := by omega
    rcases hcc with hcc | rfl | rfl | rfl | rfl
    · obtain ⟨mm, f, ha⟩ := hK0.ar k hcc; exact hw _ _ ha
    · exact hw _ _ h6
    · exact hw _ _ g7
    · exact hw _ _ g8
    · exact hw _ _ g9
  refine ⟨Grd G ow' hl fa pt dp dr hg, ⟨⟨F.2.2.2, fun b => ?_, fun b hb => ?_, e9, t5, t6, t7⟩, ⟨hr, (eo _ hxl).trans x2⟩, N', hh, ⟨hd.1, hd.2.1, hd.2.2, h79, (eo _ (hw _ _ hd0.1)).trans oA, fun k hk => (eo _ (cl k hk)).trans (oC k hk)⟩, hu', hm', ho', hz'⟩, ⟨⟨F.1.1, ?_⟩, F.2.1.1, ?_⟩⟩
  · show ow' b < G.w
    by_cases hb : b < σ.1
    · rw [eo b hb]; exact t2 b
    · rcases en b (by omega) with z | z <;> omega
  · have hb : ow' b = 1 := hb
    by_cases hb' : b < σ.1
    · rw [eo b hb'] at hb; exact t3 b hb
    · rcases en b (by omega) with z | z <;> omega
  · have := F.1.2
    show σ'.1 + 3 * G.m0 + 8 * T.1 ≤ _
    omega
  · have := F.2.1.2
    show σ'.2.1 + 49 * G.m0 + 2100 * T.1 ≤ _
    omega
/-- a reading that went wrong -/
theorem CI.rdE {k : Nat} {r : CR} (hI : CI zs σ x0 G a) (hE : ErR zs σ (G.A 0) G.C (nI 0) (CuS (G.A 0) G.C) c m k r) (hcu : CuA r.2 G.C []) (hc : c ≤ 8 * a.T.1 + 400) (hmm : m ≤ 2100 * a.T.1 + 56000) : ∃ x σ', r = (.inr x, σ') ∧ gC σ' x = some (.inl (35, exF zs x (.int 0) [.int (nI k)])) ∧ CO zs x0 σ G a ((a.q, a.s, a.Li), (a.n, a.u), a.mk, (0, a.T.2)) σ' := by
  have hw := hI.hw
  have x2 := hI.x2
  obtain ⟨x, σ', rfl, F, gx, dr, hg, fa, pt, dp, gr⟩ := hE
  obtain ⟨pn, rfl⟩ := nI_sj pt
  obtain ⟨dn, rfl⟩ := nI_sj dp
  obtain ⟨⟨-, -, -, t4, -⟩, ⟨r1, -⟩, -, hh, ⟨⟨h0, F6, h6, -⟩, hK, ⟨F7, V, G9, ⟨g7, g8, g9⟩, -⟩, h79, oA, oC⟩, -⟩ := id hI
  have nc : ∀ b c, gC σ b = some c → (∀ fs, c ≠ .inl (1, fs)) → (∀ f, c ≠ .inr (0, 1001, f)) → (∀ f, c ≠ .inr (2, 1001, f)) → ¬ CuS (G.A 0) G.C b := fun b c hb k1 k2 k3 z => by
    rcases z with z | z | z | z
    · rw [z, h0] at hb; exact k1 _ (Option.some.inj hb).symm
    · rw [z, g7] at hb; exact k2 _ (Option.some.inj hb).symm
    · rw [z, g8] at hb; exact k3 _ (Option.some.inj hb).symm
    · rw [z, g9] at hb; exact k2 _ (Option.some.inj hb).symm
  have n6 := nc _ _ h6 (fun fs z => by cases z) (fun f z => by cases z) (fun f z => by cases z)
  have F' : Fr (fun b => CuS (G.A 0) G.C b ∨ b = x0) c m σ σ' := F.sub (fun _ _ z => Or.inl z) (Nat.le_refl _) (Nat.le_refl _)
  refine ⟨x, σ', rfl, gx, hI.rd (ow' := G.ow) (hl := G.hl) (T := (0, a.T.2)) F' (F.g (hw _ _ r1) (nc _ _ r1 (fun fs z => by cases z) (fun f z => by cases z) (fun f z => by cases z)) r1) ⟨⟨gr, F6, F.g (hw _ _ h6) n6 h6, fun j hj => absurd hj (Nat.not_lt_zero j)⟩, hK.k (fun k hk => ?_), hcu⟩ (fun _ _ => rfl) (fun b hb => Or.inr (t4 b hb)) (fun b hb => t4 b (by have := F.1.1; omega)) (HiA.fr hh hw (fun _ _ => rfl) F (fun b hb hs z => ?_)) (by show c + 8 * 0 ≤ _; omega) (by show m + 2100 * 0 ≤ _; omega)⟩
  · obtain ⟨mm, f, ha⟩ := hK.ar k hk
    rw [F.g (hw _ _ ha) (nc _ _ ha (fun fs z => by cases z) (fun f z => by cases z) (fun f z => by cases z)) ha, ha]
  · rcases hs with y | y | y | y
    · rw [y, oA] at z; omega
    · rw [y, oC 7 (by omega)] at z; omega
    · rw [y, oC 8 (by omega)] at z; omega
    · rw [y, oC 9 (by omega)] at z; omega
end
