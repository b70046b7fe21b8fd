set_option maxRecDepth 100000
/-! THE WHOLE COMPONENT: knock, near, feed -/
section
variable {zs : Nat → Nat} {e : Nat} {σ σ' : CM} {P : CR → Prop} {x0 B : Nat} {G : Gh} {a : Ab}
theorem CI.ub (hI : CI zs σ x0 G a) : (∀ i, i < a.n → ∃ fs, gC σ (G.x i) = some (.inl (29, fs))) ∧ Apt G.ow G.tl G.t a.q (fun b => b = G.A 1 ∨ b = G.d0 ∧ 0 < G.cap) := by
  obtain ⟨-, ⟨U5, U6⟩, U7⟩ := id hI.2.2.2.2.2.1
  have h40 := hI.h40
  refine ⟨fun i hi => ⟨_, (U7 i hi).1.1⟩, fun b hb => ?_⟩
  have : G.ow b = 4 := by
    rcases hb with z | z
    · rw [z]; exact U5
    · rw [z.1]; exact U6 z.2
  rw [this]
  exact ⟨by omega, by omega, by omega, fun d hd => by have := h40.2 d hd; omega⟩
theorem ci_knock {d h y : Int32} (hI : CI zs σ x0 G a) (hA : AOK B a) (h1 : okKn a.q d h y = false → ∀ σ', CO zs x0 σ G a a σ' → P (.inl (some (.int (spKnock a.q a.s d h y))), σ')) (h2 : okKn a.q d h y = true → ∀ σ', CO zs x0 σ G a ((a.q, tS a.q a.s (ix d) (ix h) (dgt (ix y)), a.Li), (ksN a.n, ksU a.n a.u a.s), a.mk, a.T) σ' → P (.inl (some (.int (spKnock a.q a.s d h y))), σ')) : EC zs (Jc zs) (e + 128) cX1_knock (some .int) 0 0 0 [some (.ref x0), some (.int d), some (.int h), some (.int y)] [] σ P := by
  obtain ⟨⟨U1, U2, U3, U4⟩, -, -⟩ := id hI.2.2.2.2.2.1
  have h5 := hA.1.1.1.2.1
  refine c_pknock hA.1.1 hA.1.2.2.2.1 (by have := hA.2.2.2.2.2; omega) hI.hw hI.rt hI.2.2.1 U1 U2 U3 U4 hI.ub.1 hI.ub.2 (fun z => h1 z _ (CO.rf hI)) (fun z hd hh σ1 σ' K S N => h2 z σ' (hI.kn hd K S (fun b hb => ?_) N (fun d' _ hne => row_off hne) ⟨tS_hd (by omega) (by omega), tS_hd (by omega) (by omega)⟩))
  rcases hb with y | y | y
  · exact Or.inl y
  · exact Or.inr (Or.inl y.1)
  · exact Or.inr (Or.inr y)
theorem up0_off {s : Nat → Nat} {d d' v : Nat} (h : d' ≠ d) : rowOf (upN s (80 * d) v) d' = rowOf s d' := by
  funext i
  unfold rowOf
  by_cases hi : i < 80
  · rw [if_pos hi, if_pos hi, upN_n (by omega)]
  · rw [if_neg hi, if_neg hi]
theorem ci_near {d v : Int32} (hI : CI zs σ x0 G a) (hA : AOK B a) (h1 : okNr a.q a.s d v = false → ∀ σ', CO zs x0 σ G a a σ' → P (.inl (some (.int (bI false))), σ')) (h2 : okNr a.q a.s d v = true → ∀ σ', CO zs x0 σ G a ((a.q, upN a.s (80 * ix d) (ix v), a.Li), (ksN a.n, ksU a.n a.u a.s), a.mk, a.T) σ' → P (.inl (some (.int (bI true))), σ')) : EC zs (Jc zs) (e + 6) cX1_near (some .boolean) 0 0 0 [some (.ref x0), some (.int d), some (.int v)] [] σ P := by
  obtain ⟨⟨U1, U2, U3, U4⟩, -, -⟩ := id hI.2.2.2.2.2.1
  have h5 := hA.1.1.1.2.1
  exact c_pnear hA.1.1 hA.1.2.2.2.1 hI.hw hI.rt hI.2.2.1 U1 U2 U3 U4 hI.ub.1 hI.ub.2 (fun z => h1 z _ (CO.rf hI)) (fun z hd hv σ1 σ' K S N => h2 z σ' (hI.kn hd K S (fun b hb => Or.inr (Or.inr hb)) N (fun d' _ hne => up0_off hne) ⟨upN_n (by omega), upN_n (by omega)⟩))
theorem fdW_le {w : Int64} {T : TP} : ∀ k, (fdW w T k).1 ≤ T.1 + k
  | 0 => Nat.le_refl _
  | k + 1 => by
    have := fdW_le (w := w) (T := T) k
    show (fdS (fdW w T k) _).1 ≤ T.1 + (k + 1)
    unfold fdS
    split
    · show (fdW w T k).1 + 1 ≤ _
      omega
    · omega
theorem spFeed_le {y b c : Int64} {T : TP} : (spFeed y b c T).1 ≤ T.1 + 24 := by
  unfold spFeed
  have h1 := fdW_le (w := y) (T := T) 8
  have h2 := fdW_le (w := b) (T := fdW y T 8) 8
  have h3 := fdW_le (w := c) (T := fdW b (fdW y T 8) 8) 8
  omega
theorem ci_feed {y b c : Int64} (hI : CI zs σ x0 G a) (hA : AOK B a) (hP : ∀ σ', CO zs x0 σ G a ((a.q, a.s, a.Li), (a.n, a.u), a.mk, spFeed y b c a.T) σ' → P (.inl (some (.int (nI (spFeed y b c a.T).1))), σ')) : EC zs (Jc zs) (e + 2) cX1_feed (some .int) 0 0 0 [some (.ref x0), some (.long y), none, some (.long b), none, some (.long c), none] [] σ P := by
  have hw := hI.hw
  have h40 := hI.h40
  have f1 := hI.fx1
  have x2 := hI.x2
  obtain ⟨⟨-, t2, t3, t4, t5, t6, t7⟩, ⟨r1, -⟩, hn, hh, ⟨hd, hK, hC, h79, oA, oC⟩, hu, hm, ho, hz⟩ := id hI
  refine c_pfeed hA.2.2.2.1 hI.rt hd (fun σ' S' R' => hP σ' ?_)
  have F' := S'.fr hw
  have n3 : ∀ b, b < σ.1 → (b = G.A 0 ∨ b = G.C 6) → G.ow b = 3 := fun b _ hs => by
    rcases hs with z | z
    · rw [z]; exact oA
    · rw [z]; exact oC 6 (by omega)
  have N' : NightAt G.ow G.t G.tl σ' G.n0 G.qa G.fx a.q a.s G.L := hn.fr hw F' (fun b hb hs => by
    rw [n3 b hb hs]
    exact ⟨by omega, by omega, by omega, fun d hd => by have := t7 d hd; omega⟩)
  have hxl := hw _ _ r1
  obtain ⟨h0, F6, h6, hF6⟩ := id hd
  obtain ⟨F, V, Gf, ⟨g7, g8, g9⟩, hcu⟩ := id hC
  have kp : ∀ b c, gC σ b = some c → (∀ fs, c ≠ .inl (1, fs)) → (∀ f, c ≠ .inr (0, 1000, f)) → gC σ' b = some c := fun b c hb k1 k2 => S'.g (fun z => by
    rcases z with z | z
    · rw [z, h0] at hb; exact k1 _ (Option.some.inj hb).symm
    · rw [z, h6] at hb; exact k2 _ (Option.some.inj hb).symm) hb
  have e0 : ∀ b, b < σ.1 → G.ow b = G.ow b := fun _ _ => rfl
  have le := spFeed_le (y := y) (b := b) (c := c) (T := a.T)
  generalize spFeed y b c a.T = T' at le R' ⊢
  refine ⟨Gup G G.ow (G.op, G.al, G.gg) G.m0 G.w, ⟨⟨F'.2.2.2, t2, t3, fun b hb => t4 b (by have := F'.1.1; omega), t5, t6, t7⟩, ⟨F'.g hxl (fun z => by have := n3 _ hxl z; omega) r1, x2⟩, N', HiA.fr hh hw e0 F' (fun b hb hs => by rw [n3 b hb hs]; omega), ⟨R', hK.k (fun k hk => ?_), ⟨F, V, Gf, ⟨kp _ _ g7 (fun fs z => by cases z) (fun f z => by cases z), kp _ _ g8 (fun fs z => by cases z) (fun f z => by cases z), kp _ _ g9 (fun fs z => by cases z) (fun f z => by cases z)⟩, hcu⟩, h79, oA, oC⟩, hu.fr hz hw F' (fun b hb hs => ?_) e0, hm.fr hw F' (fun b hb hs => ⟨Or.inr (Or.inl (by rw [n3 b hb hs]; omega)), by rw [n3 b hb hs]; omega⟩) h40 f1 N'.two.2 e0, ho.fr hw F' (fun b hb hs => by rw [n3 b hb hs]; omega) e0, hz.fr hw F' (fun b hb hs => by rw [n3 b hb hs]; omega) e0⟩, ⟨⟨F'.1.1, ?_⟩, F'.2.1.1, ?_⟩⟩
  · obtain ⟨mm, f, ha⟩ := hK.ar k hk
    show gC σ' (G.C k) = gC σ (G.C k)
    rw [kp _ _ ha (fun fs z => by cases z) (fun f z => by cases z), ha]
  · rw [n3 b hb hs]
    refine ⟨by omega, by omega, by omega, fun i hi z => ?_⟩
    obtain ⟨-, -, ⟨-, b7, -⟩, -⟩ := hu.2.2 i hi
    omega
  · have := F'.1.2
    show σ'.1 + 3 * G.m0 + 8 * T'.1 ≤ _
    omega
  · have := F'.2.1.2
    show σ'.2.1 + 49 * G.m0 + 2100 * T'.1 ≤ _
    omega
end
