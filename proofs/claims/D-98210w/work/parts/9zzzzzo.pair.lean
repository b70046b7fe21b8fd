set_option maxRecDepth 100000
/-! BOTH SIDES: a call answers alike -/
/-- the code of a call on both sides: the component's (code, what it returns, how it is run, its locals), the Model's -/
abbrev PrT : Type := (ByteArray × Option FieldType × Nat × Nat) × (ByteArray × Option FieldType × Nat)
/-- both sides hold the same -/
def LI (zs : Nat → Nat) (x0 : Nat) (σ : CM) (G : Gh) (M : MM) (a : Ab) (B : Nat) : Prop := CI zs σ x0 G a ∧ MIa M a ∧ AOK B a
/-- what a call does -/
def PRr (zs : Nat → Nat) (x0 mb : Nat) (k : PrT) (vs : List Value) (σ : CM) (G : Gh) (M : MM) (a : Ab) (B : Nat) : Prop := ∃ (v : Int32) (σ' : CM) (G' : Gh) (M' : MM) (a' : Ab), EC zs (Jc zs) 200 k.1.1 k.1.2.1 0 k.1.2.2.1 0 (lent (.ref x0 :: vs) k.1.2.2.2) [] σ (fun q => q = (.inl (some (.int v)), σ')) ∧ EM mb 20 k.2.1 k.2.2.1 0 (lent (.ref mb :: vs) k.2.2.2) [] M (fun q => q = (some (.int v), M')) ∧ LI zs x0 σ' G' M' a' (B + 68040) ∧ Gr σ G a σ' G' a'
def PR (zs : Nat → Nat) (x0 mb : Nat) (k : PrT) (vs : List Value) : Prop := ∀ (σ : CM) (G : Gh) (M : MM) (a : Ab) (B : Nat), LI zs x0 σ G M a B → B + 68040 ≤ 4400000 → PRr zs x0 mb k vs σ G M a B
section
variable {zs : Nat → Nat} {x0 mb : Nat} {k : PrT} {vs : List Value} {σ : CM} {G : Gh} {M : MM} {a a' : Ab} {B C : Nat}
theorem pr_mk {v : Int32} (hc : EC zs (Jc zs) 200 k.1.1 k.1.2.1 0 k.1.2.2.1 0 (lent (.ref x0 :: vs) k.1.2.2.2) [] σ (fun q => q.1 = .inl (some (.int v)) ∧ CO zs x0 σ G a a' q.2)) (hm : EM mb 20 k.2.1 k.2.2.1 0 (lent (.ref mb :: vs) k.2.2.2) [] M (fun q => q.1 = some (.int v) ∧ MIa q.2 a')) (hA : AOK (B + 68040) a') : PRr zs x0 mb k vs σ G M a B := by
  obtain ⟨⟨r1, σ'⟩, X1, h1, G', hI, hG⟩ := hc
  obtain ⟨⟨r2, M'⟩, X2, h2, hM⟩ := hm
  dsimp only at h1 h2
  subst h1 h2
  exact ⟨v, σ', G', M', a', ⟨_, X1, rfl⟩, ⟨_, X2, rfl⟩, ⟨hI, hM, hA⟩, hG⟩
theorem AOK.up (h : AOK B a) (hB : B + 68040 ≤ 4400000) : AOK (B + 68040) a := ⟨⟨h.1.1, h.1.2.1, h.1.2.2.1, h.1.2.2.2.le (by omega)⟩, fun i hi => (h.2.1 i hi).le (by omega), fun k hk qm sm Lm e => ⟨(h.2.2.1 k hk qm sm Lm e).1, (h.2.2.1 k hk qm sm Lm e).2.1, (h.2.2.1 k hk qm sm Lm e).2.2.1, (h.2.2.1 k hk qm sm Lm e).2.2.2.le (by omega)⟩, h.2.2.2.1, by have := h.2.2.2.2.1; omega, hB⟩
theorem AOK.mk {q : QT} {s : Nat → Nat} {Li : List It} {n : Nat} {u : Nat → Nat → Nat} {mk : MkT} {T : TP} (h1 : QOK q) (h2 : TQ q) (h3 : HOK q Li) (h4 : WS C s) (h5 : ∀ i, i < n → WS C (u i)) (h6 : ∀ k, k < 4 → ∀ qm sm Lm, mk k = some (qm, sm, Lm) → QOK qm ∧ TQ qm ∧ HOK qm Lm ∧ WS C sm) (h7 : TOK T) (h8 : 99 ≤ C) (h9 : C ≤ 4400000) : AOK C ((q, s, Li), (n, u), mk, T) := ⟨⟨h1, h2, h3, h4⟩, h5, h6, h7, h8, h9⟩
theorem ks_WS {n : Nat} {u : Nat → Nat → Nat} {s : Nat → Nat} (hs : WS C s) (hu : ∀ i, i < n → WS C (u i)) : ∀ i, i < ksN n → WS C (ksU n u s i) := by
  intro i hi
  unfold ksN at hi
  unfold ksU
  by_cases h : n = 16
  · rw [if_pos h] at hi ⊢
    by_cases h2 : i = 15
    · rw [if_pos h2]; exact hs
    · rw [if_neg h2]; exact hu _ (by omega)
  · rw [if_neg h] at hi ⊢
    by_cases h2 : i = n
    · rw [if_pos h2]; exact hs
    · rw [if_neg h2]; exact hu _ (by omega)
theorem AOK.t0 (h : AOK B a) (hB : B + 68040 ≤ 4400000) : AOK (B + 68040) ((a.q, a.s, a.Li), (a.n, a.u), a.mk, (0, a.T.2)) := by
  have := h.up hB
  exact ⟨this.1, this.2.1, this.2.2.1, ⟨Nat.zero_le _, fun j hj => absurd hj (Nat.not_lt_zero j)⟩, this.2.2.2.2⟩
theorem pr_hand {h w : Int32} : PR zs x0 mb ((cX1_hand_2, some .int, 0, 4), (cX19_hand, some .int, 3)) [.int h, .int w] := fun σ G M a B ⟨hI, hM, hA⟩ hB => pr_mk (v := spHand a.q h w) (a' := a) (ci_hand (e := 196) hI hA (fun _ h => ⟨rfl, h⟩)) (mi_hand (e := 19) hM hA (fun _ h => ⟨rfl, h⟩)) (hA.up hB)
theorem pr_door {d w : Int32} : PR zs x0 mb ((cX1_door, some .int, 0, 4), (cX19_door, some .int, 3)) [.int d, .int w] := fun σ G M a B ⟨hI, hM, hA⟩ hB => pr_mk (v := spDoor a.q a.s d w) (a' := a) (ci_door (e := 196) hI hA (fun _ h => ⟨rfl, h⟩)) (mi_door (e := 19) hM hA (fun _ h => ⟨rfl, h⟩)) (hA.up hB)
theorem pr_knows {d i : Int32} : PR zs x0 mb ((cX1_knows, some .int, 0, 3), (cX19_knows, some .int, 4)) [.int d, .int i] := fun σ G M a B ⟨hI, hM, hA⟩ hB => pr_mk (v := spKnows a.q a.s d i) (a' := a) (ci_knows (e := 196) hI hA (fun _ h => ⟨rfl, h⟩)) (mi_knows (e := 19) hM hA (fun _ h => ⟨rfl, h⟩)) (hA.up hB)
theorem pr_far {d h : Int32} : PR zs x0 mb ((cX1_far, some .int, 0, 3), (cX19_far, some .int, 3)) [.int d, .int h] := fun σ G M a B ⟨hI, hM, hA⟩ hB => pr_mk (v := spFar a.q a.s d h) (a' := a) (ci_far (e := 72) hI hA (fun _ h => ⟨rfl, h⟩)) (mi_far (e := 15) hM hA (fun _ h => ⟨rfl, h⟩)) (hA.up hB)
theorem pr_opens {d h x : Int32} : PR zs x0 mb ((cX1_opens, some .int, 0, 4), (cX19_opens_2, some .int, 4)) [.int d, .int h, .int x] := fun σ G M a B ⟨hI, hM, hA⟩ hB => pr_mk (v := spOpens a.q a.s d h x) (a' := a) (ci_opens (e := 72) hI hA (fun _ h => ⟨rfl, h⟩)) (mi_opens (e := 15) hM hA (fun _ h => ⟨rfl, h⟩)) (hA.up hB)
theorem pr_taken {o p : Int32} : PR zs x0 mb ((cX1_taken, some .int, 0, 5), (cX19_taken, some .int, 5)) [.int o, .int p] := fun σ G M a B ⟨hI, hM, hA⟩ hB => pr_mk (v := spTaken a.q a.s o p) (a' := a) (ci_taken (e := 72) hI hA (fun _ h => ⟨rfl, h⟩)) (mi_taken (e := 14) hM hA (fun _ h => ⟨rfl, h⟩)) (hA.up hB)
theorem pr_patience {d h : Int32} : PR zs x0 mb ((cX1_patience, some .int, 0, 3), (cX19_patience, some .int, 3)) [.int d, .int h] := fun σ G M a B ⟨hI, hM, hA⟩ hB => pr_mk (v := spPatience a.q a.s d h) (a' := a) (ci_patience (e := 71) hI hA (fun _ h => ⟨rfl, h⟩)) (mi_patience (e := 12) hM hA (fun _ h => ⟨rfl, h⟩)) (hA.up hB)
theorem pr_defence {d h m : Int32} : PR zs x0 mb ((cX1_defence, some .int, 0, 7), (cX19_defence, some .int, 9)) [.int d, .int h, .int m] := fun σ G M a B ⟨hI, hM, hA⟩ hB => pr_mk (v := spDefence a.q a.s d h m) (a' := a) (ci_defence (e := 71) hI hA (fun _ h => ⟨rfl, h⟩)) (mi_defence (e := 12) hM hA (fun _ h => ⟨rfl, h⟩)) (hA.up hB)
theorem pr_unseen {d h : Int32} : PR zs x0 mb ((cX1_unseen, some .int, 0, 5), (cX19_unseen, some .int, 6)) [.int d, .int h] := fun σ G M a B ⟨hI, hM, hA⟩ hB => pr_mk (v := spUnseen a.q a.s d h) (a' := a) (ci_unseen (e := 72) hI hA (fun _ h => ⟨rfl, h⟩)) (mi_unseen (e := 12) hM hA (fun _ h => ⟨rfl, h⟩)) (hA.up hB)
theorem pr_street {h d o : Int32} : PR zs x0 mb ((cX1_street, some .int, 0, 6), (cX19_street, some .int, 6)) [.int h, .int d, .int o] := fun σ G M a B ⟨hI, hM, hA⟩ hB => pr_mk (v := spStreet a.q a.s h d o) (a' := a) (ci_street (e := 72) hI hA (fun _ h => ⟨rfl, h⟩)) (mi_street (e := 12) hM hA (fun _ h => ⟨rfl, h⟩)) (hA.up hB)
theorem pr_apart {d o p : Int32} : PR zs x0 mb ((cX1_apart, some .int, 0, 10), (cX19_apart, some .int, 7)) [.int d, .int o, .int p] := fun σ G M a B ⟨hI, hM, hA⟩ hB => pr_mk (v := spApart a.q a.s d o p) (a' := a) (ci_apart (e := 72) hI hA (fun _ h => ⟨rfl, h⟩)) (mi_apart (e := 14) hM hA (fun _ h => ⟨rfl, h⟩)) (hA.up hB)
theorem pr_chance {d h v : Int32} : PR zs x0 mb ((cX1_chance, some .int, 0, 5), (cX19_chance, some .int, 5)) [.int d, .int h, .int v] := fun σ G M a B ⟨hI, hM, hA⟩ hB => pr_mk (v := spChance a.q a.s d h v) (a' := a) (ci_chance (e := 72) hI hA (fun _ h => ⟨rfl, h⟩)) (mi_chance (e := 14) hM hA (fun _ h => ⟨rfl, h⟩)) (hA.up hB)
theorem pr_count {v : Int32} : PR zs x0 mb ((cX1_count, some .int, 0, 4), (cX19_count, some .int, 2)) [.int v] := fun σ G M a B ⟨hI, hM, hA⟩ hB => pr_mk (v := spCount a.q a.s a.Li a.n a.T.1 v) (a' := a) (ci_count (e := 197) hI hA (fun _ h => ⟨rfl, h⟩)) (mi_count (e := 19) hM (fun _ h => ⟨rfl, h⟩)) (hA.up hB)
theorem pr_judged : PR zs x0 mb ((cX1_judged, some .int, 0, 1), (cX19_judged, some .int, 1)) [] := fun σ G M a B ⟨hI, hM, hA⟩ hB => pr_mk (v := spJudged a.q a.Li) (a' := a) (ci_judged (e := 71) hI hA (fun _ h => ⟨rfl, h⟩)) (mi_judged (e := 11) hM hA (fun _ h => ⟨rfl, h⟩)) (hA.up hB)
theorem pr_fits {d kd v : Int32} : PR zs x0 mb ((cX1_fits, some .int, 0, 8), (cX19_fits, some .int, 8)) [.int d, .int kd, .int v] := fun σ G M a B ⟨hI, hM, hA⟩ hB => pr_mk (v := spFits a.q a.Li d kd v) (a' := a) (ci_fits (e := 70) hI hA (fun _ h => ⟨rfl, h⟩)) (mi_fits (e := 10) hM hA (fun _ h => ⟨rfl, h⟩)) (hA.up hB)
theorem pr_tells {d : Int32} : PR zs x0 mb ((cX1_tells, some .int, 0, 8), (cX19_tells, some .int, 8)) [.int d] := fun σ G M a B ⟨hI, hM, hA⟩ hB => pr_mk (v := spTells a.q a.Li d) (a' := a) (ci_tells (e := 70) hI hA (fun _ h => ⟨rfl, h⟩)) (mi_tells (e := 10) hM hA (fun _ h => ⟨rfl, h⟩)) (hA.up hB)
theorem pr_breaks {d h v : Int32} : PR zs x0 mb ((cX1_breaks, some .int, 0, 5), (cX19_breaks, some .int, 5)) [.int d, .int h, .int v] := fun σ G M a B ⟨hI, hM, hA⟩ hB => pr_mk (v := spBreaks a.q a.s d h v) (a' := a) (ci_breaks (e := 66) hI hA (fun _ h => ⟨rfl, h⟩)) (mi_breaks (e := 10) hM hA (fun _ h => ⟨rfl, h⟩)) (hA.up hB)
theorem pr_trained {d o p v : Int32} : PR zs x0 mb ((cX1_trained, some .int, 0, 6), (cX19_trained, some .int, 6)) [.int d, .int o, .int p, .int v] := fun σ G M a B ⟨hI, hM, hA⟩ hB => pr_mk (v := spTrained a.q a.s d o p v) (a' := a) (ci_trained (e := 65) hI hA (fun _ h => ⟨rfl, h⟩)) (mi_trained (e := 9) hM hA (fun _ h => ⟨rfl, h⟩)) (hA.up hB)
theorem pr_best {d o p v : Int32} : PR zs x0 mb ((cX1_best, some .int, 0, 7), (cX19_best, some .int, 10)) [.int d, .int o, .int p, .int v] := fun σ G M a B ⟨hI, hM, hA⟩ hB => pr_mk (v := spBest a.q a.s d o p v) (a' := a) (ci_best (e := 69) hI hA (fun _ h => ⟨rfl, h⟩)) (mi_best (e := 14) hM hA (fun _ h => ⟨rfl, h⟩)) (hA.up hB)
theorem pr_rests {d v : Int32} : PR zs x0 mb ((cX1_rests, some .int, 0, 6), (cX19_rests, some .int, 6)) [.int d, .int v] := fun σ G M a B ⟨hI, hM, hA⟩ hB => pr_mk (v := spRests a.q a.s d v) (a' := a) (ci_rests (e := 70) hI hA (fun _ h => ⟨rfl, h⟩)) (mi_rests (e := 11) hM hA (fun _ h => ⟨rfl, h⟩)) (hA.up hB)
theorem pr_knock {d h y : Int32} : PR zs x0 mb ((cX1_knock, some .int, 0, 4), (cX19_knock, some .int, 4)) [.int d, .int h, .int y] := fun σ G M a B ⟨hI, hM, hA⟩ hB => by
  cases hv : okKn a.q d h y with
  | false => exact pr_mk (v := spKnock a.q a.s d h y) (a' := a) (ci_knock (e := 72) hI hA (fun _ _ h => ⟨rfl, h⟩) (fun z => by rw [hv] at z; cases z)) (mi_knock (e := 14) hM hA (fun _ _ h => ⟨rfl, h⟩) (fun z => by rw [hv] at z; cases z)) (hA.up hB)
  | true =>
    obtain ⟨j, hj, -, hx⟩ := vD_t hA.1.1 (vv_t (vv_t hv).1).1
    have hD := hA.1.1.1.2.1
    have hU := hA.up hB
    refine pr_mk (v := spKnock a.q a.s d h y) (ci_knock (e := 72) hI hA (fun z => by rw [hv] at z; cases z) (fun _ _ h => ⟨rfl, h⟩)) (mi_knock (e := 14) hM hA (fun z => by rw [hv] at z; cases z) (fun _ _ h => ⟨rfl, h⟩)) (AOK.mk hU.1.1 hU.1.2.1 hU.1.2.2.1 ((tS_WS hA.1.2.2.2 (by omega)).le (by omega)) (ks_WS hU.1.2.2.2 hU.2.1) hU.2.2.1 hU.2.2.2.1 hU.2.2.2.2.1 hB)
theorem pr_near {d v : Int32} : PR zs x0 mb ((cX1_near, some .boolean, 0, 3), (cX19_near, some .boolean, 3)) [.int d, .int v] := fun σ G M a B ⟨hI, hM, hA⟩ hB => by
  cases hv : okNr a.q a.s d v with
  | false => exact pr_mk (v := bI false) (a' := a) (ci_near (e := 194) hI hA (fun _ _ h => ⟨rfl, h⟩) (fun z => by rw [hv] at z; cases z)) (mi_near (e := 14) hM (fun _ _ h => ⟨rfl, h⟩) (fun z => by rw [hv] at z; cases z)) (hA.up hB)
  | true =>
    obtain ⟨j, hj, -, hx⟩ := vD_t hA.1.1 (vv_t (vv_t hv).1).1
    have hw := of_decide_eq_true (vv_t (vv_t hv).1).2
    obtain ⟨l, hl, e⟩ := nI_of (x := v) (fun z => Int32.not_le.mpr z (Int32.le_trans (by decide) hw.1))
    have hl2 : ix v ≤ 99 := by
      subst e
      rw [show ix (nI l) = l from nI_clamp hl]
      exact (nI_leI hl (by omega)).mp hw.2
    have hD := hA.1.1.1.2.1
    have hU := hA.up hB
    refine pr_mk (v := bI true) (ci_near (e := 194) hI hA (fun z => by rw [hv] at z; cases z) (fun _ _ h => ⟨rfl, h⟩)) (mi_near (e := 14) hM (fun z => by rw [hv] at z; cases z) (fun _ _ h => ⟨rfl, h⟩)) (AOK.mk hU.1.1 hU.1.2.1 hU.1.2.2.1 (hU.1.2.2.2.near hU.2.2.2.2.1 (by omega) hl2) (ks_WS hU.1.2.2.2 hU.2.1) hU.2.2.1 hU.2.2.2.1 hU.2.2.2.2.1 hB)
theorem pr_undo : PR zs x0 mb ((cX1_undo, some .boolean, 0, 2), (cX19_undo, some .boolean, 1)) [] := fun σ G M a B ⟨hI, hM, hA⟩ hB => by
  have hU := hA.up hB
  by_cases hv : a.n = 0
  · exact pr_mk (v := bI false) (a' := a) (ci_undo (e := 197) hI hA (fun _ _ h => ⟨rfl, h⟩) (fun z => by omega)) (mi_undo (e := 14) hM (fun _ _ h => ⟨rfl, h⟩) (fun z => by omega)) hU
  · exact pr_mk (v := bI true) (ci_undo (e := 197) hI hA (fun z => absurd z hv) (fun _ _ h => ⟨rfl, h⟩)) (mi_undo (e := 14) hM (fun z => absurd z hv) (fun _ _ h => ⟨rfl, h⟩)) (AOK.mk hU.1.1 hU.1.2.1 hU.1.2.2.1 (hU.2.1 _ (by omega)) (fun i hi => hU.2.1 i (by omega)) hU.2.2.1 hU.2.2.2.1 hU.2.2.2.2.1 hB)
theorem pr_hours {v : Int32} : PR zs x0 mb ((cX1_hours, some .int, 0, 3), (cX19_hours, some .int, 3)) [.int v] := fun σ G M a B ⟨hI, hM, hA⟩ hB => by
  have hU := hA.up hB
  cases hv : vHr v with
  | false => exact pr_mk (v := -1) (a' := a) (ci_hours (e := 194) hI hA (fun _ _ h => ⟨rfl, h⟩) (fun z => by rw [hv] at z; cases z)) (mi_hours (e := 13) hM hA (fun _ _ h => ⟨rfl, h⟩) (fun z => by rw [hv] at z; cases z)) hU
  | true =>
    have hw := of_decide_eq_true hv
    obtain ⟨l, hl, e⟩ := nI_of (x := v) (fun z => Int32.not_le.mpr z (Int32.le_trans (by decide) hw.1))
    have hl2 : ix v ≤ 1000 := by
      subst e
      rw [show ix (nI l) = l from nI_clamp hl]
      exact (nI_leI hl (by omega)).mp hw.2
    have h9 := hA.2.2.2.2.1
    have h23 := hA.1.2.2.2.2
    refine pr_mk (v := spHours a.q a.s v) (ci_hours (e := 194) hI hA (fun z => by rw [hv] at z; cases z) (fun _ _ h => ⟨rfl, h⟩)) (mi_hours (e := 13) hM hA (fun z => by rw [hv] at z; cases z) (fun _ _ h => ⟨rfl, h⟩)) (AOK.mk hU.1.1 hU.1.2.1 hU.1.2.2.1 ((hr_WS hA.1.1 hA.1.2.2.2 (by omega)).le ?_) (fun i hi => absurd hi (Nat.not_lt_zero i)) hU.2.2.1 hU.2.2.2.1 hU.2.2.2.2.1 hB)
    omega
theorem pr_feed {y b c : Int64} : PR zs x0 mb ((cX1_feed, some .int, 0, 7), (cX19_feed, some .int, 11)) [.long y, .long b, .long c] := fun σ G M a B ⟨hI, hM, hA⟩ hB => by
  have hU := hA.up hB
  exact pr_mk (v := nI (spFeed y b c a.T).1) (ci_feed (e := 198) hI hA (fun _ h => ⟨rfl, h⟩)) (mi_feed (e := 20) hM hA (fun _ h => ⟨rfl, h⟩)) (AOK.mk hU.1.1 hU.1.2.1 hU.1.2.2.1 hU.1.2.2.2 hU.2.1 hU.2.2.1 (TOK.w (TOK.w (TOK.w hU.2.2.2.1 8) 8) 8) hU.2.2.2.2.1 hB)
theorem pr_quarter (hZ : ZS zs) : PR zs x0 mb ((cX1_quarter, some .int, 1, 2), (cX19_quarter, some .int, 2)) [] := fun σ G M a B ⟨hI, hM, hA⟩ hB => by
  have hU := hA.up hB
  cases hp : pQr (tls a.T.2 a.T.1 0) with
  | ok q' =>
    have hq := pQr_ok hM hA hp
    exact pr_mk (v := nI 0) (ci_quarter (e := 158) hZ hI hA (fun q2 h2 => ⟨pQr_ok hM hA h2, pQr_t h2⟩) (fun q2 h2 _ h => ⟨rfl, by rw [hp] at h2; cases h2; exact h⟩) (fun k h2 => by rw [hp] at h2; cases h2)) (mi_quarter (e := 14) hM hA (fun q2 h2 _ _ h => ⟨rfl, by rw [hp] at h2; cases h2; exact h⟩) (fun k h2 => by rw [hp] at h2; cases h2)) (AOK.mk hq (pQr_t hp) ⟨Nat.zero_le _, fun _ _ _ z => by cases z⟩ ((fh_WS hq).le hU.2.2.2.2.1) (fun i hi => absurd hi (Nat.not_lt_zero i)) hU.2.2.1 ⟨Nat.zero_le _, fun j hj => absurd hj (Nat.not_lt_zero j)⟩ hU.2.2.2.2.1 hB)
  | error k => exact pr_mk (v := nI k) (ci_quarter (e := 158) hZ hI hA (fun q2 h2 => by rw [hp] at h2; cases h2) (fun q2 h2 => by rw [hp] at h2; cases h2) (fun k h2 _ h => by rw [hp] at h2; cases h2; exact ⟨rfl, h⟩)) (mi_quarter (e := 14) hM hA (fun q2 h2 => by rw [hp] at h2; cases h2) (fun k h2 _ h => by rw [hp] at h2; cases h2; exact ⟨rfl, h⟩)) (hA.t0 hB)
theorem pr_history (hZ : ZS zs) : PR zs x0 mb ((cX1_history, some .int, 2, 2), (cX19_history, some .int, 1)) [] := fun σ G M a B ⟨hI, hM, hA⟩ hB => by
  have hU := hA.up hB
  cases hp : pHis a.q (tls a.T.2 a.T.1 0).length [] (tls a.T.2 a.T.1 0) with
  | ok L' =>
    have hq := pHis_ok hM hA hp
    exact pr_mk (v := nI 0) (ci_history (e := 193) hZ hI hA (fun q2 h2 _ h => ⟨rfl, by rw [hp] at h2; cases h2; exact h⟩) (fun k h2 => by rw [hp] at h2; cases h2)) (mi_history (e := 15) hM hA (fun q2 h2 _ _ h => ⟨rfl, by rw [hp] at h2; cases h2; exact h⟩) (fun k h2 => by rw [hp] at h2; cases h2)) (AOK.mk hU.1.1 hU.1.2.1 hq hU.1.2.2.2 hU.2.1 hU.2.2.1 ⟨Nat.zero_le _, fun j hj => absurd hj (Nat.not_lt_zero j)⟩ hU.2.2.2.2.1 hB)
  | error k => exact pr_mk (v := nI k) (ci_history (e := 193) hZ hI hA (fun q2 h2 => by rw [hp] at h2; cases h2) (fun k h2 _ h => by rw [hp] at h2; cases h2; exact ⟨rfl, h⟩)) (mi_history (e := 15) hM hA (fun q2 h2 => by rw [hp] at h2; cases h2) (fun k h2 _ h => by rw [hp] at h2; cases h2; exact ⟨rfl, h⟩)) (hA.t0 hB)
theorem pr_mark {v : Int32} {b : Bool} : PR zs x0 mb ((cX1_mark, some .boolean, 0, 3), (cX19_mark, some .boolean, 3)) [.int v, .int (bI b)] := fun σ G M a B ⟨hI, hM, hA⟩ hB => by
  have hU := hA.up hB
  cases hv : mkV a.mk v b with
  | false => exact pr_mk (v := nI 0) (a' := a) (ci_mark_no (e := 199) hI hv (fun _ h => ⟨rfl, h⟩)) (mi_mark_no (e := 18) hM hv (fun _ h => ⟨rfl, h⟩)) hU
  | true =>
    have hw := of_decide_eq_true (vv_t hv).1
    obtain ⟨l, hl, e⟩ := nI_of (x := v) (fun z => Int32.not_le.mpr z (Int32.le_trans (by decide) hw.1))
    subst e
    have hl2 : l < 4 := by have := (nI_leI hl (by omega)).mp hw.2; omega
    cases b with
    | false => exact pr_mk (v := nI 1) (ci_mark_st (e := 194) hl2 hI hA (fun _ h => ⟨rfl, h⟩)) (mi_mark_st (e := 18) hl2 hM (fun _ h => ⟨rfl, h⟩)) (AOK.mk hU.1.1 hU.1.2.1 hU.1.2.2.1 hU.1.2.2.2 hU.2.1 (fun k hk qm sm Lm z => by
        unfold mkU at z
        split at z
        · cases z; exact hU.1
        · exact hU.2.2.1 k hk qm sm Lm z) hU.2.2.2.1 hU.2.2.2.2.1 hB)
    | true =>
      have hs := (vv_t hv).2
      rw [show ix (nI l) = l from nI_clamp hl, Bool.not_true, Bool.false_or] at hs
      obtain ⟨⟨qm, sm, Lm⟩, he⟩ := Option.isSome_iff_exists.mp hs
      have hm := hU.2.2.1 l hl2 qm sm Lm he
      exact pr_mk (v := nI 1) (ci_mark_bk (e := 194) hl2 hI hA he (fun _ h => ⟨rfl, h⟩)) (mi_mark_bk (e := 18) hl2 hM he (fun _ h => ⟨rfl, h⟩)) (AOK.mk hm.1 hm.2.1 hm.2.2.1 hm.2.2.2 (fun i hi => absurd hi (Nat.not_lt_zero i)) hU.2.2.1 hU.2.2.2.1 hU.2.2.2.2.1 hB)
end
