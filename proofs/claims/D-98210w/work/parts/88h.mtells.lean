set_option maxRecDepth 100000
/-! THE MODEL: tells -/
def tlF (q : QT) (L : List It) (d : Nat) : Nat → Bool := fun i => fitB q L d (i / 100) (i % 100)
def tlG (q : QT) (L : List It) (d h : Nat) : Nat → Bool := fun i => tlF q L d i && oS (qFit q d (i / 100) (i % 100)) (fhR (qFit q d (i / 100) (i % 100)) (some d) L).2 d h noG
def tlM (q : QT) (L : List It) (d : Nat) : Nat → Option Nat × Nat
  | 0 => (none, 0)
  | h + 1 => if (tlM q L d h).2 < min (fcS (tlG q L d h) 500) (fcS (tlF q L d) 500 - fcS (tlG q L d h) 500) then (some h, min (fcS (tlG q L d h) 500) (fcS (tlF q L d) 500 - fcS (tlG q L d h) 500)) else tlM q L d h
def spTells (q : QT) (L : List It) (d : Int32) : Int32 := if vD q d = true then faV (tlM q L (ix d) (qH q)).1 else -1
theorem tlG_le {q : QT} {L : List It} {d h : Nat} : ∀ n, fcS (tlG q L d h) n ≤ fcS (tlF q L d) n
  | 0 => Nat.le_refl _
  | n + 1 => by
    have := tlG_le (q := q) (L := L) (d := d) (h := h) n
    have h2 : (tlG q L d h n).toNat ≤ (tlF q L d n).toNat := by unfold tlG; cases tlF q L d n <;> cases oS (qFit q d (n / 100) (n % 100)) (fhR (qFit q d (n / 100) (n % 100)) (some d) L).2 d h noG <;> decide
    show fcS _ n + _ ≤ fcS _ n + _
    omega
section
variable {mb e : Nat} {M : MM} {P : MR → Prop} {q : QT} {s : Nat → Nat} {B : Nat}
theorem Kp.back1 {M' : MM} {X F : List Nat} {a : Nat} (h : Kp (a :: X) F M M') (ha : rI M' a = rI M a) : Kp X F M M' := by
  refine ⟨fun k h0 hk => ?_, h.2⟩
  by_cases h1 : k = a
  · rw [h1]; exact ha
  · refine h.1 k h0 ?_
    rw [List.contains_cons, beq_eq_false_iff_ne.mpr h1]
    exact hk
theorem rlS_WS {dr : Option Nat} (hq : QOK q) : ∀ (L : List It) (n : Nat) (fw : Option Nat) (s : Nat → Nat) (B : Nat), (∀ h d o, some (h, d, o) ∈ L → h < qH q ∧ d < qD q) → 1 ≤ B → WS B s → WS (B + 1620 * L.length) (rlS q dr L n fw s).2
  | [], n, fw, s, B, hL, hB, h => h
  | none :: L, n, fw, s, B, hL, hB, h => by
    have := rlS_WS (dr := dr) hq L n fw _ _ (fun h d o z => hL h d o (List.mem_cons_of_mem _ z)) (by omega) (tm_WS hq h hB)
    exact this.le (by rw [List.length_cons]; omega)
  | some (a, d, o) :: L, n, fw, s, B, hL, hB, h => by
    have hD := hq.1.2.1
    have hd := (hL a d o List.mem_cons_self).2
    have := rlS_WS (dr := dr) hq L (n + 1) (if oS q s d a noG ≠ o ∧ (dr = none ∨ dr = some d) ∧ fw = none then some n else fw) _ _ (fun h d o z => hL h d o (List.mem_cons_of_mem _ z)) (by omega) (tS_WS (q := q) (h := a) (g := noG) h (show d < 5 by omega))
    exact this.le (by rw [List.length_cons]; omega)
theorem fhR_WS {dr : Option Nat} {L : List It} (hq : QOK q) (hL : HOK q L) : WS 60000 (fhR q dr L).2 := by
  have hD := hq.1.2.1
  have h36 := hL.1
  have := rlS_WS (dr := dr) hq L 0 none (fhS q) 99 hL.2 (by omega) ⟨fh_SO hq (by omega), by rw [fh_hd hD (by omega)]; omega⟩
  exact this.le (by omega)
theorem oS_nr {d kd nr nr' h : Nat} {s g : Nat → Nat} : oS (qFit q d kd nr) s d h g = oS (qFit q d kd nr') s d h g := rfl
end
