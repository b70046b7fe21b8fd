set_option maxRecDepth 100000
/-! TOKENS: sort (0 end, 1 word, 2 number, 3 sign, 4 none), value, place -/
abbrev Tk : Type := Nat × Nat × Nat
def skS (T : Nat → Nat) (n : Nat) : Nat → Nat → Nat
  | 0, p => p
  | f + 1, p => if T p = 32 ∨ T p = 10 then skS T n f (p + 1) else p
def rnS (T : Nat → Nat) (lo hi : Nat) : Nat → Nat → Nat
  | 0, p => p
  | f + 1, p => if lo ≤ T p ∧ T p ≤ hi then rnS T lo hi f (p + 1) else p
/-- the value of a run: its first m places, to a base, less an offset each -/
def vlS (T : Nat → Nat) (b m c o : Nat) : Nat → Nat
  | 0 => 0
  | j + 1 => if j < m then vlS T b m c o j * c + (T (b + j) - o) else vlS T b m c o j
def sgN (c : Nat) : Bool := decide (40 ≤ c ∧ c ≤ 43 ∨ c = 45 ∨ 59 ≤ c ∧ c ≤ 61)
/-- the token from a begin on, its end -/
def tbK (T : Nat → Nat) (n b : Nat) : Tk × Nat :=
  if n ≤ b then ((0, 0, n), n)
  else if 97 ≤ T b ∧ T b ≤ 122 then ((if 8 < rnS T 97 122 (n - b) b - b then 4 else 1, vlS T b 8 27 96 (rnS T 97 122 (n - b) b - b), b), rnS T 97 122 (n - b) b)
  else if 48 ≤ T b ∧ T b ≤ 57 then ((if 4 < rnS T 48 57 (n - b) b - b then 4 else 2, vlS T b 4 10 48 (rnS T 48 57 (n - b) b - b), b), rnS T 48 57 (n - b) b)
  else ((if sgN (T b) = true then 3 else 4, T b, b), b + 1)
def tpK (T : Nat → Nat) (n p : Nat) : Tk × Nat := tbK T n (skS T n (n - p) p)
theorem skS_le {T : Nat → Nat} {n : Nat} : ∀ {f p : Nat}, p ≤ skS T n f p ∧ skS T n f p ≤ p + f
  | 0, p => ⟨Nat.le_refl _, Nat.le_refl _⟩
  | f + 1, p => by
    unfold skS
    split
    · have := skS_le (T := T) (n := n) (f := f) (p := p + 1)
      omega
    · omega
theorem rnS_le {T : Nat → Nat} {lo hi : Nat} : ∀ {f p : Nat}, p ≤ rnS T lo hi f p ∧ rnS T lo hi f p ≤ p + f
  | 0, p => ⟨Nat.le_refl _, Nat.le_refl _⟩
  | f + 1, p => by
    unfold rnS
    split
    · have := rnS_le (T := T) (lo := lo) (hi := hi) (f := f) (p := p + 1)
      omega
    · omega
theorem rnS_lt {T : Nat → Nat} {lo hi f p : Nat} (h : lo ≤ T p ∧ T p ≤ hi) (hf : 0 < f) : p < rnS T lo hi f p := by
  obtain ⟨f, rfl⟩ : ∃ g, f = g + 1 := ⟨f - 1, by omega⟩
  unfold rnS
  rw [if_pos h]
  have := (rnS_le (T := T) (lo := lo) (hi := hi) (f := f) (p := p + 1)).1
  omega
/-- a token ends behind where it was looked for, unless it is the end -/
theorem tbK_end {T : Nat → Nat} {n b : Nat} (hb : b ≤ n) : ((tbK T n b).1.1 = 0 ∧ (tbK T n b).2 = n ∨ (tbK T n b).1.1 ≠ 0 ∧ b < (tbK T n b).2) ∧ (tbK T n b).2 ≤ n := by
  unfold tbK
  split
  · exact ⟨Or.inl ⟨rfl, rfl⟩, Nat.le_refl _⟩
  · split
    · rename_i h1 h2
      have := rnS_lt h2 (show 0 < n - b by omega)
      have := (rnS_le (T := T) (lo := 97) (hi := 122) (f := n - b) (p := b)).2
      refine ⟨Or.inr ⟨?_, by assumption⟩, show rnS T 97 122 (n - b) b ≤ n by omega⟩
      show (if 8 < _ then 4 else 1) ≠ 0
      split <;> decide
    · split
      · rename_i h1 h2 h3
        have := rnS_lt h3 (show 0 < n - b by omega)
        have := (rnS_le (T := T) (lo := 48) (hi := 57) (f := n - b) (p := b)).2
        refine ⟨Or.inr ⟨?_, by assumption⟩, show rnS T 48 57 (n - b) b ≤ n by omega⟩
        show (if 4 < _ then 4 else 2) ≠ 0
        split <;> decide
      · refine ⟨Or.inr ⟨?_, show b < b + 1 by omega⟩, show b + 1 ≤ n by omega⟩
        show (if _ then 3 else 4) ≠ 0
        split <;> decide
theorem tpK_end {T : Nat → Nat} {n p : Nat} (hp : p ≤ n) : ((tpK T n p).1.1 = 0 ∧ (tpK T n p).2 = n ∨ (tpK T n p).1.1 ≠ 0 ∧ p < (tpK T n p).2) ∧ (tpK T n p).2 ≤ n := by
  have h := skS_le (T := T) (n := n) (f := n - p) (p := p)
  have := tbK_end (T := T) (n := n) (b := skS T n (n - p) p) (by omega)
  unfold tpK
  refine ⟨?_, this.2⟩
  rcases this.1 with a | ⟨a, b⟩
  · exact Or.inl a
  · exact Or.inr ⟨a, by omega⟩
/-- all tokens from a place on, the end with them -/
def tlS (T : Nat → Nat) (n : Nat) : Nat → Nat → List Tk
  | 0, _ => []
  | f + 1, p => if (tpK T n p).1.1 = 0 then [(tpK T n p).1] else (tpK T n p).1 :: tlS T n f (tpK T n p).2
theorem tlS_f {T : Nat → Nat} {n : Nat} : ∀ {f g p : Nat}, p ≤ n → n < p + f → n < p + g → tlS T n f p = tlS T n g p
  | 0, _, p, _, h, _ => by omega
  | _, 0, p, _, _, h => by omega
  | f + 1, g + 1, p, hp, hf, hg => by
    unfold tlS
    have := tpK_end (T := T) hp
    split
    · rfl
    · rename_i hne
      rcases this.1 with ⟨a, _⟩ | ⟨_, b⟩
      · exact absurd a hne
      · rw [tlS_f (f := f) (g := g) this.2 (by omega) (by omega)]
def tls (T : Nat → Nat) (n p : Nat) : List Tk := tlS T n (n + 1 - p) p
theorem tls_u {T : Nat → Nat} {n p : Nat} (hp : p ≤ n) : tls T n p = if (tpK T n p).1.1 = 0 then [(tpK T n p).1] else (tpK T n p).1 :: tls T n (tpK T n p).2 := by
  unfold tls
  have := tpK_end (T := T) hp
  rw [show n + 1 - p = (n - p) + 1 by omega]
  show (if (tpK T n p).1.1 = 0 then _ else _) = _
  split
  · rfl
  · rename_i hne
    rcases this.1 with ⟨a, _⟩ | ⟨_, b⟩
    · exact absurd a hne
    · rw [tlS_f (f := n - p) (g := n + 1 - (tpK T n p).2) this.2 (by omega) (by omega)]
