set_option maxRecDepth 100000
/-! PLAIN: slips counted in two ways -/
def smN (f : Nat → Nat) : Nat → Nat
  | 0 => 0
  | n + 1 => smN f n + f n
theorem smN_cg {f g : Nat → Nat} : ∀ {n : Nat}, (∀ i, i < n → f i = g i) → smN f n = smN g n
  | 0, _ => rfl
  | n + 1, h => by unfold smN; rw [smN_cg (fun i hi => h i (by omega)), h n (by omega)]
theorem smN_add {f : Nat → Nat} {n : Nat} : ∀ {m : Nat}, smN f (n + m) = smN f n + smN (fun i => f (n + i)) m
  | 0 => rfl
  | m + 1 => by
    show smN f (n + m) + f (n + m) = smN f n + (smN (fun i => f (n + i)) m + f (n + m))
    rw [smN_add (m := m)]
    omega
theorem smN_mul {f : Nat → Nat} {n : Nat} : ∀ {m : Nat}, smN f (n * m) = smN (fun j => smN (fun i => f (n * j + i)) n) m
  | 0 => rfl
  | m + 1 => by
    rw [Nat.mul_succ, smN_add, smN_mul (m := m)]
    rfl
/-- sums over four digits -/
def s4 (n : Nat) (H : Nat → Nat → Nat → Nat → Nat) : Nat := smN (fun d => smN (fun c => smN (fun b => smN (fun a => H a b c d) n) n) n) n
theorem s4_eq {n : Nat} (hn : 0 < n) (H : Nat → Nat → Nat → Nat → Nat) : smN (fun x => H (x % n) (x / n % n) (x / n / n % n) (x / n / n / n % n)) (n * (n * (n * n))) = s4 n H := by
  rw [smN_mul]
  have e1 : ∀ j i, i < n → (n * j + i) % n = i ∧ (n * j + i) / n = j := fun j i hi => ⟨by rw [Nat.mul_add_mod, Nat.mod_eq_of_lt hi], by rw [Nat.mul_add_div hn, Nat.div_eq_of_lt hi, Nat.add_zero]⟩
  rw [smN_cg (g := fun x => smN (fun a => H a (x % n) (x / n % n) (x / n / n % n)) n) (fun j _ => smN_cg (fun i hi => by rw [(e1 j i hi).1, (e1 j i hi).2])), smN_mul]
  rw [smN_cg (g := fun x => smN (fun b => smN (fun a => H a b (x % n) (x / n % n)) n) n) (fun j _ => smN_cg (fun i hi => by rw [(e1 j i hi).1, (e1 j i hi).2])), smN_mul]
  unfold s4
  exact smN_cg (fun j hj => smN_cg (fun i hi => by rw [(e1 j i hi).1, (e1 j i hi).2, Nat.mod_eq_of_lt hj]))
def okDg (sl a : Nat) : Bool := decide (3 ≤ a + sl ∧ a ≤ 3 + sl)
theorem smN_dig {sl : Nat} (h : sl ≤ 3) (f : Nat → Nat) : smN (fun a => if okDg sl a = true then f a else 0) 7 = smN (fun a => f (a + 3 - sl)) (2 * sl + 1) := by
  have hc : sl = 0 ∨ sl = 1 ∨ sl = 2 ∨ sl = 3 := by omega
  rcases hc with rfl | rfl | rfl | rfl <;> simp [smN, okDg]
theorem smN_z : ∀ n, smN (fun _ => 0) n = 0
  | 0 => rfl
  | n + 1 => by unfold smN; rw [smN_z n]
theorem s4_dig {sl : Nat} (h : sl ≤ 3) (H : Nat → Nat → Nat → Nat → Nat) : s4 7 (fun a b c d => if (okDg sl a && (okDg sl b && (okDg sl c && okDg sl d))) = true then H a b c d else 0) = s4 (2 * sl + 1) (fun a b c d => H (a + 3 - sl) (b + 3 - sl) (c + 3 - sl) (d + 3 - sl)) := by
  unfold s4
  refine Eq.trans ?_ (smN_dig h (fun d => smN (fun c => smN (fun b => smN (fun a => H (a + 3 - sl) (b + 3 - sl) (c + 3 - sl) d) (2 * sl + 1)) (2 * sl + 1)) (2 * sl + 1)))
  refine smN_cg (fun d _ => ?_)
  cases hd : okDg sl d with
  | false => simp only [hd, Bool.and_false, Bool.false_eq_true, ↓reduceIte, smN_z]
  | true =>
    rw [if_pos rfl]
    refine Eq.trans ?_ (smN_dig h (fun c => smN (fun b => smN (fun a => H (a + 3 - sl) (b + 3 - sl) c d) (2 * sl + 1)) (2 * sl + 1)))
    refine smN_cg (fun c _ => ?_)
    cases hc : okDg sl c with
    | false => simp only [hc, Bool.and_false, Bool.false_and, Bool.false_eq_true, ↓reduceIte, smN_z]
    | true =>
      rw [if_pos rfl]
      refine Eq.trans ?_ (smN_dig h (fun b => smN (fun a => H (a + 3 - sl) b c d) (2 * sl + 1)))
      refine smN_cg (fun b _ => ?_)
      cases hb : okDg sl b with
      | false => simp only [hb, Bool.and_false, Bool.false_and, Bool.false_eq_true, ↓reduceIte, smN_z]
      | true =>
        rw [if_pos rfl]
        refine Eq.trans ?_ (smN_dig h (fun a => H a b c d))
        refine smN_cg (fun a _ => ?_)
        simp only [hb, hc, hd, Bool.and_true]
/-- slips of a hand, by digits: what a row of counts -/
theorem sl_count {sl : Nat} (h : sl ≤ 3) (Q : (Nat → Nat) → Nat) (hQ : ∀ f g, (∀ k, k < 4 → f k = g k) → Q f = Q g) : smN (fun x => if slB x sl = true then Q (dgt x) else 0) 2401 = smN (fun r => Q (gR (2 * sl + 1) sl r)) ((2 * sl + 1) * (2 * sl + 1) * (2 * sl + 1) * (2 * sl + 1)) := by
  let mk : Nat → Nat → Nat → Nat → Nat → Nat := fun a b c d k => if k = 0 then a else if k = 1 then b else if k = 2 then c else d
  have e1 : ∀ x, (if slB x sl = true then Q (dgt x) else 0) = (fun a b c d => if (okDg sl a && (okDg sl b && (okDg sl c && okDg sl d))) = true then Q (mk a b c d) else 0) (x % 7) (x / 7 % 7) (x / 7 / 7 % 7) (x / 7 / 7 / 7 % 7) := fun x => by
    have eb : slB x sl = (okDg sl (x % 7) && (okDg sl (x / 7 % 7) && (okDg sl (x / 7 / 7 % 7) && okDg sl (x / 7 / 7 / 7 % 7)))) := by
      unfold slB okDg dgt
      simp only [Bool.and_assoc, Nat.pow_zero, Nat.div_one, Nat.pow_one, Nat.div_div_eq_div_mul, Nat.reducePow, Nat.reduceMul]
    have eq : Q (dgt x) = Q (mk (x % 7) (x / 7 % 7) (x / 7 / 7 % 7) (x / 7 / 7 / 7 % 7)) := hQ _ _ (fun k hk => by
      have hc : k = 0 ∨ k = 1 ∨ k = 2 ∨ k = 3 := by omega
      rcases hc with rfl | rfl | rfl | rfl
      · show x / 7 ^ 0 % 7 = x % 7
        rw [Nat.pow_zero, Nat.div_one]
      · show x / 7 ^ 1 % 7 = x / 7 % 7
        rw [Nat.pow_one]
      · show x / 7 ^ 2 % 7 = x / 7 / 7 % 7
        rw [Nat.div_div_eq_div_mul]
      · show x / 7 ^ 3 % 7 = x / 7 / 7 / 7 % 7
        rw [Nat.div_div_eq_div_mul, Nat.div_div_eq_div_mul])
    show _ = if _ then Q (mk _ _ _ _) else 0
    rw [eb, eq]
  refine (smN_cg (fun x _ => e1 x)).trans ?_
  refine (s4_eq (n := 7) (by omega) (fun a b c d => if (okDg sl a && (okDg sl b && (okDg sl c && okDg sl d))) = true then Q (mk a b c d) else 0)).trans ?_
  rw [s4_dig h (fun a b c d => Q (mk a b c d)), show (2 * sl + 1) * (2 * sl + 1) * (2 * sl + 1) * (2 * sl + 1) = (2 * sl + 1) * ((2 * sl + 1) * ((2 * sl + 1) * (2 * sl + 1))) by simp only [Nat.mul_assoc]]
  refine (s4_eq (n := 2 * sl + 1) (by omega) (fun a b c d => Q (mk (a + 3 - sl) (b + 3 - sl) (c + 3 - sl) (d + 3 - sl)))).symm.trans ?_
  refine smN_cg (fun r _ => hQ _ _ (fun k hk => ?_))
  have hc : k = 0 ∨ k = 1 ∨ k = 2 ∨ k = 3 := by omega
  rcases hc with rfl | rfl | rfl | rfl
  · show r % (2 * sl + 1) + 3 - sl = r / (2 * sl + 1) ^ 0 % (2 * sl + 1) + 3 - sl
    rw [Nat.pow_zero, Nat.div_one]
  · show r / (2 * sl + 1) % (2 * sl + 1) + 3 - sl = r / (2 * sl + 1) ^ 1 % (2 * sl + 1) + 3 - sl
    rw [Nat.pow_one]
  · show r / (2 * sl + 1) / (2 * sl + 1) % (2 * sl + 1) + 3 - sl = r / (2 * sl + 1) ^ 2 % (2 * sl + 1) + 3 - sl
    rw [Nat.div_div_eq_div_mul, show (2 * sl + 1) ^ 2 = (2 * sl + 1) * (2 * sl + 1) from Nat.pow_two _]
  · show r / (2 * sl + 1) / (2 * sl + 1) / (2 * sl + 1) % (2 * sl + 1) + 3 - sl = r / (2 * sl + 1) ^ 3 % (2 * sl + 1) + 3 - sl
    rw [Nat.div_div_eq_div_mul, Nat.div_div_eq_div_mul, show (2 * sl + 1) ^ 3 = (2 * sl + 1) * (2 * sl + 1) * (2 * sl + 1) by rw [Nat.pow_succ, Nat.pow_two], Nat.mul_assoc]
