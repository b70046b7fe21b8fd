/-! THE CALLS THAT ARE TAKEN AS ONE STEP: what they do -/
def strOf (zs : Nat → Nat) (a : Nat) : Option String := (sStr.zipIdx.find? (fun x => zs x.2 == a)).map (fun x => x.1.2)
def ixOf : List Nat → Int32 → Nat → Int32
  | [], _, _ => -1
  | x :: l, c, k => if Int32.ofNat x = c then Int32.ofNat k else ixOf l c (k + 1)
def cpF {α : Type} (f g : Nat → α) (i j n : Nat) : Nat → α := fun k => if j ≤ k ∧ k < j + n then f (i + (k - j)) else g k
def exF (zs : Nat → Nat) (a : Nat) (w : Value) (r : List Value) : List Value := .ref a :: zv zs 102 :: zv zs 103 :: .null :: .null :: w :: r
/-- all that is copied are objects of the heap's -/
def elB (σ : CM) (f : Nat → Option Nat) (i n : Nat) : Bool := (List.range n).all (fun j => match f (i + j) with
  | none => true
  | some y => match gC σ y with
    | some (.inl _) => true
    | some (.inr (kd, _)) => decide (kd = 0)
    | none => false)
def cpyB (i j n : Int32) (la lb : Nat) : Bool := decide (0 ≤ i ∧ 0 ≤ j ∧ 0 < n) && decide (i.toNatClampNeg + n.toNatClampNeg ≤ la ∧ j.toNatClampNeg + n.toNatClampNeg ≤ lb)
def Jcpy (σ : CM) (a b : Nat) (i j n : Int32) : Option (Option Value × CM) := match gC σ a, gC σ b with
  | some (.inr (0, la, .inl f)), some (.inr (0, lb, .inl g)) => if cpyB i j n la lb = true then some (none, pC σ b (.inr (0, lb, .inl (cpF f g i.toNatClampNeg j.toNatClampNeg n.toNatClampNeg)))) else none
  | some (.inr (4, la, .inr (.inr (.inr (.inr f))))), some (.inr (4, lb, .inr (.inr (.inr (.inr g))))) => if cpyB i j n la lb = true ∧ elB σ f i.toNatClampNeg n.toNatClampNeg = true then some (none, pC σ b (.inr (4, lb, .inr (.inr (.inr (.inr (cpF f g i.toNatClampNeg j.toNatClampNeg n.toNatClampNeg))))))) else none
  | _, _ => none
def Jgro (σ : CM) (a : Nat) (n : Int32) : Option (Option Value × CM) := match gC σ a with
  | some (.inr (4, la, .inr (.inr (.inr (.inr f))))) => if 0 ≤ n ∧ n ≤ 100000 ∧ la ≤ n.toNatClampNeg ∧ elB σ f 0 la = true ∧ 0 < la then some (some (.ref σ.1), aC σ n.toNatClampNeg (.inr (4, n.toNatClampNeg, .inr (.inr (.inr (.inr (fun k => if k < la then f k else none))))))) else none
  | _ => none
def Jc (zs : Nat → Nat) : CJ := fun kind As σ => match kind, As with
  | 1, [.ref _] => some (none, σ)
  | 2, [.int x, .int y] => some (some (.int (if y < x then y else x)), σ)
  | 3, [.int x, .int y] => some (some (.int (if x < y then y else x)), σ)
  | 4, [.int x] => some (some (.int (if x < 0 then -x else x)), σ)
  | 5, [.long x] => some (some (.long (if x < 0 then -x else x)), σ)
  | 6, [.ref a, .int i, .ref b, .int j, .int n] => Jcpy σ a b i j n
  | 7, [.ref a, .int n] => Jgro σ a n
  | 8, [.ref a] => (strOf zs a).map (fun t => (some (.int (Int32.ofNat t.length)), σ))
  | 9, [.ref a, .int i] => (strOf zs a).bind (fun t => if inb i t.length = true then some (some (.int (chI t i.toNatClampNeg)), σ) else none)
  | 10, [.ref a, .int x] => (strOf zs a).bind (fun t => if 0 ≤ x ∧ x ≤ 255 then some (some (.int (ixOf (t.toList.map Char.toNat) x 0)), σ) else none)
  | 11, [.ref a] => match gC σ a with
    | some (.inl (35, [_, _, _, .null, .null, w, v])) => some (none, pC σ a (.inl (35, exF zs a w [v])))
    | _ => none
  | 12, [.ref a] => match gC σ a with
    | some (.inl (38, [_, _, _, .null, .null, w])) => some (none, pC σ a (.inl (38, exF zs a w [])))
    | _ => none
  | 13, [.long v] => if -128 ≤ v ∧ v ≤ 127 then some (some (.ref (zs (200 + (v + 128).toNatClampNeg))), σ) else some (some (.ref σ.1), aC σ 1 (.inl (37, [.long v])))
  | _, _ => none
section
variable {zs : Nat → Nat} {σ : CM} {a b : Nat} {x y i j n : Int32} {K : Option Value → CM → Prop}
theorem J_1 : jE (Jc zs 1 [.ref a] σ) K = K none σ := rfl
theorem J_2 : jE (Jc zs 2 [.int x, .int y] σ) K = K (some (.int (if y < x then y else x))) σ := rfl
theorem J_3 : jE (Jc zs 3 [.int x, .int y] σ) K = K (some (.int (if x < y then y else x))) σ := rfl
theorem J_4 : jE (Jc zs 4 [.int x] σ) K = K (some (.int (if x < 0 then -x else x))) σ := rfl
theorem J_5 {x : Int64} : jE (Jc zs 5 [.long x] σ) K = K (some (.long (if x < 0 then -x else x))) σ := rfl
def JcpE (i j n : Int32) (b : Nat) (σ : CM) (p q : Option Cl) (K : Option Value → CM → Prop) : Prop := match p, q with
  | some (.inr (0, la, .inl f)), some (.inr (0, lb, .inl g)) => cpyB i j n la lb = true ∧ K none (pC σ b (.inr (0, lb, .inl (cpF f g i.toNatClampNeg j.toNatClampNeg n.toNatClampNeg))))
  | some (.inr (4, la, .inr (.inr (.inr (.inr f))))), some (.inr (4, lb, .inr (.inr (.inr (.inr g))))) => (cpyB i j n la lb = true ∧ elB σ f i.toNatClampNeg n.toNatClampNeg = true) ∧ K none (pC σ b (.inr (4, lb, .inr (.inr (.inr (.inr (cpF f g i.toNatClampNeg j.toNatClampNeg n.toNatClampNeg)))))))
  | _, _ => False
theorem J_6 : jE (Jc zs 6 [.ref a, .int i, .ref b, .int j, .int n] σ) K ↔ JcpE i j n b σ (gC σ a) (gC σ b) K := by
  show jE (Jcpy σ a b i j n) K ↔ _
  unfold Jcpy JcpE
  split
  · split
    · rename_i h; simp only [h, true_and]; exact Iff.rfl
    · rename_i h; simp only [h, false_and, Bool.false_eq_true]; exact Iff.rfl
  · split
    · rename_i h; simp only [h, true_and]; exact Iff.rfl
    · rename_i h; simp only [h, false_and, Bool.false_eq_true]; exact Iff.rfl
  · exact Iff.rfl
theorem JcpE_0 {la lb : Nat} {f g : Nat → Int32} : JcpE i j n b σ (some (.inr (0, la, .inl f))) (some (.inr (0, lb, .inl g))) K = (cpyB i j n la lb = true ∧ K none (pC σ b (.inr (0, lb, .inl (cpF f g i.toNatClampNeg j.toNatClampNeg n.toNatClampNeg))))) := rfl
theorem JcpE_4 {la lb : Nat} {f g : Nat → Option Nat} : JcpE i j n b σ (some (.inr (4, la, .inr (.inr (.inr (.inr f)))))) (some (.inr (4, lb, .inr (.inr (.inr (.inr g)))))) K = ((cpyB i j n la lb = true ∧ elB σ f i.toNatClampNeg n.toNatClampNeg = true) ∧ K none (pC σ b (.inr (4, lb, .inr (.inr (.inr (.inr (cpF f g i.toNatClampNeg j.toNatClampNeg n.toNatClampNeg)))))))) := rfl
def JgrE (n : Int32) (σ : CM) (p : Option Cl) (K : Option Value → CM → Prop) : Prop := match p with
  | some (.inr (4, la, .inr (.inr (.inr (.inr f))))) => (0 ≤ n ∧ n ≤ 100000 ∧ la ≤ n.toNatClampNeg ∧ elB σ f 0 la = true ∧ 0 < la) ∧ K (some (.ref σ.1)) (aC σ n.toNatClampNeg (.inr (4, n.toNatClampNeg, .inr (.inr (.inr (.inr (fun k => if k < la then f k else none)))))))
  | _ => False
theorem J_7 : jE (Jc zs 7 [.ref a, .int n] σ) K ↔ JgrE n σ (gC σ a) K := by
  show jE (Jgro σ a n) K ↔ _
  unfold Jgro JgrE
  split
  · split
    · rename_i h; simp only [h, true_and, and_self]; exact Iff.rfl
    · rename_i h; simp only [h, false_and, Bool.false_eq_true]; exact Iff.rfl
  · exact Iff.rfl
theorem JgrE_4 {la : Nat} {f : Nat → Option Nat} : JgrE n σ (some (.inr (4, la, .inr (.inr (.inr (.inr f)))))) K = ((0 ≤ n ∧ n ≤ 100000 ∧ la ≤ n.toNatClampNeg ∧ elB σ f 0 la = true ∧ 0 < la) ∧ K (some (.ref σ.1)) (aC σ n.toNatClampNeg (.inr (4, n.toNatClampNeg, .inr (.inr (.inr (.inr (fun k => if k < la then f k else none)))))))) := rfl
theorem J_8 {t : String} (h : strOf zs a = some t) : jE (Jc zs 8 [.ref a] σ) K = K (some (.int (Int32.ofNat t.length))) σ := by
  show jE ((strOf zs a).map _) K = _
  rw [h]; rfl
theorem J_9 {t : String} (h : strOf zs a = some t) : jE (Jc zs 9 [.ref a, .int i] σ) K ↔ inb i t.length = true ∧ K (some (.int (chI t i.toNatClampNeg))) σ := by
  show jE ((strOf zs a).bind _) K ↔ _
  rw [h, Option.bind_some]
  split
  · rename_i h; simp only [h, true_and]; exact Iff.rfl
  · rename_i h; simp only [h, false_and, Bool.false_eq_true]; exact Iff.rfl
theorem J_10 {t : String} (h : strOf zs a = some t) : jE (Jc zs 10 [.ref a, .int x] σ) K ↔ (0 ≤ x ∧ x ≤ 255) ∧ K (some (.int (ixOf (t.toList.map Char.toNat) x 0))) σ := by
  show jE ((strOf zs a).bind _) K ↔ _
  rw [h, Option.bind_some]
  split
  · rename_i h; simp only [h, true_and, and_self]; exact Iff.rfl
  · rename_i h; simp only [h, false_and, Bool.false_eq_true]; exact Iff.rfl
theorem J_11 {v0 v1 v2 v5 v6 : Value} (h : gC σ a = some (.inl (35, [v0, v1, v2, .null, .null, v5, v6]))) : jE (Jc zs 11 [.ref a] σ) K = K none (pC σ a (.inl (35, exF zs a v5 [v6]))) := by
  simp only [Jc, h, jE]
theorem J_12 {v0 v1 v2 v5 : Value} (h : gC σ a = some (.inl (38, [v0, v1, v2, .null, .null, v5]))) : jE (Jc zs 12 [.ref a] σ) K = K none (pC σ a (.inl (38, exF zs a v5 []))) := by
  simp only [Jc, h, jE]
theorem J_13 {v : Int64} : jE (Jc zs 13 [.long v] σ) K ↔ if -128 ≤ v ∧ v ≤ 127 then K (some (.ref (zs (200 + (v + 128).toNatClampNeg)))) σ else K (some (.ref σ.1)) (aC σ 1 (.inl (37, [.long v]))) := by
  simp only [Jc]
  split <;> exact Iff.rfl
end
