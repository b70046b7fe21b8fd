/-! THE COMPONENT's MEMORY: the next address, the slots made so far, the cells by address -/
abbrev Cl : Type := (Nat × List Value) ⊕ (Nat × vp_A)
abbrev CM : Type := Nat × Nat × (Nat → Option Cl)
def gC (σ : CM) (a : Nat) : Option Cl := σ.2.2 a
def pC (σ : CM) (a : Nat) (c : Cl) : CM := (σ.1, σ.2.1, fun b => if b = a then some c else σ.2.2 b)
/-- a new cell of k slots -/
def aC (σ : CM) (k : Nat) (c : Cl) : CM := (σ.1 + 1, σ.2.1 + k, fun b => if b = σ.1 then some c else σ.2.2 b)
theorem gC_self {σ : CM} {a : Nat} {c : Cl} : gC (pC σ a c) a = some c := by simp [gC, pC]
theorem gC_ne {σ : CM} {a b : Nat} {c : Cl} (h : b ≠ a) : gC (pC σ a c) b = gC σ b := by simp [gC, pC, h]
theorem gC_new {σ : CM} {k : Nat} {c : Cl} : gC (aC σ k c) σ.1 = some c := by simp [gC, aC]
theorem gC_old {σ : CM} {k b : Nat} {c : Cl} (h : b ≠ σ.1) : gC (aC σ k c) b = gC σ b := by simp [gC, aC, h]
/-- cells that are only read -/
def wrt (c : Cl) : Bool := match c with
  | .inl o => decide (o.1 ≠ 39)
  | .inr a => decide (a.1 ≠ 9)
def toE (ac : Nat → ClassId) (c : Cl) : va_E := match c with
  | .inl o => .inr o
  | .inr a => .inl (ac a.1, a.2)
def cTys (ac : Nat → ClassId) : List (ClassId × FieldType) := (List.range 10).map (fun k => (ac k, kTy k))
theorem cTys_at {ac : Nat → ClassId} {k : Nat} (h : k < 10) : (cTys ac)[k]? = some (ac k, kTy k) := by
  unfold cTys
  rw [List.getElem?_map, List.getElem?_range h]
  rfl
/-- the monitor of an exception is free -/
def mok (c : Cl) (b : Nat) (H : Heap) : Prop := match c with
  | .inl o => o.1 = 35 ∨ o.1 = 38 → ∀ cell : Cell, H[b]? = some cell → cell.monitor.owner = none ∧ cell.monitor.count = 0
  | .inr _ => True
theorem mok.kept {c : Cl} {b : Nat} {H H1 : Heap} (h : mok c b H) (e : H1[b]? = H[b]?) : mok c b H1 := by
  unfold mok at h ⊢
  split
  · rw [e]; exact h
  · trivial
/-- neither an empty array of objects nor one of the JDK's own Longs -/
def nzC (c : Cl) : Bool := match c with
  | .inl o => decide (o.1 ≠ 39)
  | .inr a => decide (a.1 ≠ 4 ∨ a.2.1 ≠ 0)
theorem nz_k {kd : Nat} {x : vp_A} (h : kd ≠ 4) : nzC (.inr (kd, x)) = true := decide_eq_true (Or.inl h)
theorem nz_n {kd : Nat} {x : vp_A} (h : x.1 ≠ 0) : nzC (.inr (kd, x)) = true := decide_eq_true (Or.inr h)
theorem nz_i {kd : Nat} {x : vp_A} {i : Int32} (h : vp_in i x.1) : nzC (.inr (kd, x)) = true := nz_n (fun z => h (Or.inr (by
  rw [z]
  exact Nat.zero_le _)))
/-- an object as it is read -/
def oAt (D : va_G) (b ci : Nat) (fs : List Value) (H : Heap) : Prop := ∃ q : vw_C, cCl[ci]? = some q ∧ ∃ cell : Cell, H[b]? = some cell ∧ cell.cls = D.1 ci ∧ cell.vm.isStatics = false ∧ cell.vm ≠ .unknown ∧ ∀ k, k < q.2.2 → cell.slots[D.2 ci k]? = some (vp_V fs k)
/-- a cell of the JDK's own: no more is known of it than what is read -/
def wkE (D : va_G) (ac : Nat → ClassId) (A : Nat → Prop) (b : Nat) (c : Cl) (H : Heap) : Prop := nzC c = false ∧ ¬ A b ∧ match c with
  | .inl o => oAt D b o.1 o.2 H
  | .inr _ => ∃ cell : Cell, H[b]? = some cell ∧ cell.slots.size = 0 ∧ cell.cls = ac 4 ∧ ∀ k, cell.vm ≠ .statics k
theorem wkE.kept {D : va_G} {ac : Nat → ClassId} {A : Nat → Prop} {b : Nat} {c : Cl} {H H1 : Heap} (h : wkE D ac A b c H) (e : H1[b]? = H[b]?) : wkE D ac A b c H1 := by
  obtain ⟨h1, h2, h3⟩ := h
  refine ⟨h1, h2, ?_⟩
  cases c with
  | inl o =>
    obtain ⟨q, hq, cell, h4, h5⟩ := h3
    exact ⟨q, hq, cell, by rw [e]; exact h4, h5⟩
  | inr a =>
    obtain ⟨cell, h4, h5⟩ := h3
    exact ⟨cell, by rw [e]; exact h4, h5⟩
/-- a cell as the heap holds it -/
def cAt (D : va_G) (ac : Nat → ClassId) (A : Nat → Prop) (b : Nat) (c : Cl) (H : Heap) : Prop := va_at D cCl (b, toE ac c) H ∧ (wrt c = true → A b) ∧ (wrt c = false → ¬ A b) ∧ mok c b H
theorem cAt.kept {D : va_G} {ac : Nat → ClassId} {A : Nat → Prop} {b : Nat} {c : Cl} {H H1 : Heap} (h : cAt D ac A b c H) (e : H1[b]? = H[b]?) : cAt D ac A b c H1 := ⟨h.1.kept e, h.2.1, h.2.2.1, h.2.2.2.kept e⟩
/-- the machine's heap holds the cells -/
def HP (D : va_G) (ac : Nat → ClassId) (A : Nat → Prop) (σ : CM) (H : Heap) : Prop := σ.1 = H.size ∧ (∀ b c, gC σ b = some c → cAt D ac A b c H ∨ wkE D ac A b c H) ∧ ∀ q, σ.1 ≤ q → A q
theorem HP.at {D : va_G} {ac : Nat → ClassId} {A : Nat → Prop} {σ : CM} {H : Heap} (h : HP D ac A σ H) {b : Nat} {c : Cl} (hb : gC σ b = some c) (hn : nzC c = true) : va_at D cCl (b, toE ac c) H ∧ (wrt c = true → A b) ∧ (wrt c = false → ¬ A b) ∧ mok c b H := by
  rcases h.2.1 b c hb with h1 | h1
  · exact h1
  · exact absurd (hn.symm.trans h1.1) (by decide)
theorem cAt.or {D : va_G} {ac : Nat → ClassId} {A : Nat → Prop} {b : Nat} {c : Cl} {H H1 : Heap} (h : cAt D ac A b c H ∨ wkE D ac A b c H) (e : H1[b]? = H[b]?) : cAt D ac A b c H1 ∨ wkE D ac A b c H1 := by
  rcases h with h | h
  · exact Or.inl (h.kept e)
  · exact Or.inr (h.kept e)
theorem HP.lt {D : va_G} {ac : Nat → ClassId} {A : Nat → Prop} {σ : CM} {H : Heap} (h : HP D ac A σ H) {b : Nat} {c : Cl} (hb : gC σ b = some c) : b < σ.1 := by
  rw [h.1]
  rcases h.2.1 b c hb with h1 | h1
  · exact h1.1.lt
  · obtain ⟨-, -, h1⟩ := h1
    cases c with
    | inl o =>
      obtain ⟨q, hq, cell, h4, h5⟩ := h1
      exact (Array.getElem?_eq_some_iff.mp h4).1
    | inr a =>
      obtain ⟨cell, h4, h5⟩ := h1
      exact (Array.getElem?_eq_some_iff.mp h4).1
theorem HP.obj {D : va_G} {ac : Nat → ClassId} {A : Nat → Prop} {σ : CM} {H : Heap} (h : HP D ac A σ H) {b ci : Nat} {fs : List Value} (hb : gC σ b = some (.inl (ci, fs))) : oAt D b ci fs H := by
  rcases h.2.1 b _ hb with h1 | h1
  · obtain ⟨r, h2, cell, q1, q2, q3, q4⟩ := h1.1
    exact ⟨r, h2, cell, q1, q2, by rw [q3]; rfl, (by rw [q3]; exact fun z => (by cases z)), q4⟩
  · exact h1.2.2
/-- an object that a method is called of -/
theorem HP.recv {D : va_G} {ac : Nat → ClassId} {A : Nat → Prop} {σ : CM} {H : Heap} {tys : List (ClassId × FieldType)} {s : State} (h : HP D ac A σ H) (hK : va_K D cCl tys s) {b ci : Nat} {fs : List Value} {q : vw_C} (hb : gC σ b = some (.inl (ci, fs))) (hc : cCl[ci]? = some q) : ∃ cell : Cell, H[b]? = some cell ∧ cell.vm.isStatics = false ∧ s.vm.findClass q.1 = some cell.cls := by
  obtain ⟨r, h2, cell, q1, q2, q3, -⟩ := h.obj hb
  exact ⟨cell, q1, q3, by rw [q2]; exact (hK.1 ci q hc).2.1⟩
theorem HP.one {D : va_G} {ac : Nat → ClassId} {A : Nat → Prop} {σ : CM} {H : Heap} (h : HP D ac A σ H) {b : Nat} {c : Cl} (hb : gC σ b = some c) (hn : nzC c = true := by rfl) : va_P D cCl [(b, toE ac c)] H := by
  intro k q hk
  have hz : k < 1 := (List.getElem?_eq_some_iff.mp hk).1
  rw [show k = 0 by omega] at hk
  cases hk
  exact (h.at hb hn).1
theorem HP.set {D : va_G} {ac : Nat → ClassId} {A : Nat → Prop} {σ : CM} {H H1 : Heap} (h : HP D ac A σ H) {a : Nat} {c0 c : Cl} (ha : gC σ a = some c0) (hw : wrt c = wrt c0) (he : va_at D cCl (a, toE ac c) H1) (hz : H1.size = H.size) (oq : ∀ q : Nat, q ≠ a → H1[q]? = H[q]?) (hm : mok c a H1 := by exact trivial) (hn : nzC c0 = true := by rfl) : HP D ac A (pC σ a c) H1 := by
  refine ⟨by rw [hz]; exact h.1, fun b x hb => ?_, h.2.2⟩
  by_cases hba : b = a
  · subst hba
    rw [gC_self] at hb
    cases hb
    exact Or.inl ⟨he, by rw [hw]; exact (h.at ha hn).2.1, by rw [hw]; exact (h.at ha hn).2.2.1, hm⟩
  · rw [gC_ne hba] at hb
    exact cAt.or (h.2.1 b x hb) (oq b hba)
theorem HP.push {D : va_G} {ac : Nat → ClassId} {A : Nat → Prop} {σ : CM} {H H1 : Heap} (h : HP D ac A σ H) {k : Nat} {c : Cl} (hw : wrt c = true) (he : va_at D cCl (H.size, toE ac c) H1) (hz : H1.size = H.size + 1) (oq : ∀ q : Nat, q < H.size → H1[q]? = H[q]?) (hm : mok c H.size H1 := by exact trivial) : HP D ac A (aC σ k c) H1 := by
  refine ⟨by rw [hz, ← h.1]; rfl, fun b x hb => ?_, fun q hq => h.2.2 q (Nat.le_trans (Nat.le_succ _) hq)⟩
  by_cases hba : b = σ.1
  · subst hba
    rw [gC_new] at hb
    cases hb
    exact Or.inl ⟨by rw [h.1]; exact he, fun _ => h.2.2 _ (Nat.le_refl _), fun z => (by rw [hw] at z; cases z), by rw [h.1]; exact hm⟩
  · rw [gC_old hba] at hb
    have hl := h.lt hb
    exact cAt.or (h.2.1 b x hb) (oq b (by rw [← h.1]; exact hl))
/-! ONE STEP of the component's code -/
def okV (ty : FieldType) (v : Value) : Bool := match ty, v with
  | .int, .int _ => true
  | .boolean, .int x => decide (x = 0 ∨ x = 1)
  | .long, .long _ => true
  | .object _, .ref _ => true
  | .object _, .null => true
  | .array _, .ref _ => true
  | .array _, .null => true
  | _, _ => false
theorem okV_sp {ty : FieldType} {v : Value} (h : okV ty v = true) : narrow ty v = v ∧ fits ty v = true := by
  unfold okV at h
  split at h
  · exact ⟨rfl, rfl⟩
  · exact ⟨(nar_bool (of_decide_eq_true h)).1, (nar_bool (of_decide_eq_true h)).2.1⟩
  all_goals first | exact ⟨rfl, rfl⟩ | cases h
/-- the code, what it returns, the class it is of, how it is run (0 plainly, 9 as a constructor; 1, 2: with a handler) -/
abbrev CK : Type := ByteArray × Option FieldType × Nat × Nat
abbrev CF : Type := CK × Option Nat × Nat × LsT × List Value × CM
abbrev CR : Type := (Option Value ⊕ Nat) × CM
abbrev CS : Type := Option (CR ⊕ CF ⊕ (CF × (CR → CF)))
/-- goes on at pc -/
def cN (k : CK) (pc : Nat) (ls : LsT) (st : List Value) (σ : CM) : CS := some (.inr (.inl (k, none, pc, ls, st, σ)))
def cget (k : CK) (pc : Nat) (ls : LsT) (st : List Value) (σ : CM) (idx : Nat) : CS := match st with
  | .ref a :: r => match gC σ a with
    | some (.inl (ci, fs)) => match fpk k.2.2.1 idx ci with
      | some p => match fs[p]? with
        | some v => cN k (pc + 3) ls (v :: r) σ
        | none => none
      | none => none
    | _ => none
  | _ => none
/-- a field may be written: it isn't final, or this is a constructor of its own class -/
def fwr (o mode ci p : Nat) : Bool := if (cTk ci p).2.2.2 = true then decide (mode = 9) && decide (oN o = (cTk ci p).1) else true
def cput (k : CK) (pc : Nat) (ls : LsT) (st : List Value) (σ : CM) (idx : Nat) : CS := match st with
  | v :: .ref a :: r => match gC σ a with
    | some (.inl (ci, fs)) => match fpk k.2.2.1 idx ci with
      | some p => if p < fs.length ∧ ci ≠ 39 ∧ okV (cTy ci p) v = true ∧ fwr k.2.2.1 k.2.2.2 ci p = true then cN k (pc + 3) ls r (pC σ a (.inl (ci, fs.set p v))) else none
      | none => none
    | _ => none
  | _ => none
def cald (k : CK) (pc : Nat) (ls : LsT) (st : List Value) (σ : CM) (t : Nat) : CS := match st with
  | .int i :: .ref a :: r => match gC σ a with
    | some (.inr (kd, n, .inl f)) => if kd = t ∧ t ≤ 1 ∧ inb i n = true then cN k (pc + 1) ls (.int (f i.toNatClampNeg) :: r) σ else none
    | some (.inr (kd, n, .inr (.inl f))) => if kd = t ∧ t = 2 ∧ inb i n = true then cN k (pc + 1) ls (.long (f i.toNatClampNeg) :: r) σ else none
    | some (.inr (kd, n, .inr (.inr (.inr (.inr f))))) => if 4 ≤ kd ∧ kd ≤ 9 ∧ t = 4 ∧ inb i n = true then cN k (pc + 1) ls (va_rf (f i.toNatClampNeg) :: r) σ else none
    | _ => none
  | _ => none
/-- an address of a String constant -/
def strB (zs : Nat → Nat) (v : Nat) : Bool := (List.range 37).any (fun i => zs i == v)
def cast_ (zs : Nat → Nat) (k : CK) (pc : Nat) (ls : LsT) (st : List Value) (σ : CM) (t : Nat) : CS := match st with
  | .int x :: .int i :: .ref a :: r => match gC σ a with
    | some (.inr (kd, n, .inl f)) => if kd = t ∧ t ≤ 1 ∧ inb i n = true ∧ (t = 1 → x = 0 ∨ x = 1) then cN k (pc + 1) ls r (pC σ a (.inr (kd, n, .inl (upd f i.toNatClampNeg x)))) else none
    | _ => none
  | .long x :: .int i :: .ref a :: r => match gC σ a with
    | some (.inr (kd, n, .inr (.inl f))) => if kd = t ∧ t = 2 ∧ inb i n = true then cN k (pc + 1) ls r (pC σ a (.inr (kd, n, .inr (.inl (vp_updL f i.toNatClampNeg x))))) else none
    | _ => none
  | .null :: .int i :: .ref a :: r => match gC σ a with
    | some (.inr (kd, n, .inr (.inr (.inr (.inr f))))) => if 4 ≤ kd ∧ kd ≤ 7 ∧ t = 4 ∧ inb i n = true then cN k (pc + 1) ls r (pC σ a (.inr (kd, n, .inr (.inr (.inr (.inr (va_up f i.toNatClampNeg none))))))) else none
    | _ => none
  | .ref v :: .int i :: .ref a :: r => match gC σ a, gC σ v with
    | some (.inr (kd, n, .inr (.inr (.inr (.inr f))))), some (.inr (kd2, _)) => if kd = 4 ∧ kd2 = 0 ∧ t = 4 ∧ inb i n = true then cN k (pc + 1) ls r (pC σ a (.inr (kd, n, .inr (.inr (.inr (.inr (va_up f i.toNatClampNeg (some v)))))))) else none
    | some (.inr (kd, n, .inr (.inr (.inr (.inr f))))), some (.inl (ci, _)) => if ((kd = 5 ∧ ci = 5) ∨ (kd = 6 ∧ ci = 30) ∨ kd = 4) ∧ t = 4 ∧ inb i n = true then cN k (pc + 1) ls r (pC σ a (.inr (kd, n, .inr (.inr (.inr (.inr (va_up f i.toNatClampNeg (some v)))))))) else none
    | some (.inr (kd, n, .inr (.inr (.inr (.inr f))))), none => if kd = 7 ∧ t = 4 ∧ inb i n = true ∧ strB zs v = true then cN k (pc + 1) ls r (pC σ a (.inr (kd, n, .inr (.inr (.inr (.inr (va_up f i.toNatClampNeg (some v)))))))) else none
    | _, _ => none
  | _ => none
def clen (k : CK) (pc : Nat) (ls : LsT) (st : List Value) (σ : CM) : CS := match st with
  | .ref a :: r => match gC σ a with
    | some (.inr (kd, x)) => if kd < 10 then cN k (pc + 1) ls (.int (Int32.ofNat x.1) :: r) σ else none
    | _ => none
  | _ => none
