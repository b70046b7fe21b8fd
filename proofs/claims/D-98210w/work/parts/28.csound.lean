/-! WHAT cstep SAYS, THE MACHINE DOES: steps within a method -/
/-- a static that holds a reference or null -/
def zv (zs : Nat → Nat) (i : Nat) : Value := match zs i with
  | 0 => .null
  | n + 1 => .ref n
/-- the statics' values at the start -/
def ZT (zs : Nat → Nat) (a0 : Array Value) (s0 : State) : Prop := (Term.static "java/lang/Throwable" "UNASSIGNED_STACK" "[Ljava/lang/StackTraceElement;").eval a0 s0 none [] s0 = some (zv zs 102) ∧ (Term.static "java/lang/Throwable" "SUPPRESSED_SENTINEL" "Ljava/util/List;").eval a0 s0 none [] s0 = some (zv zs 103) ∧ (Term.static "java/lang/Long$LongCache" "cache" "[Ljava/lang/Long;").eval a0 s0 none [] s0 = some (.ref (zs 104)) ∧ ∀ i, i < 256 → (Term.elem (Term.static "java/lang/Long$LongCache" "cache" "[Ljava/lang/Long;") (.int (Int32.ofNat i))).eval a0 s0 none [] s0 = some (.ref (zs (200 + i)))
/-- a start that the Statement allows, of which all old cells are as they were -/
def Z0 (zs : Nat → Nat) (A : Nat → Prop) (U : State) (H : Heap) : Prop := ∃ (s0 : State) (a0 : Array Value), (Jvm.Cond.and given_1 narrow_1).before a0 s0 = true ∧ (∀ w ∈ lw_tbl, w.before a0 s0 = true) ∧ s0.WarmedH U.vm ∧ s0.heap.size ≤ H.size ∧ (∀ q : Nat, q < s0.heap.size → ¬ A q ∧ H[q]? = s0.heap[q]?) ∧ ZT zs a0 s0
/-- the constants' addresses, as the start has them -/
def ZW (zs : Nat → Nat) (A : Nat → Prop) (s : State) (H : Heap) : Prop := va_Z "java/util/ArrayList" "EMPTY_ELEMENTDATA" "[Ljava/lang/Object;" (.ref (zs 100)) A s H ∧ va_Z "java/util/ArrayList" "DEFAULTCAPACITY_EMPTY_ELEMENTDATA" "[Ljava/lang/Object;" (.ref (zs 101)) A s H ∧ (∀ (i idx : Nat) (tx : String), sStr[i]? = some (idx, tx) → vk_R "KnowLocks$Reader" idx tx (zs i) s) ∧ Z0 zs A s H
def rmC (d nc ns : Nat) : Room := { frames := d + 8, cells := nc, slots := ns, locals := 64 * (d + 8) }
/-- what is asked of the calls that are taken as one step -/
def JOK (l : Launch) (D : va_G) (ac : Nat → ClassId) (A : Nat → Prop) (zs : Nat → Nat) (J : CJ) : Prop := ∀ (kind : Nat) (As : List Value) (σ : CM) (v : Option Value) (σ' : CM), J kind As σ = some (v, σ') → σ.1 ≤ σ'.1 ∧ σ.2.1 ≤ σ'.2.1 ∧
  ∀ (o idx tag n : Nat), iT o idx = some (kind, tag, n) → As.length = n → ∀ (p : Program) (e : Env) (d nc ns : Nat) (s : State) (m : MethodId) (args : Array Value) (below : List Frame) (meth : Method) (c : Code) (cc : ByteArray) (H : Heap) (locs : List Loc) (cells slots : Nat) (Q : State → Prop) (pc : Nat) (LS : Array Slot) (rest : List Value),
  p.tables.exec = Jvm.exec → c.code = cc → c.maxLocals = LS.size → s.vm.findClass (oN o) = some m.cls → (∀ w ∈ lw_all, w.before args s = true) → NW s → va_K D cCl (cTys ac) s → ZW zs A s s.heap → HP D ac A σ H → va_S A s.heap H locs → catS rest ≤ 8 →
  cells + (σ'.1 - σ.1) ≤ nc → slots + (σ'.2.1 - σ.2.1) ≤ ns → decode cc pc = .ok (insO tag idx, 3) →
  (∀ (H' : Heap) (locs' : List Loc), HP D ac A σ' H' → va_S A s.heap H' locs' → W p l e (rmC d nc ns) s m args below meth c H' locs' (cells + (σ'.1 - σ.1)) (slots + (σ'.2.1 - σ.2.1)) Q (F0 m (pc + 3) LS (v.toList ++ rest))) →
  W p l e (rmC d nc ns) s m args below meth c H locs cells slots Q (F0 m pc LS (As.reverse ++ rest))
theorem fpk_ok {o idx ci k : Nat} (h : fpk o idx ci = some k) : FOK (oN o) idx ci k := by
  unfold fpk at h
  obtain ⟨x, hx, h⟩ := Option.bind_eq_some_iff.mp h
  split at h
  · rename_i hc
    cases h
    have := fcT_ok hx
    obtain ⟨h1, h2, h3⟩ := hc
    unfold okFe at this
    rw [h1, h2, h3] at this
    exact this
  · cases h
theorem ncp_ok {o idx ci : Nat} (h : ncp o idx = some ci) : okNw (o, idx, ci) := by
  unfold ncp at h
  obtain ⟨x, hx, h⟩ := Option.bind_eq_some_iff.mp h
  split at h
  · rename_i hc
    cases h
    obtain ⟨a, b, c⟩ := x
    obtain ⟨h1, h2⟩ := hc
    dsimp only at h1 h2 ⊢
    rw [← h1, ← h2]
    exact nwT_ok hx
  · cases h
theorem acp_ok {o idx kd : Nat} (h : acp o idx = some kd) : okAn (o, idx, kd) := by
  unfold acp at h
  obtain ⟨x, hx, h⟩ := Option.bind_eq_some_iff.mp h
  split at h
  · rename_i hc
    cases h
    obtain ⟨a, b, c⟩ := x
    obtain ⟨h1, h2⟩ := hc
    dsimp only at h1 h2 ⊢
    rw [← h1, ← h2]
    exact anT_ok hx
  · cases h
theorem lcc_ok {o idx : Nat} {v : Int64} (h : lcc o idx = some v) : okLc (o, idx, v) := by
  unfold lcc at h
  obtain ⟨x, hx, h⟩ := Option.bind_eq_some_iff.mp h
  split at h
  · rename_i hc
    cases h
    obtain ⟨a, b, c⟩ := x
    obtain ⟨h1, h2⟩ := hc
    dsimp only at h1 h2 ⊢
    rw [← h1, ← h2]
    exact lcT_ok hx
  · cases h
theorem icc_ok {o idx : Nat} {v : Int32} (h : icc o idx = some v) : okIc (o, idx, v) := by
  unfold icc at h
  obtain ⟨x, hx, h⟩ := Option.bind_eq_some_iff.mp h
  split at h
  · rename_i hc
    cases h
    obtain ⟨a, b, c⟩ := x
    obtain ⟨h1, h2⟩ := hc
    dsimp only at h1 h2 ⊢
    rw [← h1, ← h2]
    exact icT_ok hx
  · cases h
theorem kcc_ok {o idx ci : Nat} (h : kcc o idx ci = true) : okCk (o, idx, ci) := by
  unfold kcc at h
  split at h
  · rename_i x hx
    obtain ⟨a, b, c⟩ := x
    obtain ⟨h1, h2, h3⟩ := of_decide_eq_true h
    dsimp only at h1 h2 h3
    rw [← h1, ← h2, ← h3]
    exact ckT_ok hx
  · cases h
theorem kca_ok {o idx : Nat} (h : kca o idx = true) : okCa (o, idx) := by
  unfold kca at h
  split at h
  · rename_i x hx
    obtain ⟨a, b⟩ := x
    obtain ⟨h1, h2⟩ := of_decide_eq_true h
    dsimp only at h1 h2
    rw [← h1, ← h2]
    exact caT_ok hx
  · cases h
theorem ccp_ok {o idx ci : Nat} {x : CeT} (h : ccp o idx ci = some x) : okCe x ∧ x.1 = o ∧ x.2.1 = idx := by
  unfold ccp at h
  obtain ⟨y, hy, h⟩ := Option.bind_eq_some_iff.mp h
  split at h
  · rename_i hc
    cases h
    exact ⟨ceT_ok hy, hc⟩
  · cases h
