set_option maxRecDepth 100000
/-! THE LAW: what holds all through it, what its calls do -/
def R_law : String := "KnowLocksLaw"
/-- the component's own addresses: all new ones but the Model's and that of the law's own array -/
def lwA (z mb : Nat) : Nat → Prop := fun q => z ≤ q ∧ ¬ (mb ≤ q ∧ q ≤ mb + 47)
/-- what stays -/
def LFx (D : va_G) (ac : Nat → ClassId) (DM : va_G) (cs : McT) (zs : Nat → Nat) (b L : Nat) (xs : Nat → Int32) (x0 mb : Nat) (p : Program) (l : Launch) (s : State) (m : MethodId) (args : Array Value) (c : Code) : Prop :=
  CallFix p m c code 7 s args lw_all R_law ∧ (l.stackTraces = false ∧ NW s ∧ ZW zs (lwA s.heap.size mb) s s.heap ∧ ZS zs) ∧ (va_K D cCl (cTys ac) s ∧ va_K DM mCl (mtys cs) s) ∧ (va_X b L xs s s.heap ∧ b < s.heap.size ∧ L ≤ 448) ∧ s.heap.size ≤ mb
/-- what changes -/
def LSt (D : va_G) (ac : Nat → ClassId) (DM : va_G) (cs : McT) (s : State) (mb : Nat) (σ : CM) (M : MM) (w : Nat → Int64) (H : Heap) (locs : List Loc) : Prop :=
  HP D ac (lwA s.heap.size mb) σ H ∧ va_P DM mCl (mws mb cs M) H ∧ va_P DM mCl [(mb + 47, .inl (cs.2.2, 1, .inr (.inl w)))] H ∧ va_S (fun q => s.heap.size ≤ q) s.heap H locs ∧ mb + 48 ≤ σ.1 ∧ ∀ q, mb ≤ q → q ≤ mb + 47 → gC σ q = none
/-- the words of a call of the component's -/
def CcW (idx : Nat) (y : MethodName) (k : ByteArray × Option FieldType × Nat × Nat) (n : Nat) : Prop :=
  y.cls = "KnowLocks" ∧ (parseMethodDescriptor y.desc).map (fun d => d.parameters.length) = some n ∧ k.2.2.2 ≤ 40 ∧ ((k.2.2.1 = 0 ∧ GoodIn lw_all (wsV R_law idx "KnowLocks" y (ws_ y k.1 k.2.2.2 k.2.1))) ∨ ∃ a b t, hnd k.2.2.1 = some (a, b, t) ∧ k.2.2.1 ≠ 9 ∧ GoodIn lw_all (wsV R_law idx "KnowLocks" y (wsW_ y k.1 k.2.2.2 k.2.1 [(a, b, t, 138)])))
/-- the words of a call of the Model's -/
def McW (idx : Nat) (y : MethodName) (k : ByteArray × Option FieldType × Nat) (n : Nat) : Prop :=
  y.cls = RX19 ∧ (parseMethodDescriptor y.desc).map (fun d => d.parameters.length) = some n ∧ k.2.2 ≤ 40 ∧ GoodIn lw_all (wsV R_law idx RX19 y (ws_ y k.1 k.2.2 k.2.1))
section
variable {D : va_G} {ac : Nat → ClassId} {DM : va_G} {cs : McT} {zs : Nat → Nat} {b L : Nat} {xs : Nat → Int32} {x0 mb : Nat} {p : Program} {l : Launch} {e : Env} {s : State} {m : MethodId} {args : Array Value} {below : List Frame} {meth : Method} {c : Code} {H : Heap} {locs : List Loc} {cells slots : Nat} {Q : State → Prop} {σ σ' : CM} {M M' : MM} {w : Nat → Int64} {pc : Nat} {LS : Array Slot} {vs rest : List Value} {idx n : Nat} {y : MethodName}
theorem LSt.S (h : LSt D ac DM cs s mb σ M w H locs) : va_S (lwA s.heap.size mb) s.heap H [] := ⟨h.2.2.2.1.1, fun q h1 _ => h.2.2.2.1.2.1 q h1 (Nat.not_le.mpr h1), fun _ h => by cases h⟩
theorem lw_root (F : LFx D ac DM cs zs b L xs x0 mb p l s m args c) (h : LSt D ac DM cs s mb σ M w H locs) {fs : List Value} (hg : gC σ x0 = some (.inl (0, fs))) : ∃ cellB : Cell, H[x0]? = some cellB ∧ cellB.vm.isStatics = false ∧ s.vm.findClass "KnowLocks" = some cellB.cls := va_recv F.2.2.1.1 (h.1.one hg) (ci := 0) (q0 := 0) (q := cCl.getD 0 ("", (fun _ => ("", "", "", false)), 0)) rfl rfl
theorem lw_pre (F : LFx D ac DM cs zs b L xs x0 mb p l s m args c) (h : LSt D ac DM cs s mb σ M w H locs) : PreS s H (cPc D ac (lwA s.heap.size mb) zs (.ref x0 :: vs) σ) (.ref x0 :: vs) := ⟨cPc_blind, fun U hU hW => ⟨rfl, by rw [hU]; exact h.1, va_K.moved hW.alike F.2.2.1.1, F.2.1.2.1.warm hW, F.2.1.2.2.1.go hW h.S hU⟩⟩
/-- a call of the component's that returns -/
theorem lw_run {k : ByteArray × Option FieldType × Nat × Nat} {v : Option Value} (F : LFx D ac DM cs zs b L xs x0 mb p l s m args c) (h : LSt D ac DM cs s mb σ M w H locs) (hw : CcW idx y k n) (hE : EC zs (Jc zs) 200 k.1 k.2.1 0 k.2.2.1 0 (lent (.ref x0 :: vs) k.2.2.2) [] σ (fun q => q = (.inl v, σ'))) (hn : vs.length = n) (hl : (lg_sl (.ref x0 :: vs)).length ≤ k.2.2.2) {fs : List Value} (hg : gC σ x0 = some (.inl (0, fs))) (hsz : LS.size = 7) (hcat : catS rest ≤ 8) (hd : decode code pc = .ok (.invokevirtual idx, 3)) (hc : cells + (σ'.1 - σ.1) ≤ 631120) (hs : slots + (σ'.2.1 - σ.2.1) ≤ 7202743) :
    leM σ σ' ∧ va_Run p l e room_1 s m args below meth c H locs cells slots (σ'.1 - σ.1) (σ'.2.1 - σ.2.1) (F0 m pc LS (vs.reverse ++ .ref x0 :: rest)) rest (cQc D ac (lwA s.heap.size mb) (.inl v, σ') (Value.ref x0 :: vs).toArray) (lwA s.heap.size mb) := by
  have hp := lw_pre (vs := vs) F h
  have hr := lw_root F h hg
  obtain ⟨S, ⟨hl0, -⟩, -⟩ := F
  have hJ : JOK l D ac (lwA s.heap.size mb) zs (Jc zs) := Jc_ok hl0
  obtain ⟨w1, w2, w3, w4⟩ := hw
  have hd4 : y.cls = "KnowLocks" ∧ y.cls ≠ "java/lang/invoke/MethodHandle" ∧ y.cls ≠ "java/lang/invoke/VarHandle" ∧ (parseMethodDescriptor y.desc).map (fun d => d.parameters.length) = some n := ⟨w1, by rw [w1]; decide, by rw [w1]; decide, w2⟩
  rcases w4 with ⟨h0, hG⟩ | ⟨a, b', t, hh, h9, hG⟩
  · obtain ⟨hm, hM⟩ := c_contract hJ (y := y) hE w1 (by rw [w1]; decide) (by rw [h0]; rfl) (fun z => by rw [h0] at z; cases z) hl
    exact ⟨hm, va_runV (C := "KnowLocks") S hM (cwV n S.2.2.2.2 hG rfl rfl rfl hd4 ⟨by show 200 + 8 + 1 ≤ 2048; omega, by show 8 + (k.2.2.2 + 11) + 64 * (200 + 8) ≤ 84000; omega⟩) ⟨hp.1, hr, hp.2⟩ rfl hn hsz rfl (lv_room hcat) hd ⟨hc, hs⟩⟩
  · obtain ⟨hm, hM⟩ := c_contractW hJ (y := y) hE w1 (by rw [w1]; decide) hh h9 hl
    exact ⟨hm, wk_vw (C := "KnowLocks") S hM hG rfl rfl hd4 ⟨by show 200 + 8 + 1 ≤ 2048; omega, by show 8 + (k.2.2.2 + 11) + 64 * (200 + 8) ≤ 84000; omega⟩ ⟨hp.1, hr, hp.2⟩ hn hsz hcat hd ⟨hc, hs⟩⟩
/-- a call of the Model's -/
theorem lw_runM {k : ByteArray × Option FieldType × Nat} {v : Option Value} (F : LFx D ac DM cs zs b L xs x0 mb p l s m args c) (h : LSt D ac DM cs s mb σ M w H locs) (hw : McW idx y k n) (hE : EM mb 20 k.1 k.2.1 0 (lent (.ref mb :: vs) k.2.2) [] M (fun q => q = (v, M'))) (hn : vs.length = n) (hl : (lg_sl (.ref mb :: vs)).length ≤ k.2.2) (hsz : LS.size = 7) (hcat : catS rest ≤ 8) (hd : decode code pc = .ok (.invokevirtual idx, 3)) (hc : cells ≤ 631120) (hs : slots ≤ 7202743) :
    va_Run p l e room_1 s m args below meth c H locs cells slots 0 0 (F0 m pc LS (vs.reverse ++ .ref mb :: rest)) rest (mQc mb DM cs (v, M') (Value.ref mb :: vs).toArray) (mA mb) := by
  obtain ⟨S, -, ⟨-, hK⟩, -⟩ := F
  obtain ⟨-, hP, -⟩ := h
  obtain ⟨w1, w2, w3, w4⟩ := hw
  have hd4 : y.cls = RX19 ∧ y.cls ≠ "java/lang/invoke/MethodHandle" ∧ y.cls ≠ "java/lang/invoke/VarHandle" ∧ (parseMethodDescriptor y.desc).map (fun d => d.parameters.length) = some n := ⟨w1, by rw [w1]; decide, by rw [w1]; decide, w2⟩
  obtain ⟨q, hX, rfl⟩ := hE
  have hM := m_contract (l := l) (D := DM) (cs := cs) (y := y) hX w1 hl
  exact va_runV (C := RX19) S hM (cwV n S.2.2.2.2 w4 rfl rfl rfl hd4 ⟨by show 20 + 1 + 1 ≤ 2048; omega, by show 8 + (k.2.2 + 11) + 64 * (20 + 1) ≤ 84000; omega⟩) ⟨mPc_blind, va_recv hK hP (ci := 0) (q0 := 0) rfl mce_obj, fun U hU hW => ⟨rfl, by rw [hU]; exact hP, va_K.moved hW.alike hK⟩⟩ rfl hn hsz rfl (lv_room hcat) hd ⟨hc, hs⟩
/-- the Model's cells and the law's own are kept -/
theorem lw_keptM (h : LSt D ac DM cs s mb σ M w H locs) {H1 : Heap} (hk : ∀ q : Nat, q < H.size → ¬ lwA s.heap.size mb q → H1[q]? = H[q]?) : va_P DM mCl (mws mb cs M) H1 ∧ va_P DM mCl [(mb + 47, .inl (cs.2.2, 1, .inr (.inl w)))] H1 := by
  obtain ⟨-, h2, h3, -⟩ := h
  refine ⟨h2.kept (fun k x hx => hk _ (h2 k x hx).lt (fun z => ?_)), h3.kept (fun k x hx => hk _ (h3 k x hx).lt (fun z => ?_))⟩
  · have := (mws_D mb cs M).2 k x hx
    unfold mA at this
    exact z.2 ⟨this.1, by omega⟩
  · have hz : k < 1 := (List.getElem?_eq_some_iff.mp hx).1
    rw [show k = 0 by omega] at hx
    cases hx
    exact z.2 ⟨by show mb ≤ mb + 47; omega, Nat.le_refl _⟩
/-- behind a call of the component's -/
theorem lw_behC {v : Option Value} {a : Array Value} (h : LSt D ac DM cs s mb σ M w H locs) (hd : dmM σ σ') (hr : leM σ σ' ∧ va_Run p l e room_1 s m args below meth c H locs cells slots (σ'.1 - σ.1) (σ'.2.1 - σ.2.1) (F0 m pc LS vs) rest (cQc D ac (lwA s.heap.size mb) (.inl v, σ') a) (lwA s.heap.size mb))
    (kk : ∀ (H1 : Heap) (locs1 : List Loc), LSt D ac DM cs s mb σ' M w H1 locs1 → W p l e room_1 s m args below meth c H1 locs1 (cells + (σ'.1 - σ.1)) (slots + (σ'.2.1 - σ.2.1)) Q (F0 m (pc + 3) LS (v.toList ++ rest))) : W p l e room_1 s m args below meth c H locs cells slots Q (F0 m pc LS vs) := by
  intro T hT X
  obtain ⟨hm, hr⟩ := hr
  obtain ⟨v', st₀, t, T', L', h0, X', hL, e1, e2, ⟨hv, hp, hz, hk⟩, st⟩ := hr T hT X
  cases hv
  rw [h0] at hz hk
  have hS := h.2.2.2.1
  have hkm := lw_keptM h (H1 := T'.heap) (fun q h1 h2 => by rw [e1]; exact hk q h1 h2)
  obtain ⟨t2, a1, b1⟩ := kk T'.heap (locs ++ L') ⟨by rw [e1]; exact hp, hkm.1, hkm.2,
    ⟨Nat.le_trans hS.1 (by rw [e1]; exact hz), fun q h1 h2 => by rw [e1, hk q (Nat.lt_of_lt_of_le h1 hS.1) (fun z => h2 z.1)]; exact hS.2.1 q h1 h2, fun q hq => by
      rcases List.mem_append.mp hq with h | h
      · exact hS.2.2 q h
      · exact (hL q h).1⟩, Nat.le_trans h.2.2.2.2.1 hm.1, fun q h1 h2 => hd.2 q (by have := h.2.2.2.2.1; omega) (h.2.2.2.2.2 q h1 h2)⟩ T' rfl X'
  exact ⟨t2, st t2 a1, b1⟩
/-- behind a call of the Model's -/
theorem lw_behM {v : Option Value} {a : Array Value} (h : LSt D ac DM cs s mb σ M w H locs) (hcs : s.heap.size + cells = σ.1) (hsm : s.heap.size ≤ mb) (hr : va_Run p l e room_1 s m args below meth c H locs cells slots 0 0 (F0 m pc LS vs) rest (mQc mb DM cs (v, M') a) (mA mb))
    (kk : ∀ (H1 : Heap) (locs1 : List Loc), LSt D ac DM cs s mb σ M' w H1 locs1 → W p l e room_1 s m args below meth c H1 locs1 cells slots Q (F0 m (pc + 3) LS (v.toList ++ rest))) : W p l e room_1 s m args below meth c H locs cells slots Q (F0 m pc LS vs) := by
  intro T hT X
  obtain ⟨v', st₀, t, T', L', h0, X', hL, e1, e2, ⟨hv, hp, hz, hk⟩, st⟩ := hr T hT X
  cases hv
  rw [h0] at hz hk
  obtain ⟨g1, g2, g3, hS, g5, g6⟩ := h
  have hsz : T'.heap.size = H.size := by
    have a1 := X'.heapSize
    have a2 := g1.1
    rw [← e1] at hz
    omega
  have hkq : ∀ q : Nat, q < H.size → ¬ (mb ≤ q ∧ q ≤ mb + 46) → T'.heap[q]? = H[q]? := fun q h1 h2 => by
    rw [e1]
    exact hk q h1 (fun z => h2 ⟨z.1, by have := z.2; omega⟩)
  obtain ⟨t2, a1, b1⟩ := kk T'.heap (locs ++ L') ⟨⟨by rw [hsz]; exact g1.1, fun q cl hq => cAt.or (g1.2.1 q cl hq) (hkq q (by rw [← g1.1]; exact g1.lt hq) (fun z => by
      have := g6 q z.1 (by omega)
      rw [this] at hq
      cases hq)), g1.2.2⟩, by rw [e1]; exact hp, g3.kept (fun k x hx => by
      have hz : k < 1 := (List.getElem?_eq_some_iff.mp hx).1
      have hlt := (g3 k x hx).lt
      rw [show k = 0 by omega] at hx
      cases hx
      exact hkq _ hlt (fun z => by have := z.2; omega)),
    ⟨by rw [hsz]; exact hS.1, fun q h1 h2 => by rw [hkq q (Nat.lt_of_lt_of_le h1 hS.1) (fun z => h2 (Nat.le_trans hsm z.1))]; exact hS.2.1 q h1 h2, fun q hq => by
      rcases List.mem_append.mp hq with h | h
      · exact hS.2.2 q h
      · exact Nat.le_trans hsm (hL q h).1⟩, g5, g6⟩ T' rfl X'
  exact ⟨t2, st t2 a1, b1⟩
end
