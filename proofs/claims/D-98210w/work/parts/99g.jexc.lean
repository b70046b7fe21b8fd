/-! CALLS THAT ARE TAKEN AS ONE STEP: exceptions made -/
set_option maxRecDepth 100000
theorem ls_moved {args args' : Array Value} {u U : State} {O f d : String} (hvm : u.vm.Alike U.vm) (hq : ∀ q : Nat, q < u.heap.size → U.heap[q]? = u.heap[q]?) (h : (Cond.laysStatic O f d).before args u = true) : (Cond.laysStatic O f d).before args' U = true := by
  obtain ⟨c, k, i, fd, a, cell, hc, hf, hst, hsta, hcell, hiss, hcls, hlt, hty⟩ := Cond.laysStatic_spec h
  obtain ⟨k', hi', he⟩ := State.fieldFound?_setVm hvm hf
  have hi' : U.fieldFound? O f d = some (c, k', i, fd) := hi'
  exact Cond.laysStatic_of (by rw [hvm.findClass]; exact hc) hi' hst (by rw [he]; exact hsta) (by rw [hq a (Array.getElem?_eq_some_iff.mp hcell).1]; exact hcell) hiss hcls hlt (by rw [he]; exact hty)
theorem Z0.ls {zs : Nat → Nat} {A : Nat → Prop} {U : State} (h : Z0 zs A U U.heap) {args : Array Value} {O f d : String} (hw : Cond.laysStatic O f d ∈ lw_tbl) : (Cond.laysStatic O f d).before args U = true := by
  obtain ⟨s0, a0, h1, h2, h3, h4, h5, h6⟩ := h
  exact ls_moved h3.alike (fun q hq => (h5 q hq).2) (h2 _ hw)
theorem thr_atoms {args : Array Value} {s : State} {zs : Nat → Nat} {A : Nat → Prop} (hZ0 : Z0 zs A s s.heap) (hts : ∀ w ∈ lw_all, w.before args s = true) : ∀ c ∈ Bundle.throwableAtoms, c.before args s = true :=
  List.forall_mem_cons.mpr ⟨hts _ (lw_g (lw_at lw_m1 29 rfl) rfl), List.forall_mem_cons.mpr ⟨hts _ (lw_g (lw_at lw_m4 61 rfl) rfl), List.forall_mem_cons.mpr ⟨hts _ (lw_g (lw_at lw_m4 70 rfl) rfl), List.forall_mem_cons.mpr ⟨hts _ (lw_g (lw_at lw_m4 73 rfl) rfl), List.forall_mem_cons.mpr ⟨hts _ (lw_g (lw_at lw_m4 76 rfl) rfl), List.forall_mem_cons.mpr ⟨hts _ (lw_g (lw_at lw_m4 78 rfl) rfl), List.forall_mem_cons.mpr ⟨hts _ (lw_g (lw_at lw_m4 62 rfl) rfl), List.forall_mem_cons.mpr ⟨hts _ (lw_g (lw_at lw_m4 63 rfl) rfl), List.forall_mem_cons.mpr ⟨hts _ (lw_g (lw_at lw_m1 69 rfl) rfl), List.forall_mem_cons.mpr ⟨hts _ (lw_g (lw_at lw_m1 70 rfl) rfl), List.forall_mem_cons.mpr ⟨hts _ (lw_g (lw_at lw_m4 64 rfl) rfl), List.forall_mem_cons.mpr ⟨hts _ (lw_g (lw_at lw_m4 69 rfl) rfl), List.forall_mem_cons.mpr ⟨hts _ (lw_g (lw_at lw_m4 74 rfl) rfl), List.forall_mem_cons.mpr ⟨hts _ (lw_g (lw_at lw_m4 89 rfl) rfl), List.forall_mem_cons.mpr ⟨hts _ (lw_g (lw_at lw_m4 51 rfl) rfl), List.forall_mem_cons.mpr ⟨hts _ (lw_g (lw_at lw_m4 90 rfl) rfl), List.forall_mem_cons.mpr ⟨hts _ (lw_g (lw_at lw_m4 53 rfl) rfl), List.forall_mem_cons.mpr ⟨hts _ (lw_g (lw_at lw_m4 91 rfl) rfl), List.forall_mem_cons.mpr ⟨hts _ (lw_g (lw_at lw_m4 55 rfl) rfl), List.forall_mem_cons.mpr ⟨hts _ (lw_g (lw_at lw_m4 65 rfl) rfl), List.forall_mem_cons.mpr ⟨hZ0.ls (lw_at lw_m4 66 rfl), List.forall_mem_cons.mpr ⟨hts _ (lw_g (lw_at lw_m4 67 rfl) rfl), List.forall_mem_cons.mpr ⟨hZ0.ls (lw_at lw_m4 68 rfl), List.forall_mem_cons.mpr ⟨hts _ (lw_g (lw_at lw_m4 57 rfl) rfl), fun _ h => absurd h List.not_mem_nil⟩⟩⟩⟩⟩⟩⟩⟩⟩⟩⟩⟩⟩⟩⟩⟩⟩⟩⟩⟩⟩⟩⟩⟩
theorem exc_ch {args : Array Value} {s : State} (hts : ∀ w ∈ lw_all, w.before args s = true) (hN : NW s) : ∀ c ∈ Bundle.chain0Atoms "java/lang/Exception" [], c.before args s = true :=
  List.forall_mem_cons.mpr ⟨hts _ (lw_g (lw_at lw_m4 83 rfl) rfl), List.forall_mem_cons.mpr ⟨hts _ (lw_g (lw_at lw_m4 84 rfl) rfl), List.forall_mem_cons.mpr ⟨hts _ (lw_g (lw_at lw_m4 85 rfl) rfl), List.forall_mem_cons.mpr ⟨hts _ (lw_g (lw_at lw_m4 62 rfl) rfl), List.forall_mem_cons.mpr ⟨va_Nw.use rfl (hN.1 _ (nw_mem (lw_at lw_m4 46 rfl) rfl)), fun _ h => absurd h List.not_mem_nil⟩⟩⟩⟩⟩
theorem nse_ch {args : Array Value} {s : State} (hts : ∀ w ∈ lw_all, w.before args s = true) (hN : NW s) : ∀ c ∈ Bundle.chain0Atoms "java/util/NoSuchElementException" ["java/lang/RuntimeException", "java/lang/Exception"], c.before args s = true :=
  List.forall_mem_cons.mpr ⟨hts _ (lw_g (lw_at lw_m9 66 rfl) rfl), List.forall_mem_cons.mpr ⟨hts _ (lw_g (lw_at lw_m9 67 rfl) rfl), List.forall_mem_cons.mpr ⟨hts _ (lw_g (lw_at lw_m9 68 rfl) rfl), List.forall_mem_cons.mpr ⟨hts _ (lw_g (lw_at lw_m9 69 rfl) rfl), List.forall_mem_cons.mpr ⟨va_Nw.use rfl (hN.1 _ (nw_mem (lw_at lw_m9 57 rfl) rfl)), List.forall_mem_cons.mpr ⟨hts _ (lw_g (lw_at lw_m9 69 rfl) rfl), List.forall_mem_cons.mpr ⟨hts _ (lw_g (lw_at lw_m9 70 rfl) rfl), List.forall_mem_cons.mpr ⟨hts _ (lw_g (lw_at lw_m9 71 rfl) rfl), List.forall_mem_cons.mpr ⟨hts _ (lw_g (lw_at lw_m4 83 rfl) rfl), List.forall_mem_cons.mpr ⟨va_Nw.use rfl (hN.1 _ (nw_mem (lw_at lw_m4 44 rfl) rfl)), List.forall_mem_cons.mpr ⟨hts _ (lw_g (lw_at lw_m4 83 rfl) rfl), List.forall_mem_cons.mpr ⟨hts _ (lw_g (lw_at lw_m4 84 rfl) rfl), List.forall_mem_cons.mpr ⟨hts _ (lw_g (lw_at lw_m4 85 rfl) rfl), List.forall_mem_cons.mpr ⟨hts _ (lw_g (lw_at lw_m4 62 rfl) rfl), List.forall_mem_cons.mpr ⟨va_Nw.use rfl (hN.1 _ (nw_mem (lw_at lw_m4 46 rfl) rfl)), fun _ h => absurd h List.not_mem_nil⟩⟩⟩⟩⟩⟩⟩⟩⟩⟩⟩⟩⟩⟩⟩
theorem exT {ci : Nat} (h : ci = 35 ∨ ci = 38) : (cTk ci 0 = ("java/lang/Throwable", "cause", "Ljava/lang/Throwable;", false) ∧ cTk ci 1 = ("java/lang/Throwable", "stackTrace", "[Ljava/lang/StackTraceElement;", false) ∧ cTk ci 2 = ("java/lang/Throwable", "suppressedExceptions", "Ljava/util/List;", false) ∧ cTk ci 4 = ("java/lang/Throwable", "backtrace", "Ljava/lang/Object;", false)) ∧ 5 < (cCl.getD ci ("", (fun _ => ("", "", "", false)), 0)).2.2 := by
  rcases h with rfl | rfl
  · exact ⟨⟨rfl, rfl, rfl, rfl⟩, by decide⟩
  · exact ⟨⟨rfl, rfl, rfl, rfl⟩, by decide⟩
theorem exL {ci : Nat} (h : ci = 35 ∨ ci = 38) : Cond.lays (cNm ci) "java/lang/Throwable" "cause" "Ljava/lang/Throwable;" ∈ lw_all ∧ Cond.lays (cNm ci) "java/lang/Throwable" "stackTrace" "[Ljava/lang/StackTraceElement;" ∈ lw_all ∧ Cond.lays (cNm ci) "java/lang/Throwable" "suppressedExceptions" "Ljava/util/List;" ∈ lw_all ∧ Cond.selects (cNm ci) Bundle.tFill0 Bundle.tFill0 ∈ lw_all ∧ Cond.selects (cNm ci) Bundle.tFill Bundle.tFill ∈ lw_all := by
  rcases h with rfl | rfl
  · exact ⟨(lw_g (lw_at lw_m4 50 rfl) rfl), (lw_g (lw_at lw_m4 52 rfl) rfl), (lw_g (lw_at lw_m4 54 rfl) rfl), (lw_g (lw_at lw_m4 48 rfl) rfl), (lw_g (lw_at lw_m4 49 rfl) rfl)⟩
  · exact ⟨(lw_g (lw_at lw_m9 60 rfl) rfl), (lw_g (lw_at lw_m9 61 rfl) rfl), (lw_g (lw_at lw_m9 62 rfl) rfl), (lw_g (lw_at lw_m9 59 rfl) rfl), (lw_g (lw_at lw_m4 72 rfl) rfl)⟩
theorem Z0.ex {zs : Nat → Nat} {A : Nat → Prop} {U : State} {H : Heap} (h : Z0 zs A U H) : va_Z "java/lang/Throwable" "UNASSIGNED_STACK" "[Ljava/lang/StackTraceElement;" (zv zs 102) A U H ∧ va_Z "java/lang/Throwable" "SUPPRESSED_SENTINEL" "Ljava/util/List;" (zv zs 103) A U H := by
  obtain ⟨s0, a0, h1, h2, h3, h4, h5, h6⟩ := h
  have hA : ∀ a : Nat, a < s0.heap.size → ¬ A a := fun a ha => (h5 a ha).1
  have hq : ∀ a : Nat, a < s0.heap.size → ¬ A a → H[a]? = s0.heap[a]? := fun a ha _ => (h5 a ha).2
  exact ⟨va_Z.moved h3.alike (va_Z.kept (va_Zof (h2 _ ((lw_at lw_m4 66 rfl))) (h2 _ ((lw_at lw_m1 29 rfl))) h6.1 hA) hq), va_Z.moved h3.alike (va_Z.kept (va_Zof (h2 _ ((lw_at lw_m4 68 rfl))) (h2 _ ((lw_at lw_m1 29 rfl))) h6.2.1 hA) hq)⟩
def zR (zs : Nat → Nat) (i : Nat) : RefV := ⟨zv zs i, by unfold zv; split <;> rfl⟩
section
variable {p : Program} {l : Launch} {e : Env} {R : Room} {s : State} {m : MethodId} {args : Array Value} {below : List Frame} {meth : Method} {c : Code} {H : Heap} {locs : List Loc} {cells slots : Nat} {Q : State → Prop} {cc : ByteArray} {pc : Nat} {LS : Array Slot} {rest : List Value} {D : va_G} {A : Nat → Prop} {ac : Nat → ClassId} {σ : CM} {zs : Nat → Nat}
theorem cr_exc (hl : l.stackTraces = false) (hx : p.tables.exec = Jvm.exec) (hb : c.code = cc) (hml : c.maxLocals = LS.size) {own X : String} {names : List String} {idx ci a : Nat} {v0 v1 v2 : Value} {r : List Value} (hown : s.vm.findClass own = some m.cls) (hts : ∀ w ∈ lw_all, w.before args s = true) (hK : va_K D cCl (cTys ac) s) (hZ : ZW zs A s s.heap) (hP : HP D ac A σ H) (hS : va_S A s.heap H locs)
    (ha : gC σ a = some (.inl (ci, v0 :: v1 :: v2 :: .null :: .null :: r))) (hci : ci = 35 ∨ ci = 38) (hlink : (Cond.methodLink own idx (Bundle.init0 X)).before args s = true) (hinst : (Cond.instanceMethod (Bundle.init0 X)).before args s = true) (hcode : (Cond.code (Bundle.init0 X) Bundle.five 1 none).before args s = true) (hX : Bundle.fit X = true) (hnames : ∀ n ∈ names, Bundle.fit n = true) (hch : ∀ c ∈ Bundle.chain0Atoms X names, c.before args s = true)
    (hfr : names.length + 3 < R.frames) (hlo : (rest.map fun v => v.category).sum + (13 * (names.length + 1) + 41) ≤ R.locals) (hdg : decode cc pc = .ok (.invokespecial idx, 3))
    (kk : ∀ (H1 : Heap) (locs1 : List Loc), HP D ac A (pC σ a (.inl (ci, .ref a :: zv zs 102 :: zv zs 103 :: .null :: .null :: r))) H1 → va_S A s.heap H1 locs1 → W p l e R s m args below meth c H1 locs1 cells slots Q (F0 m (pc + 3) LS rest)) : W p l e R s m args below meth c H locs cells slots Q (F0 m pc LS (.ref a :: rest)) := by
  intro T0 hT X0
  have htr : e.platform.stackTraces = false := by rw [show e.platform.stackTraces = l.stackTraces by rw [X0.admits.platform]]; exact hl
  have howns : e.platform.frameOwnsMonitors = true := by rw [X0.admits.platform]
  have hfin : e.platform.finalization = false := by rw [X0.admits.platform]
  have hpl : e.platform.magicAccessors = ({} : Platform).magicAccessors := by rw [X0.admits.platform]
  obtain ⟨T, Z, L, LZ, Y⟩ := ThrowableC.of_atoms (args := args) (s := s) howns hfin hpl (thr_atoms hZ.2.2.2 hts)
  obtain ⟨P1, Ps, hlen, L1, hL, hP1m, hlink1, hlinkP⟩ := Bundle.chain0 (args := args) hpl Y.init0 names X hX hnames hch
  obtain ⟨⟨t0, t1, t2, t4⟩, tN⟩ := exT hci
  obtain ⟨l0, l1, l2, sl0, sl1⟩ := exL hci
  have hnz : nzC (.inl (ci, v0 :: v1 :: v2 :: .null :: .null :: r)) = true := by
    unfold nzC
    rcases hci with h | h <;> rw [h] <;> rfl
  obtain ⟨hat, hA, -, hmo⟩ := hP.at ha hnz
  have hwr : wrt (.inl (ci, v0 :: v1 :: v2 :: .null :: .null :: r)) = true := by
    unfold wrt
    rcases hci with h | h <;> rw [h] <;> rfl
  obtain ⟨q, hc, cell, q1, q2, q3, q4⟩ := hat
  obtain ⟨C, TT, N⟩ := q
  have hg := getD_some hc
  unfold cTk at t0 t1 t2 t4
  rw [hg] at t0 t1 t2 t4 tN
  dsimp only at t0 t1 t2 t4 tN
  have hnm : cNm ci = C := by unfold cNm; rw [hg]
  rw [hnm] at l0 l1 l2 sl0 sl1
  have hap := c_apart hts hK hc (cCl_fin hc)
  obtain ⟨hSl, hfc, kC, hkC, hkind⟩ := hK.1 ci _ hc
  have slot : ∀ k f cf kf fi, k < N → s.fieldFound? (TT k).1 (TT k).2.1 (TT k).2.2.1 = some (cf, kf, fi, f) → f.slot = D.2 ci k := by
    intro k f cf kf fi hk hf
    obtain ⟨cf', kf', fi', f', hi, hsl⟩ := hSl k hk
    have := hf.symm.trans hi
    cases this
    exact hsl
  have s0 : T.fCause.slot = D.2 ci 0 := slot 0 _ _ _ _ (by omega) (by rw [t0]; exact Y.cause)
  have s1 : T.fStack.slot = D.2 ci 1 := slot 1 _ _ _ _ (by omega) (by rw [t1]; exact Y.stack)
  have s2 : T.fSupp.slot = D.2 ci 2 := slot 2 _ _ _ _ (by omega) (by rw [t2]; exact Y.supp)
  obtain ⟨ci198, i198, fB, hk198, hg198, ha198, hsB, -, hnB, htB, hffB⟩ := Cond.ownField (t := .object "java/lang/Object") Y.found L.cls (by decide +kernel) (hts (Cond.fieldLink "java/lang/Throwable" 198 "java/lang/Throwable" "backtrace" "Ljava/lang/Object;") ((lw_g (lw_at lw_m4 60 rfl) rfl))) (hts (Cond.lays "java/lang/Throwable" "java/lang/Throwable" "backtrace" "Ljava/lang/Object;") ((lw_g (lw_at lw_m4 59 rfl) rfl))) e.platform hpl
  have s4 : fB.slot = D.2 ci 4 := slot 4 _ _ _ _ (by omega) (by rw [t4]; exact hffB)
  obtain ⟨ty0, -⟩ := Cond.laysAt hfc hkC Y.cause (hts _ l0)
  obtain ⟨ty1, -⟩ := Cond.laysAt hfc hkC Y.stack (hts _ l1)
  obtain ⟨ty2, -⟩ := Cond.laysAt hfc hkC Y.supp (hts _ l2)
  have hsel : ∀ (f : MethodName) (mk : MethodId), s.methodNamed? f = some mk → f.cls ≠ "java/lang/invoke/MethodHandle" ∧ f.cls ≠ "java/lang/invoke/VarHandle" → (Cond.selects C f f).before args s = true → selectMethod e.platform s.vm cell.cls mk = .method mk := by
    intro f mk hf hne hs
    obtain ⟨c2, r2, m2, u1, u2, u3, u4, -⟩ := Cond.selects_spec hs
    cases Option.some.inj (u1.symm.trans hfc)
    cases Option.some.inj (u2.symm.trans (State.methodFound?_of_named hf hne))
    cases Option.some.inj (u3.symm.trans hf)
    rw [Launch.admits_selectMethod X0.admits, q2]; exact u4
  obtain ⟨zU, zS⟩ := hZ.2.2.2.ex
  obtain ⟨cf, kf, fi, fU, aU, cellU, z1, -, -, z4, z5, z6, z7, z8⟩ := zU.kept hS.2.1
  obtain ⟨cf2, kf2, fi2, fS, aS2, cellS2, y1, -, -, y4, y5, y6, y7, y8⟩ := zS.kept hS.2.1
  cases (z1.symm.trans Y.unassigned)
  cases (y1.symm.trans Y.sentinel)
  cases Option.some.inj (z4.symm.trans L.statics)
  cases Option.some.inj (y4.symm.trans L.statics)
  cases Option.some.inj (z5.symm.trans y5)
  have hneS : T.aS ≠ a := fun h => z8 (by rw [h]; exact hA hwr)
  have hmon := hmo hci cell q1
  have hvm : cell.vm = .none := q3
  obtain ⟨tm, methC, cdC, kC2, vm₁, hnC, -, -, -, -, -, -, -, hW₁, st1⟩ := Steps.initCold (tb := p.tables) (e := e) (below := below) (s := s) (U := T0) X0.here hx X0.warmed hpl hown (t := Bundle.init0 X) rfl rfl (Bundle.fit_spec hX).2
    hlink hinst (bytes := Bundle.five) (maxL := 1) hcode (f := F0 m pc LS (.ref a :: rest)) rfl (a := a) (rest := rest) rfl (by rw [hb]; exact hdg)
  cases Option.some.inj (hnC.symm.trans hP1m)
  have X₁ := X0.noted hW₁
  have hsl : ∀ k, k < N → D.2 ci k < cell.slots.size := fun k hk => k2_hasslot (q4 k hk)
  have hB0 : cell.slots[D.2 ci 4]? = some .null := q4 4 (show 4 < N by omega)
  have b0 := hap 4 0 (show 4 < N by omega) (show 0 < N by omega) (by decide)
  have b1 := hap 4 1 (show 4 < N by omega) (show 1 < N by omega) (by decide)
  have b2 := hap 4 2 (show 4 < N by omega) (show 2 < N by omega) (by decide)
  have hskip : SkipFacts T e.platform s (fun u => u) (zR zs 102) ((preparedCellV T.toThrowableT cell a (zR zs 102) (zR zs 103)).withEntry (T0.setVm vm₁).cur) :=
    ⟨{ ci198 := ci198, i198 := i198, fBack := fB }, ⟨hk198, hg198, ha198, hsB⟩, by
      rw [s4]
      simpa [preparedCellV, Cell.setSlot, Cell.withEntry, Array.getElem?_setIfInBounds, s0, s1, s2, b0, b1, b2, b0.symm, b1.symm, b2.symm] using hB0, fun _ _ => rfl⟩
  obtain ⟨vm₂, X₂, st2⟩ := X₁.ctorPlainOffV hx (g := { F0 m pc LS (.ref a :: rest) with stack := rest }) rfl (by rw [hml]) T L Z LZ (P1 :: Ps)
    (fun P hP => by rcases List.mem_cons.mp hP with rfl | hP; exact L1; exact hL P hP) ⟨hlink1, hlinkP⟩ (u0 := zR zs 102) (sen := zR zs 103) (self := a) (cell := cell) (cellS := cellU)
    (by show T0.heap[a]? = _; rw [hT]; exact q1) (fun k h => by rw [hvm] at h; cases h) (fun h => by rw [hvm] at h; cases h) hmon.1 hmon.2 (hsel _ _ Y.fill0 (by decide) (hts _ sl0)) (hsel _ _ Y.fill (by decide) (hts _ sl1)) (by show T0.heap[T.aS]? = _; rw [hT]; exact z5) hneS (fun h => by rw [h] at z6; cases z6) z7 y7
    ⟨by rw [s0]; exact hsl 0 (by omega), by simp [State.fitsSlot, State.slotType?, q2, hvm, hkC, hkind, ty0, Y.causeType, fits]⟩ ⟨by rw [s1]; exact hsl 1 (by omega), by have hf9 := fits_refV_array (.object "java/lang/StackTraceElement") (zR zs 102); simp [State.fitsSlot, State.slotType?, q2, hvm, hkC, hkind, ty1, Y.stackType, hf9]⟩ ⟨by rw [s2]; exact hsl 2 (by omega), by have hf9 := fits_refV_object "java/util/List" (zR zs 103); simp [State.fitsSlot, State.slotType?, q2, hvm, hkC, hkind, ty2, Y.suppType, hf9]⟩ Y.objLocals hskip htr [] (by rw [hb]; exact hdg)
    (by simp only [List.length_cons, hlen]; omega) (by simp only [List.length_cons, hlen]; show 2 * 0 + _ + _ ≤ _; omega)
  have hl : a < H.size := (Array.getElem?_eq_some_iff.mp q1).1
  generalize hcell' : ((preparedCellV T.toThrowableT cell a (zR zs 102) (zR zs 103)).setSlot T.fStack.slot (zR zs 102).v) = cell' at X₂ st2
  have hheap : ((((T0.setVm vm₁).setVm vm₂).setCell a cell')).heap = H.setIfInBounds a cell' := by rw [← hT]; rfl
  have oq : ∀ q : Nat, q ≠ a → (H.setIfInBounds a cell')[q]? = H[q]? := fun q hq => by simp [Array.getElem?_setIfInBounds, Ne.symm hq]
  have hself : (H.setIfInBounds a cell')[a]? = some cell' := by simp [Array.getElem?_setIfInBounds, hl]
  have hV : ∀ k, k < N → cell'.slots[D.2 ci k]? = some (updV (updV (updV (updV (vp_V (v0 :: v1 :: v2 :: .null :: .null :: r)) 0 (.ref a)) 1 (zv zs 102)) 2 (zv zs 103)) 1 (zv zs 102) k) := by
    rw [← hcell']
    show ∀ k, k < N → (((((cell.setSlot T.fCause.slot (.ref a)).setSlot T.fStack.slot (zv zs 102)).setSlot T.fSupp.slot (zv zs 103)).setSlot T.fStack.slot (zv zs 102))).slots[D.2 ci k]? = _
    rw [s0, s1, s2]
    exact t_set (t_set (t_set (t_set q4 hap (show 0 < N by omega) _) hap (show 1 < N by omega) _) hap (show 2 < N by omega) _) hap (show 1 < N by omega) _
  have hcls' : cell'.cls = D.1 ci := by rw [← hcell']; exact q2
  have hvm' : cell'.vm = .none := by rw [← hcell']; exact q3
  have hmon' : cell'.monitor = cell.monitor := by rw [← hcell']; rfl
  obtain ⟨t, a1, b1⟩ := kk _ _ (hP.set ha rfl (show va_at D cCl (a, toE ac (.inl (ci, .ref a :: zv zs 102 :: zv zs 103 :: .null :: .null :: r))) (H.setIfInBounds a cell') from ⟨_, hc, t_OB.to ⟨cell', hself, hcls', hvm', hV⟩ (fun j _ => by
      match j with
      | 0 => rfl
      | 1 => rfl
      | 2 => rfl
      | j + 3 => rfl)⟩) (by simp) oq (fun _ cell9 hc9 => (by rw [hself] at hc9; cases hc9; rw [hmon']; exact hmon)) hnz) ⟨by simp; exact hS.1, fun q g1 g2 => by
      rw [oq q (fun e => g2 (by rw [e]; exact hA hwr))]
      exact hS.2.1 q g1 g2, fun q hq => by
      rcases List.mem_append.mp hq with h | h
      · exact hS.2.2 q h
      · have hb9 : q.base = a := by
          simp only [List.mem_cons, List.not_mem_nil, or_false] at h
          rcases h with rfl | rfl | rfl | rfl <;> rfl
        rw [hb9]
        exact hA hwr⟩ _ hheap X₂
  refine ⟨t, st1 t (fun acts => ?_), b1⟩
  rw [doInvoke_state]
  exact st2 t a1
end
section
variable {l : Launch} {D : va_G} {ac : Nat → ClassId} {A : Nat → Prop} {zs : Nat → Nat}
theorem Jc_11 {σ : CM} {r : Option Value × CM} {As : List Value} (h : Jc zs 11 As σ = some r) : ∃ a v0 v1 v2 w v, As = [.ref a] ∧ gC σ a = some (.inl (35, [v0, v1, v2, .null, .null, w, v])) ∧ r = (none, pC σ a (.inl (35, exF zs a w [v]))) := by
  rcases As with _ | ⟨a, _ | ⟨b, t⟩⟩
  · cases h
  · cases a <;> try (cases h; done)
    rename_i a
    change (match gC σ a with
      | some (.inl (35, [_, _, _, .null, .null, w, v])) => some (none, pC σ a (.inl (35, exF zs a w [v])))
      | _ => none) = some r at h
    split at h
    · rename_i v0 v1 v2 w v hg
      exact ⟨_, _, _, _, _, _, rfl, hg, (Option.some.inj h).symm⟩
    · cases h
  · cases a <;> cases h
theorem Jc_12 {σ : CM} {r : Option Value × CM} {As : List Value} (h : Jc zs 12 As σ = some r) : ∃ a v0 v1 v2 w, As = [.ref a] ∧ gC σ a = some (.inl (38, [v0, v1, v2, .null, .null, w])) ∧ r = (none, pC σ a (.inl (38, exF zs a w []))) := by
  rcases As with _ | ⟨a, _ | ⟨b, t⟩⟩
  · cases h
  · cases a <;> try (cases h; done)
    rename_i a
    change (match gC σ a with
      | some (.inl (38, [_, _, _, .null, .null, w])) => some (none, pC σ a (.inl (38, exF zs a w [])))
      | _ => none) = some r at h
    split at h
    · rename_i v0 v1 v2 w hg
      exact ⟨_, _, _, _, _, rfl, hg, (Option.some.inj h).symm⟩
    · cases h
  · cases a <;> cases h
theorem J11 (hl : l.stackTraces = false) : JK l D ac A zs (Jc zs) 11 := by
  intro As σ v σ' h
  obtain ⟨a, v0, v1, v2, w, v', rfl, hg, hr⟩ := Jc_11 h
  cases hr
  refine ⟨Nat.le_refl _, Nat.le_refl _, fun o idx tag n hi hn => ?_⟩
  obtain ⟨hlk, hs⟩ := il_ok hi
  cases hs
  intro p e d nc ns s m args below meth c cc H locs cells slots Q pc LS rest hx hb hml hown hts hN hK hZ hP hS hcat hc1 hc2 hd kk
  have hcat : (rest.map fun v => v.category).sum ≤ 8 := hcat
  refine cr_exc (rest := rest) (X := "java/lang/Exception") (names := []) hl hx hb hml hown hts hK hZ hP hS hg (Or.inl rfl) (hts _ hlk) (hts _ (lw_g (lw_at lw_m4 83 rfl) rfl)) (hts _ (lw_g (lw_at lw_m4 84 rfl) rfl)) (by decide) (fun n hn => by cases hn) (exc_ch hts hN) (by show 0 + 3 < d + 8; omega) (by show _ + (13 * (0 + 1) + 41) ≤ 64 * (d + 8); omega) hd (fun H1 locs1 hP1 hS1 => ?_)
  exact same0 (W0 := fun a b => W p l e (rmC d nc ns) s m args below meth c H1 locs1 a b Q (F0 m (pc + 3) LS rest)) (kk H1 locs1 hP1 hS1)
theorem J12 (hl : l.stackTraces = false) : JK l D ac A zs (Jc zs) 12 := by
  intro As σ v σ' h
  obtain ⟨a, v0, v1, v2, w, rfl, hg, hr⟩ := Jc_12 h
  cases hr
  refine ⟨Nat.le_refl _, Nat.le_refl _, fun o idx tag n hi hn => ?_⟩
  obtain ⟨hlk, hs⟩ := il_ok hi
  cases hs
  intro p e d nc ns s m args below meth c cc H locs cells slots Q pc LS rest hx hb hml hown hts hN hK hZ hP hS hcat hc1 hc2 hd kk
  have hcat : (rest.map fun v => v.category).sum ≤ 8 := hcat
  refine cr_exc (rest := rest) (X := "java/util/NoSuchElementException") (names := ["java/lang/RuntimeException", "java/lang/Exception"]) hl hx hb hml hown hts hK hZ hP hS hg (Or.inr rfl) (hts _ hlk) (hts _ (lw_g (lw_at lw_m9 66 rfl) rfl)) (hts _ (lw_g (lw_at lw_m9 67 rfl) rfl)) (by decide) (fun n hn => by
    rcases List.mem_cons.mp hn with rfl | hn
    · decide
    · rcases List.mem_cons.mp hn with rfl | hn
      · decide
      · cases hn) (nse_ch hts hN) (by show 2 + 3 < d + 8; omega) (by show _ + (13 * (2 + 1) + 41) ≤ 64 * (d + 8); omega) hd (fun H1 locs1 hP1 hS1 => ?_)
  exact same0 (W0 := fun a b => W p l e (rmC d nc ns) s m args below meth c H1 locs1 a b Q (F0 m (pc + 3) LS rest)) (kk H1 locs1 hP1 hS1)
end
