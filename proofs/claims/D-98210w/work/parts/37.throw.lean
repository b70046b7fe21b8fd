/-! THROWS: a method that ends with an exception, a call of one -/
def FEndT (first : State) (o : Outcome) (t : State) (L : List Loc) (k n : Nat) : Prop := (∃ x, o = .threw x) ∧ first.WarmedH t.vm ∧ first.sameButNew ({ t with vm := first.vm } : State) L k n
/-- the contract of a method that throws -/
def MetT (l : Launch) (y : MethodName) (ws : List Cond) (rm : Room) (Pc : Array Value → State → Prop) (Qc : Array Value → State → Outcome → State → Prop) (mc ms : Nat) (free : Addr → Prop) : Prop :=
  MetFree l y (headSpec ws rm) Pc (fun _ _ _ _ _ => True) (fun a st o t => Qc a st o t ∧ ∃ L, FEndT st o t L mc ms ∧ ∀ q ∈ L, free q.base)
/-- the machine with an exception over the frame g -/
def WT (p : Program) (l : Launch) (e : Env) (R : Room) (s : State) (m : MethodId) (args : Array Value) (below : List Frame) (meth : Method) (c : Code) (H : Heap) (locs : List Loc) (cells slots : Nat) (Q : State → Prop) (g : JFrame) (x : Addr) : Prop :=
  ∀ T : State, T.heap = H → Stand p l e R s m args below meth c T locs cells slots → ∃ t, Steps p.tables e below ((T.setTop g).pushFrame (.throwing x)) t ∧ Q t
section
variable {p : Program} {l : Launch} {e : Env} {R : Room} {s : State} {m : MethodId} {args : Array Value} {below : List Frame} {meth : Method} {c : Code} {T : State} {locs : List Loc} {cells slots : Nat}
theorem callVT (X : Stand p l e R s m args below meth c T locs cells slots) (hexec : p.tables.exec = Jvm.exec) {own C : String} {index : Nat} {y : MethodName} {bytes : ByteArray} {maxL : Nat} {ret : Option FieldType} {ws : List Cond} {rm : Room} {Pc : Array Value → State → Prop} {Qc : Array Value → State → Outcome → State → Prop} {mc ms n : Nat} {free : Addr → Prop}
    (hown : s.vm.findClass own = some m.cls) (hM : MetT l y ws rm Pc Qc mc ms free) (cw : CallW R s args own C index y bytes maxL ret ws rm mc ms n) (hbl : FrameBlind Pc)
    {b : Addr} {cellB : Cell} (hcell : T.heap[b]? = some cellB) (hobj : cellB.vm.isStatics = false) (hcls : s.vm.findClass C = some cellB.cls)
    {g : JFrame} (hg : g.method = m) (hsize : g.locals.size = c.maxLocals) {argsL rest : List Value} (hn : argsL.length = n)
    (hstack : g.stack = argsL.reverse ++ .ref b :: rest) (hW : 2 * g.monitorRoom + (rest.map fun v => v.category).sum ≤ 8) (hdg : decode c.code g.pc = .ok (.invokevirtual index, 3))
    (hpre : ∀ U : State, U.heap = T.heap → s.WarmedH U.vm → Pc (Value.ref b :: argsL).toArray U) (hf : cells + mc ≤ R.cells ∧ slots + ms ≤ R.slots) :
    ∃ (x : Addr) (st₀ t T' : State) (L : List Loc), st₀.heap = T.heap ∧ Stand p l e R s m args below meth c T' (locs ++ L) (cells + mc) (slots + ms) ∧ (∀ q ∈ L, free q.base) ∧ T'.heap = t.heap ∧ T'.vm = t.vm ∧ Qc (Value.ref b :: argsL).toArray st₀ (.threw x) t ∧
      ∀ target, Steps p.tables e below ((T'.setTop { g with stack := rest }).pushFrame (.throwing x)) target → Steps p.tables e below (T.setTop g) target := by
  obtain ⟨⟨hrc, hrs, hfr, hlo, hws, hcw, hcode, hini, hy, hlen, hlink⟩, hinst, hsel⟩ := cw
  obtain ⟨mk, methM, hnamed, hmethM, hstM, habM⟩ := Cond.instanceMethod_spec hinst
  obtain ⟨methM', cM, hmethM', -, -, -, -, -, -, hsigM⟩ := Cond.code_spec hnamed hcode
  cases hmethM.symm.trans hmethM'
  obtain ⟨c2, r2, m2, q1, q2, q3, q4, kP, hkP, hkPi⟩ := Cond.selects_spec hsel
  cases hcls.symm.trans q1
  cases (State.methodFound?_of_named hnamed hy).symm.trans q2
  cases hnamed.symm.trans q3
  have hselP : selectMethod e.platform s.vm cellB.cls mk = .method mk := by rw [Launch.admits_selectMethod X.admits]; exact q4
  obtain ⟨vm₁, X₁, hstep₁⟩ := X.invokevirtual hexec hown hlink hnamed hmethM hstM hkP hkPi hy (a := b) (cell := cellB) hcell
    (fun z h => by rw [h] at hobj; cases hobj) hselP hmethM habM hkP hkPi (g := g) hg (argsL := argsL) (rest := rest) (hn.trans (hlen _ hsigM)) hstack hdg
  generalize hU : T.setVm vm₁ = U at X₁ hstep₁
  have hUh : U.heap = T.heap := by rw [← hU]; rfl
  have hnY : U.methodNamed? y = some mk := X₁.named hnamed
  generalize hg1 : ({ g with stack := rest } : JFrame) = g1 at hstep₁ ⊢
  have hg1m : g1.method = m := by rw [← hg1]; exact hg
  have h2 : (Cond.code y bytes maxL ret).before (Value.ref b :: argsL).toArray U = true := hws _ hcw _ _ X₁.warmed
  have h3 : (Cond.initialized y.cls).before (Value.ref b :: argsL).toArray U = true := word_at X₁.warmed (Or.inl (by first | rfl | simp [Cond.onTables, Cond.keeps, Cond.steady])) hini
  obtain ⟨methY, cY, hmY, hcY, -, hlY, -, -, -, -⟩ := Cond.code_spec hnY h2
  obtain ⟨kY, hkY, -⟩ := className_of_methodNamed hnY
  have hinitY : kY.init = .initialized := Cond.initialized_spec (findClass_of_methodNamed hnY) hkY h3
  have h : At U g1.method c below := by rw [hg1m]; exact X₁.here
  have hdg1 : decode c.code g1.pc = .ok (.invokevirtual index, 3) := by rw [← hg1]; exact hdg
  have hsz1 : g1.locals.size = c.maxLocals := by rw [← hg1]; exact hsize
  have hW1 : 2 * g1.monitorRoom + (g1.stack.map fun v => v.category).sum ≤ 8 := by rw [← hg1]; exact hW
  have happ : (headSpec ws rm).appliesLoose y e.platform (U.calling g1 mk (Value.ref b :: argsL).toArray) = true :=
    Spec.appliesLoose_calling (g := g1) h hdg1 hnY hkY hinitY
      (X₁.room_calling (g := g1) (R' := rm) hsz1 hmY hcY hfr (by rw [hlY]; omega) (by rw [hrc]; exact hf.1) (by rw [hrs]; exact hf.2)) (atoms_intro fun w hw => hws w hw _ _ X₁.warmed)
  obtain ⟨mid, hmid⟩ := h.above
  have hfr2 : (U.setTop g1).frames = (.java g1 :: mid) ++ below := by rw [State.frames_setTop' g1 h.top, hmid]; rfl
  obtain ⟨o, s₂, hsteps, -, hend, hq⟩ := Steps.callFree hM p X₁.admits X₁.cas X₁.clock (acts := []) hfr2 happ (hbl _ _ _ _ (hpre U hUh X₁.warmed)) trivial
  rw [State.frames_setTop' g1 h.top] at hend
  obtain ⟨hq, L, ⟨⟨x, rfl⟩, hw2, hsm⟩, hL⟩ := hq
  rw [X₁.tail] at hend
  obtain ⟨T', X', -, -, ht⟩ := Jvm.Stand.outOfThrown X₁ hg1m hend hw2 hsm
  refine ⟨x, U.calling g1 mk (Value.ref b :: argsL).toArray, s₂, T', L, hUh, X', hL, ?_, ?_, hq, fun target hs => hstep₁ _ fun acts => ?_⟩
  · rw [ht]; exact (Jvm.Stand.throwing_heap T' g1 x).symm
  · rw [ht]; exact (Jvm.Stand.throwing_vm T' g1 x).symm
  · rw [doInvoke_state]
    exact hsteps.trans (by rw [ht]; exact hs)
/-- a call that throws -/
theorem WT.call {H : Heap} {Q : State → Prop} {cc : ByteArray} {nL : Nat} {own C : String} {index : Nat} {y : MethodName} {bytes : ByteArray} {maxL : Nat} {ret : Option FieldType} {ws : List Cond} {rm : Room} {Pc : Array Value → State → Prop} {Qc : Array Value → State → Outcome → State → Prop} {mc ms n : Nat} {free : Addr → Prop} {b : Addr} {As rest : List Value} {pc : Nat} {LS : Array Slot}
    (S : CallFix p m c cc nL s args lw_all own) (hM : MetT l y ws rm Pc Qc mc ms free) (cw : CallW R s args own C index y bytes maxL ret ws rm mc ms n) (hp : PreV s H C b Pc As) (hn : As.length = n) (hsz : LS.size = nL) (hcat : catS rest ≤ 8) (hdg : decode cc pc = .ok (.invokevirtual index, 3)) (hf : cells + mc ≤ R.cells ∧ slots + ms ≤ R.slots)
    (kk : ∀ (x : Addr) (st₀ t : State) (H' : Heap) (L : List Loc), st₀.heap = H → t.heap = H' → s.vm.Alike t.vm → (∀ q ∈ L, free q.base) → Qc (Value.ref b :: As).toArray st₀ (.threw x) t → WT p l e R s m args below meth c H' (locs ++ L) (cells + mc) (slots + ms) Q (F0 m pc LS rest) x) : W p l e R s m args below meth c H locs cells slots Q (F0 m pc LS (As.reverse ++ .ref b :: rest)) := by
  intro T hT X
  obtain ⟨hx, hb, hml, ho, -⟩ := S
  obtain ⟨hbl, ⟨cellB, hcB, hoB, hclB⟩, hPc⟩ := hp
  obtain ⟨x, st₀, t, T', L, h0, X', hL, e1, e2, hq, st⟩ := callVT X hx ho hM cw hbl (by rw [hT]; exact hcB) hoB hclB (g := F0 m pc LS (As.reverse ++ .ref b :: rest)) rfl (hsz.trans hml.symm) (argsL := As) (rest := rest) hn rfl (lv_room hcat) (by rw [hb]; exact hdg) (fun U hU hW => hPc U (hU.trans hT) hW) hf
  obtain ⟨t2, a1, b1⟩ := kk x st₀ t T'.heap L (h0.trans hT) e1.symm (by rw [← e2]; exact X'.warmed.alike) hL hq T' rfl X'
  exact ⟨t2, st t2 a1, b1⟩
end
