/-! THROWS: leaving a method, athrow, a contract out of a walk -/
def MQT (below : List Frame) (Qc : Array Value → State → Outcome → State → Prop) (a : Array Value) (s : State) (mc ms : Nat) (free : Addr → Prop) : State → Prop := fun t =>
  ∃ o, t.status = .running ∧ Ended t below o ∧ Qc a s o t ∧ ∃ L, FEndT s o t L mc ms ∧ ∀ q ∈ L, free q.base
section
variable {p : Program} {l : Launch} {e : Env} {R : Room} {s : State} {m : MethodId} {args : Array Value} {below : List Frame} {meth : Method} {c : Code} {H : Heap} {locs : List Loc} {cells slots : Nat}
theorem WT.leave {Qc : Array Value → State → Outcome → State → Prop} {free : Addr → Prop} {pc : Nat} {LS : Array Slot} {st : List Value} {x : Addr} (hout : ∀ y ∈ c.exceptionTable.toList, covers y pc = false) (hlocks : meth.locks = false)
    (hq : ∀ t : State, t.heap = H → s.WarmedH t.vm → Qc args s (.threw x) t) (hf : ∀ q ∈ locs, free q.base) : WT p l e R s m args below meth c H locs cells slots (MQT below Qc args s cells slots free) (F0 m pc LS st) x := by
  intro T hT X
  obtain ⟨h1, h2, h3, h4, h5⟩ := X.leaveThrown x (g := F0 m pc LS st) rfl rfl rfl hout (hlocks := hlocks)
  exact ⟨_, h1, .threw x, h2, h3, hq _ hT h4, locs, ⟨⟨x, rfl⟩, h4, h5⟩, hf⟩
theorem W.athrow {Q : State → Prop} {cc : ByteArray} (hexec : p.tables.exec = Jvm.exec) (hb : c.code = cc) {pc : Nat} {LS : Array Slot} {rest : List Value} {x : Addr} (hdg : decode cc pc = .ok (.athrow, 1))
    (kk : WT p l e R s m args below meth c H locs cells slots Q (F0 m pc LS rest) x) : W p l e R s m args below meth c H locs cells slots Q (F0 m pc LS (.ref x :: rest)) := by
  intro T hT X
  obtain ⟨t, a1, b1⟩ := kk T hT X
  refine ⟨t, ?_, b1⟩
  have hh := X.here
  jvm_step X.here [X.here.top, hexec, hb, hdg, athrow.wp_sem]
  exact a1
theorem MetT.ofW {y : MethodName} {ws ws' : List Cond} {rm : Room} {Pc : Array Value → State → Prop} {Qc : Array Value → State → Outcome → State → Prop} {mc ms : Nat} {free : Addr → Prop} {cc : ByteArray} {maxL : Nat} {ret : Option FieldType}
    (hy : plainName y.cls = true) (hw : ws = Cond.code y cc maxL ret :: ws')
    (body : ∀ p e s m args below meth c s₁, BodyLoose p l y (headSpec ws rm) cc maxL ret e s m args below meth c s₁ → c.maxLocals = maxL → Pc args s →
      W p l e (headSpec ws rm).room s m args below meth c s.heap [] 0 0 (MQT below Qc args s mc ms free) (entryFrame m args maxL)) : MetT l y ws rm Pc Qc mc ms free := by
  refine MetFree.of_bodyS (code := cc) (maxLocals := maxL) (ret := ret) hy ?_ ?_
  · intro args s m h hn
    obtain ⟨meth, c, h1, h2, h3, h4, h5, h6, -, -⟩ := Cond.code_spec hn (atoms_spec (ws := ws) h _ (by rw [hw]; exact List.mem_cons_self))
    exact ⟨meth, c, h1, h2, h3, h4, h5, h6⟩
  · intro p e s m args below meth c s₁ B hml hP _
    have hh0 : s₁.heap = s.heap := by rw [B.state]; rfl
    obtain ⟨t, a1, o, b1, b2, b3⟩ := body p e s m args below meth c s₁ B hml hP s₁ hh0 (Stand.of_body B)
    exact ⟨t, o, a1, b1, b2, ⟨b3.1, b3.2⟩⟩
end
