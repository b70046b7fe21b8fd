set_option maxRecDepth 100000
/-! CALLS OF METHODS THAT HAVE HANDLERS -/
section
variable {p : Program} {l : Launch} {e : Env} {R : Room} {s : State} {m : MethodId} {args : Array Value} {below : List Frame} {meth : Method} {c : Code} {H : Heap} {locs : List Loc} {cells slots : Nat}
variable {cc bytes : ByteArray} {nL maxL index n mc ms : Nat} {own C : String} {y : MethodName} {ret : Option FieldType} {hh : List (Nat × Nat × Nat × Nat)} {rm : Room} {Pc : Array Value → State → Prop} {Qc : Array Value → State → Outcome → State → Prop} {free : Addr → Prop} {b : Addr} {As rest : List Value} {pc : Nat} {LS : Array Slot}
theorem wk_vw (S : CallFix p m c cc nL s args lw_all own) (hM : Met l y (wsW_ y bytes maxL ret hh) rm Pc Qc mc ms free) (hG : GoodIn lw_all (wsV own index C y (wsW_ y bytes maxL ret hh))) (hrc : rm.cells = mc) (hrs : rm.slots = ms)
    (hd : y.cls = C ∧ y.cls ≠ "java/lang/invoke/MethodHandle" ∧ y.cls ≠ "java/lang/invoke/VarHandle" ∧ (parseMethodDescriptor y.desc).map (fun d => d.parameters.length) = some n) (hR : rm.frames + 1 ≤ R.frames ∧ 8 + (maxL + 11) + rm.locals ≤ R.locals) (hp : PreV s H C b Pc As) (hn : As.length = n) (hsz : LS.size = nL) (hcat : catS rest ≤ 8) (hdg : decode cc pc = .ok (.invokevirtual index, 3)) (hf : cells + mc ≤ R.cells ∧ slots + ms ≤ R.slots) :
    va_Run p l e R s m args below meth c H locs cells slots mc ms (F0 m pc LS (As.reverse ++ .ref b :: rest)) rest (Qc (Value.ref b :: As).toArray) free := by
  obtain ⟨hx, hb, hml, ho, ht⟩ := S
  obtain ⟨hC, hy1, hy2, hpd⟩ := hd
  subst hC
  have ok : ∀ w ∈ wsV own index y.cls y (wsW_ y bytes maxL ret hh), w.before args s = true := fun w h => ht w (hG w h).1
  have hG' : GoodIn lw_all (wsW_ y bytes maxL ret hh) := fun w h => hG w (by unfold wsV; exact List.mem_append_right _ h)
  have hini : (Cond.initialized y.cls).before args s = true := ok _ (by simp [wsV])
  have hl : (Cond.methodLink own index y).before args s = true := ok _ (by simp [wsV])
  have hin : (Cond.instanceMethod y).before args s = true := ok _ (by simp [wsV])
  have hse : (Cond.selects y.cls y y).before args s = true := ok _ (by simp [wsV])
  have hcode : (Cond.codeWith y bytes maxL ret hh).before args s = true := ht _ (hG' _ List.mem_cons_self).1
  have hK : Back l R p e below s args y 3 8 (PreOf R mc ms Pc) (PostOf Qc mc ms free) := va_backW (bytes := bytes) (maxL := maxL) (ret := ret) (hh := hh) hM hp.1 hrc hrs hR.1 hR.2 (pay_in ht hG') List.mem_cons_self (fun a' U hW => word_at hW (Or.inl (by first | rfl | simp [Cond.onTables, Cond.keeps, Cond.steady])) hini)
  obtain ⟨-, ⟨cellB, hcB, hoB, hclB⟩, hPc⟩ := hp
  intro T hT X
  obtain ⟨mk, methM, hnamed, hmethM, hstM, habM⟩ := Cond.instanceMethod_spec hin
  obtain ⟨mk', methM', cM, hnamed', hmethM', -, -, -, -, -, -, hsigM⟩ := Cond.codeWith_spec hcode
  cases hnamed.symm.trans hnamed'
  cases hmethM.symm.trans hmethM'
  obtain ⟨c2, r2, m2, q1, q2, q3, q4, kP, hkP, hkPi⟩ := Cond.selects_spec hse
  cases hclB.symm.trans q1
  cases (State.methodFound?_of_named hnamed ⟨hy1, hy2⟩).symm.trans q2
  cases hnamed.symm.trans q3
  have hselP : selectMethod e.platform s.vm cellB.cls mk = .method mk := by rw [Launch.admits_selectMethod X.admits]; exact q4
  have hlen : As.length = methM.sig.parameters.length := by
    rw [hsigM] at hpd
    rw [hn]
    exact (Option.some.inj hpd).symm
  obtain ⟨vm₁, X₁, hstep₁⟩ := X.invokevirtual hx ho hl hnamed hmethM hstM hkP hkPi ⟨hy1, hy2⟩ (a := b) (cell := cellB) (by rw [hT]; exact hcB)
    (fun z h => by rw [h] at hoB; cases hoB) hselP hmethM habM hkP hkPi (g := F0 m pc LS (As.reverse ++ .ref b :: rest)) rfl (argsL := As) (rest := rest) hlen rfl (by rw [hb]; exact hdg)
  obtain ⟨v, ⟨U', l2, c2', s2⟩, X', ⟨g', mk2, t, L, e1, e2, hq, h1, hL, h2, h3⟩, hsteps⟩ := hK m meth c ⟨T.setVm vm₁, locs, cells, slots⟩ { F0 m pc LS (As.reverse ++ .ref b :: rest) with stack := rest } (.invokevirtual index) mk (Value.ref b :: As).toArray X₁ rfl (hsz.trans hml.symm) (by rw [hb]; exact hdg) (lv_room hcat) (X₁.named hnamed) ⟨hf.1, hf.2, hPc (T.setVm vm₁) hT X₁.warmed⟩
  dsimp only [Pt.U, Pt.locs, Pt.cells, Pt.slots] at X' e1 e2 h1 h2 h3 hsteps
  subst h1; subst h2; subst h3
  exact ⟨v, (T.setVm vm₁).calling g' mk2 (Value.ref b :: As).toArray, t, U', L, hT, X', hL, e1, e2, hq, fun target h => hstep₁ _ fun acts => by rw [doInvoke_state]; exact hsteps.trans h⟩
theorem wk_sw (S : CallFix p m c cc nL s args lw_all own) (hM : Met l y (wsW_ y bytes maxL ret hh) rm Pc Qc mc ms free) (hG : GoodIn lw_all (va_wsS own index y (wsW_ y bytes maxL ret hh))) (hrc : rm.cells = mc) (hrs : rm.slots = ms)
    (hd : y.cls ≠ "java/lang/invoke/MethodHandle" ∧ y.cls ≠ "java/lang/invoke/VarHandle" ∧ (parseMethodDescriptor y.desc).map (fun d => d.parameters.length) = some n) (hR : rm.frames + 1 ≤ R.frames ∧ 8 + (maxL + 11) + rm.locals ≤ R.locals) (hp : PreS s H Pc As) (hn : As.length = n) (hsz : LS.size = nL) (hcat : catS rest ≤ 8) (hdg : decode cc pc = .ok (.invokestatic index, 3)) (hf : cells + mc ≤ R.cells ∧ slots + ms ≤ R.slots) :
    va_Run p l e R s m args below meth c H locs cells slots mc ms (F0 m pc LS (As.reverse ++ rest)) rest (Qc As.toArray) free := by
  obtain ⟨hx, hb, hml, ho, ht⟩ := S
  obtain ⟨hy1, hy2, hpd⟩ := hd
  have ok : ∀ w ∈ va_wsS own index y (wsW_ y bytes maxL ret hh), w.before args s = true := fun w h => ht w (hG w h).1
  have hG' : GoodIn lw_all (wsW_ y bytes maxL ret hh) := fun w h => hG w (by unfold va_wsS; exact List.mem_append_right _ h)
  have hini : (Cond.initialized y.cls).before args s = true := ok _ (by simp [va_wsS])
  have hl : (Cond.methodLink own index y).before args s = true := ok _ (by simp [va_wsS])
  have hst : (Cond.static y).before args s = true := ok _ (by simp [va_wsS])
  have hcode : (Cond.codeWith y bytes maxL ret hh).before args s = true := ht _ (hG' _ List.mem_cons_self).1
  have hK : Back l R p e below s args y 3 8 (PreOf R mc ms Pc) (PostOf Qc mc ms free) := va_backW (bytes := bytes) (maxL := maxL) (ret := ret) (hh := hh) hM hp.1 hrc hrs hR.1 hR.2 (pay_in ht hG') List.mem_cons_self (fun a' U hW => word_at hW (Or.inl (by first | rfl | simp [Cond.onTables, Cond.keeps, Cond.steady])) hini)
  intro T hT X
  obtain ⟨mk, methM, cM, hnamed, hmethM, -, -, -, -, -, -, hsigM⟩ := Cond.codeWith_spec hcode
  have hstatic : methM.isStatic = true := Cond.static_spec hnamed hmethM hst
  obtain ⟨kP, hkP, -⟩ := className_of_methodNamed hnamed
  have hinitP : kP.init = .initialized := Cond.initialized_spec (findClass_of_methodNamed hnamed) hkP hini
  have hlen : As.length = methM.sig.parameters.length := by
    rw [hsigM] at hpd
    rw [hn]
    exact (Option.some.inj hpd).symm
  obtain ⟨vm₁, X₁, hstep₁⟩ := X.invokestatic hx ho hl hnamed hmethM hstatic hkP hinitP ⟨hy1, hy2⟩ (g := F0 m pc LS (As.reverse ++ rest)) rfl (argsL := As) (rest := rest) hlen rfl (by rw [hb]; exact hdg)
  obtain ⟨v, ⟨U', l2, c2', s2⟩, X', ⟨g', mk2, t, L, e1, e2, hq, h1, hL, h2, h3⟩, hsteps⟩ := hK m meth c ⟨T.setVm vm₁, locs, cells, slots⟩ { F0 m pc LS (As.reverse ++ rest) with stack := rest } (.invokestatic index) mk As.toArray X₁ rfl (hsz.trans hml.symm) (by rw [hb]; exact hdg) (lv_room hcat) (X₁.named hnamed) ⟨hf.1, hf.2, hp.2 (T.setVm vm₁) hT X₁.warmed⟩
  dsimp only [Pt.U, Pt.locs, Pt.cells, Pt.slots] at X' e1 e2 h1 h2 h3 hsteps
  subst h1; subst h2; subst h3
  exact ⟨v, (T.setVm vm₁).calling g' mk2 As.toArray, t, U', L, hT, X', hL, e1, e2, hq, fun target h => hstep₁ _ fun acts => by rw [doInvoke_state]; exact hsteps.trans h⟩
end
/-! THE COMPONENT's METHODS THAT HAVE A HANDLER -/
section
variable {l : Launch} {D : va_G} {ac : Nat → ClassId} {A : Nat → Prop} {zs : Nat → Nat} {J : CJ}
theorem exT_of {L : List ExceptionTableEntry} {a b t k : Nat} (h : L.map (fun h => (h.startPc, h.endPc, h.handlerPc, h.catchType)) = [(a, b, t, k)]) : L = [{ startPc := a, endPc := b, handlerPc := t, catchType := k }] := by
  match L with
  | [] => cases h
  | [x] =>
    obtain ⟨x1, x2, x3, x4⟩ := x
    simp only [List.map_cons, List.map_nil, List.cons.injEq, Prod.mk.injEq, and_true] at h
    obtain ⟨rfl, rfl, rfl, rfl⟩ := h
    rfl
  | _ :: _ :: _ => simp at h
theorem body_tab {p : Program} {x : MethodName} {S : Spec} {code : ByteArray} {nL : Nat} {ret : Option FieldType} {e : Env} {s : State} {m : MethodId} {args : Array Value} {below : List Frame} {meth : Method} {c : Code} {s₁ : State} {a b t k : Nat} (B : BodyLoose p l x S code nL ret e s m args below meth c s₁) (h : (Cond.codeWith x code nL ret [(a, b, t, k)]).before args s = true) : c.exceptionTable.toList = [{ startPc := a, endPc := b, handlerPc := t, catchType := k }] := by
  obtain ⟨m', meth', c', hn', hm', hc', -, -, he', -⟩ := Cond.codeWith_spec h
  cases B.named.symm.trans hn'
  cases B.method.symm.trans hm'
  cases (Stand.of_body B).code.symm.trans hc'
  exact exT_of he'
theorem c_contractW (hJ : JOK l D ac A zs J) {y : MethodName} {cc : ByteArray} {rt : Option FieldType} {md nL d a b t : Nat} {As : List Value} {σ σ' : CM} {v : Option Value} (h : EC zs J d cc rt 0 md 0 (lent As nL) [] σ (fun q => q = (.inl v, σ'))) (hcls : y.cls = oN 0) (hpl : plainName y.cls = true) (hmd : hnd md = some (a, b, t)) (h9 : md ≠ 9) (hlen : (lg_sl As).length ≤ nL) :
    leM σ σ' ∧ Met l y (wsW_ y cc nL rt [(a, b, t, 138)]) (rmC d (σ'.1 - σ.1) (σ'.2.1 - σ.2.1)) (cPc D ac A zs As σ) (cQc D ac A (.inl v, σ')) (σ'.1 - σ.1) (σ'.2.1 - σ.2.1) A := by
  obtain ⟨q, ⟨n, hn⟩, rfl⟩ := h
  refine ⟨cxv_mono hJ.mono _ _ _ _ hn, ?_⟩
  refine va_MetW (cc := cc) (maxL := nL) (ret := rt) (hh := [(a, b, t, 138)]) hpl rfl ?_
  intro p e s m args below meth c s₁ B hml hv
  obtain ⟨rfl, hP, hK, hN, hZ⟩ := hv
  have hts0 := atoms_spec (ws := wsW_ y cc nL rt [(a, b, t, 138)]) B.pre
  have hts : ∀ w ∈ lw_all, w.before _ s = true := fun w h => hts0 w (List.mem_cons_of_mem _ h)
  have hown : s.vm.findClass (oN 0) = some m.cls := by rw [← hcls]; exact findClass_of_methodNamed B.named
  have hex := body_tab B (hts0 _ List.mem_cons_self)
  rw [lg_entry_eq]
  have key := (c_sound hJ n d _ _ hn p e s m _ below meth c nL _ _ ⟨B.exec, B.bytes, B.returns, B.notSynchronized, hml, hown, fun hm => absurd hm h9, by unfold cHnd; dsimp only; rw [hmd]; exact hex, Or.inr rfl, hts, hN, hK, hZ⟩ s.heap [] 0 0 _ hP va_S.rf (LH.entry hlen) (Nat.zero_add _) (Nat.zero_add _)).1 rfl
  exact key
end
