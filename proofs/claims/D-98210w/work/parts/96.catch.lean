/-! CAUGHT: the class of the handler is perhaps not resolved yet -/
section
variable {E : CtlPost} {e : Env} {d : Bool} {acts : List Action} {s : State} {f : JFrame} {a : Addr} {Q : Handler → Pre}
theorem fh_cold {x : ExceptionTableEntry} {t : List ExceptionTableEntry} {c : ClassId} {vm' : Vm} {cell : Cell} (hx : covers x f.pc = true) (h0 : x.catchType ≠ 0) (hg : (resolveClass f.method.cls x.catchType).Gives e.toSetting s.vm (.ok c) vm') (hsz : vm'.classes.size ≤ s.vm.classes.size)
    (hcell : s.heap[a]? = some cell) (hobj : ∀ k, cell.vm ≠ .statics k) (hk : ∃ k, vm'.classes[cell.cls]? = some k) (hc : ∃ k, vm'.classes[c]? = some k) (hfit : vm'.assignable cell.cls c = true) :
    wp (findHandler.go f a (x :: t)) Q E e d acts s ↔ Q (.found x.handlerPc) d acts (s.setVm vm') := by
  simp only [covers] at hx
  obtain ⟨h1, h2⟩ := hg.op (op := .resolveClass f.method.cls x.catchType) rfl
  have h3 := VmOp.lands_same (op := .resolveClass f.method.cls x.catchType) (e := e) (s := s) (by rw [h2]; exact hsz)
  simp [findHandler.go, hx, h0, h3, h1, h2, hcell, hobj, hk, hc, hfit, VmOp.dirties, VmOp.acts, MirrorsLaid.exists_done]
theorem st_catch {r : List Frame} {pc : Nat} {s' : State} (hfind : ∀ (Q : Handler → Pre) (E : CtlPost) (d : Bool) (acts : List Action), wp (findHandler f a) Q E e d acts s ↔ Q (.found pc) d acts s') :
    (stepThrowing e s a (.java f :: r)).Is (s'.setFrames (.java { f with pc := pc, stack := [.ref a] } :: r)) [] := by
  simp only [stepThrowing, searchFrame, vmDo]
  generalize hr : Sem.go _ e false [] s = res
  obtain ⟨as, rfl, ha⟩ := Sem.eq_ok_of hr (a := Handler.found pc) (s' := s') (acts' := []) (by simp [hfind _ _ _ _])
  exact ⟨rfl, ha⟩
end
section
variable {tb : Tables} {e : Env} {below : List Frame} {s : State} {g : JFrame} {c : Code} {a : Addr} {target : State}
theorem sp_caught (h : At s g.method c below) {pc : Nat} {vm' : Vm} (hfind : ∀ (Q : Handler → Pre) (E : CtlPost) (d : Bool) (acts : List Action), wp (findHandler g a) Q E e d acts ((s.setTop g).pushFrame (.throwing a)) ↔ Q (.found pc) d acts (((s.setTop g).pushFrame (.throwing a)).setVm vm'))
    (hrest : Steps tb e below ((s.setVm vm').setTop { g with pc := pc, stack := [.ref a] }) target) :
    Steps tb e below ((s.setTop g).pushFrame (.throwing a)) target := by
  obtain ⟨hgo, hw⟩ := h.throwing a
  refine Steps.head hgo hw ?_
  rw [stepThread_throwing (frames_entered h.top _), (st_catch (s := (s.setTop g).pushFrame (.throwing a)) hfind).1]
  obtain ⟨g₀, hg⟩ := Option.isSome_iff_exists.mp h.top
  obtain ⟨r, hr⟩ := State.topJava?_eq_some.mp hg
  have hr2 : (s.setVm vm').frames = .java g₀ :: r := hr
  rw [State.setTop_of_frames _ hr2] at hrest
  rw [State.pushFrame, State.setTop_of_frames _ hr, State.setFrames_setFrames, hr]
  have e1 : (((s.setFrames (.throwing a :: (s.setFrames (.java g :: r)).frames)).setVm vm').setFrames (.java { g with pc := pc, stack := [.ref a] } :: (List.tail (.java g₀ :: r)))) = (s.setVm vm').setFrames (.java { g with pc := pc, stack := [.ref a] } :: r) := by
    show (((s.setVm vm').setFrames _).setFrames _) = _
    rw [State.setFrames_setFrames]
    rfl
  exact e1 ▸ hrest
end
section
variable {p : Program} {l : Launch} {e : Env} {R : Room} {s : State} {m : MethodId} {args : Array Value} {below : List Frame} {meth : Method} {c : Code} {H : Heap} {locs : List Loc} {cells slots : Nat} {Q : State → Prop}
theorem WT.catch {own name : String} {pc t idx a b : Nat} {LS : Array Slot} {st : List Value} {x : Addr} {cell : Cell} {cT : ClassId} {ks : Class}
    (hown : s.vm.findClass own = some m.cls) (hlink : (Cond.classLink own idx name).before args s = true) (htab : c.exceptionTable.toList = [{ startPc := a, endPc := b, handlerPc := t, catchType := idx }]) (hpc : a ≤ pc ∧ pc < b) (h0 : idx ≠ 0)
    (hcell : H[x]? = some cell) (hobj : ∀ k, cell.vm ≠ .statics k) (hks : s.vm.classes[cell.cls]? = some ks) (hcT : s.vm.findClass name = some cT) (hasg : s.vm.assignable cell.cls cT = true)
    (kk : W p l e R s m args below meth c H locs cells slots Q (F0 m t LS [.ref x])) : WT p l e R s m args below meth c H locs cells slots Q (F0 m pc LS st) x := by
  intro T hT X
  have hpl : e.platform.magicAccessors = ({} : Platform).magicAccessors := by rw [X.admits.platform]
  obtain ⟨c', hc', hcl⟩ := Cond.classLink_spec hown hlink e.platform hpl
  cases hcT.symm.trans hc'
  obtain ⟨dk, _, _, kt, hd, _, _, _, _, hkt, _, hopen⟩ := hcl.here
  have hcl₀ := X.warmed.classLinks hcl
  have hW' : s.WarmedH (T.vm.noted m.cls idx (.cls cT)) := X.warmed.noted hd hopen (State.rightAt_cls hcl)
  obtain ⟨ks', hks', -⟩ := hW'.alike.2.2 _ _ hks
  obtain ⟨kt', hkt', -⟩ := hW'.alike.2.2 _ _ hkt
  obtain ⟨t2, a1, b1⟩ := kk (T.setVm (T.vm.noted m.cls idx (.cls cT))) hT (X.noted hW')
  refine ⟨t2, ?_, b1⟩
  refine sp_caught (g := F0 m pc LS st) (pc := t) (vm' := T.vm.noted m.cls idx (.cls cT)) X.here (fun Q E d acts => ?_) a1
  have hmeth : ((T.setTop (F0 m pc LS st)).pushFrame (.throwing x)).vm.method? (F0 m pc LS st).method = some meth := by rw [Stand.throwing_vm]; exact X.method'
  have hco : meth.code = some c := X.code
  rw [W.findHandler_eq hmeth hco, htab]
  have hv : ((T.setTop (F0 m pc LS st)).pushFrame (.throwing x)).vm = T.vm := Stand.throwing_vm _ _ _
  refine fh_cold (x := { startPc := a, endPc := b, handlerPc := t, catchType := idx }) (by simp [covers, F0, hpc]) h0 (by rw [hv]; exact resolveClass_links e.toSetting hcl₀) (by rw [hv]; no_record) (by rw [Stand.throwing_heap, hT]; exact hcell) hobj ⟨ks', hks'⟩ ⟨kt', hkt'⟩ (by rw [hW'.alike.assignable]; exact hasg)
end
