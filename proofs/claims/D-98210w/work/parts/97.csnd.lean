/-! THE COMPONENT's RUNS ARE THE MACHINE's -/
def cOut (r : Option Value ⊕ Nat) : Outcome := match r with
  | .inl v => .returned v
  | .inr x => .threw x
def cPc (D : va_G) (ac : Nat → ClassId) (A : Nat → Prop) (zs : Nat → Nat) (av : List Value) (σ : CM) : Array Value → State → Prop := va_Pc av (fun U => HP D ac A σ U.heap ∧ va_K D cCl (cTys ac) U ∧ NW U ∧ ZW zs A U U.heap)
def cQc (D : va_G) (ac : Nat → ClassId) (A : Nat → Prop) (r : CR) : Array Value → State → Outcome → State → Prop := fun _ st o t => o = cOut r.1 ∧ HP D ac A r.2 t.heap ∧ va_F A st t
/-- a method's end: it returns, or it throws -/
def cEnd (D : va_G) (ac : Nat → ClassId) (A : Nat → Prop) (below : List Frame) (r : CR) (args : Array Value) (s : State) (mc ms : Nat) : State → Prop := match r.1 with
  | .inl _ => MQ below (cQc D ac A r) args s mc ms A
  | .inr _ => MQT below (cQc D ac A r) args s mc ms A
def cMet (l : Launch) (D : va_G) (ac : Nat → ClassId) (A : Nat → Prop) (y : MethodName) (ws : List Cond) (rm : Room) (Pc : Array Value → State → Prop) (r : CR) (mc ms : Nat) : Prop := match r.1 with
  | .inl _ => Met l y ws rm Pc (cQc D ac A r) mc ms A
  | .inr _ => MetT l y ws rm Pc (cQc D ac A r) mc ms A
/-- the handlers of a method, by how it is run -/
def cHnd (mode : Nat) (c : Code) : Prop := match hnd mode with
  | some (a, b, t) => c.exceptionTable.toList = [{ startPc := a, endPc := b, handlerPc := t, catchType := 138 }]
  | none => c.exceptionTable.toList = []
/-- what stays all through a method -/
def cFix (D : va_G) (ac : Nat → ClassId) (A : Nat → Prop) (zs : Nat → Nat) (p : Program) (s : State) (m : MethodId) (args : Array Value) (meth : Method) (c : Code) (nL : Nat) (k : CK) : Prop :=
  p.tables.exec = Jvm.exec ∧ c.code = k.1 ∧ meth.sig.returnType = k.2.1 ∧ meth.locks = false ∧ c.maxLocals = nL ∧ s.vm.findClass (oN k.2.2.1) = some m.cls ∧ (k.2.2.2 = 9 → meth.name = "<init>") ∧ cHnd k.2.2.2 c ∧ (hnd k.2.2.2 = none ∨ k.2.2.1 = 0) ∧ (∀ w ∈ lw_all, w.before args s = true) ∧ NW s ∧ va_K D cCl (cTys ac) s ∧ ZW zs A s s.heap
theorem Z0.go {zs : Nat → Nat} {A : Nat → Prop} {s U : State} {H : Heap} (h : Z0 zs A s s.heap) (hW : s.WarmedH U.vm) (hz : s.heap.size ≤ H.size) (hq : ∀ q : Nat, q < s.heap.size → ¬ A q → H[q]? = s.heap[q]?) : Z0 zs A U H := by
  obtain ⟨s0, a0, h1, h2, h3, h4, h5, h6⟩ := h
  exact ⟨s0, a0, h1, h2, State.WarmedH.trans h3 hW, Nat.le_trans h4 hz, fun q h => ⟨(h5 q h).1, by rw [hq q (Nat.lt_of_lt_of_le h h4) (h5 q h).1]; exact (h5 q h).2⟩, h6⟩
theorem ZW.go {zs : Nat → Nat} {A : Nat → Prop} {s U : State} {H : Heap} {locs : List Loc} (h : ZW zs A s s.heap) (hW : s.WarmedH U.vm) (hS : va_S A s.heap H locs) (hU : U.heap = H) : ZW zs A U U.heap := by
  obtain ⟨z1, z2, z3, z4⟩ := h
  rw [hU]
  exact ⟨va_Z.moved hW.alike (va_Z.kept z1 hS.2.1), va_Z.moved hW.alike (va_Z.kept z2 hS.2.1), fun i idx tx hs => (z3 i idx tx hs).warm hW, z4.go hW hS.1 hS.2.1⟩
theorem cPc_blind {D : va_G} {ac : Nat → ClassId} {A : Nat → Prop} {zs : Nat → Nat} {As : List Value} {σ : CM} : FrameBlind (cPc D ac A zs As σ) := by
  intro a U g mk q
  obtain ⟨q0, qP, qK, qN, z1, z2, z3, z4⟩ := q
  exact ⟨q0, qP, va_K.moved (u := U) (U := U.calling g mk a) (Vm.Alike.refl U.vm) qK, NW.same (s := U) (U := U.calling g mk a) rfl qN, va_Z.moved (u := U) (U := U.calling g mk a) (Vm.Alike.refl U.vm) z1, va_Z.moved (u := U) (U := U.calling g mk a) (Vm.Alike.refl U.vm) z2, fun i idx tx hs => vk_R.same (u := U) rfl (z3 i idx tx hs), z4⟩
section
variable {zs : Nat → Nat} {J : CJ} {k : CK} {pc : Nat} {ls : LsT} {st : List Value} {σ : CM} {g : CF} {r : CR}
theorem cinv_r {idx tag : Nat} (h : cinv J k pc ls st σ idx tag = some (.inl r)) : False := by
  unfold cinv at h
  split at h
  · split at h
    · obtain ⟨_, _, h⟩ := Option.bind_eq_some_iff.mp h
      cases h
    · cases h
  · obtain ⟨_, _, _, _, _, _, _, _, _, _, _, _, _, _, _, hz⟩ := ccall_inv h
    cases hz
theorem cinv_n {idx tag : Nat} (h : cinv J k pc ls st σ idx tag = some (.inr (.inl g))) : g.2.1 = none := by
  unfold cinv at h
  split at h
  · split at h
    · obtain ⟨_, _, h⟩ := Option.bind_eq_some_iff.mp h
      cases h
      rfl
    · cases h
  · obtain ⟨_, _, _, _, _, _, _, _, _, _, _, _, _, _, _, hz⟩ := ccall_inv h
    cases hz
theorem cinv_c {idx tag : Nat} {kf : CR → CF} (h : cinv J k pc ls st σ idx tag = some (.inr (.inr (g, kf)))) : ccall k pc ls st σ idx tag = some (.inr (.inr (g, kf))) := by
  unfold cinv at h
  split at h
  · split at h
    · obtain ⟨_, _, h⟩ := Option.bind_eq_some_iff.mp h
      cases h
    · cases h
  · exact h
/-- a step within a method that throws: athrow -/
theorem cstep_ath {x : Nat} (h : cstep zs J (k, none, pc, ls, st, σ) = some (.inr (.inl g))) (hg : g.2.1 = some x) : decode k.1 pc = .ok (.athrow, 1) ∧ (∃ rest, st = .ref x :: rest) ∧ g = (k, some x, pc, ls, [], σ) := by
  unfold cstep at h
  dsimp only at h
  split at h
  · cases h
  · rename_i i len hd
    split at h
    all_goals first
      | (obtain ⟨rfl, h9⟩ := iflen h; clear h; have h := h9; clear h9)
      | skip
    · exfalso; unfold cget at h; repeat' split at h
      all_goals (cases h; try cases hg)
    · exfalso; unfold cput at h; repeat' split at h
      all_goals (cases h; try cases hg)
    iterate 4
      · exfalso; unfold cald at h; repeat' split at h
        all_goals (cases h; try cases hg)
    iterate 4
      · exfalso; unfold cast_ at h; repeat' split at h
        all_goals (cases h; try cases hg)
    · exfalso; unfold clen at h; repeat' split at h
      all_goals (cases h; try cases hg)
    · exfalso; unfold cnew at h; repeat' split at h
      all_goals (cases h; try cases hg)
    · exfalso; unfold cnewa at h
      split at h
      · split at h
        · split at h
          · cases h; cases hg
          · cases h
        · cases h
      · cases h
    · exfalso; unfold canew at h; repeat' split at h
      all_goals (cases h; try cases hg)
    · exfalso
      split at h
      · unfold cmul at h; repeat' split at h
        all_goals (cases h; try cases hg)
      · cases h
    · exfalso; unfold ccast at h; repeat' split at h
      all_goals (cases h; try cases hg)
    · exfalso; unfold cstat at h; repeat' split at h
      all_goals (cases h; try cases hg)
    · exfalso; unfold cldc at h; repeat' split at h
      all_goals (cases h; try cases hg)
    · exfalso; unfold cldc at h; repeat' split at h
      all_goals (cases h; try cases hg)
    · exfalso
      split at h
      · cases h; cases hg
      · cases h
    iterate 3
      · exfalso
        rw [cinv_n h] at hg
        cases hg
    · exfalso
      obtain ⟨_, _, h⟩ := Option.map_eq_some_iff.mp h
      cases h
    · exfalso
      split at h
      · cases h
      · cases h
    · exfalso
      obtain ⟨_, _, h⟩ := Option.map_eq_some_iff.mp h
      cases h
    · exfalso
      split at h
      · cases h
      · cases h
    · split at h
      · cases h
        cases hg
        exact ⟨hd, ⟨_, rfl⟩, rfl⟩
      · cases h
    · exfalso
      obtain ⟨_, _, h⟩ := Option.map_eq_some_iff.mp h
      cases h
      cases hg
/-- a call -/
theorem cstep_call {kf : CR → CF} (h : cstep zs J (k, none, pc, ls, st, σ) = some (.inr (.inr (g, kf)))) : ∃ tag idx, decode k.1 pc = .ok (insO tag idx, 3) ∧ ccall k pc ls st σ idx tag = some (.inr (.inr (g, kf))) := by
  unfold cstep at h
  dsimp only at h
  split at h
  · cases h
  · rename_i i len hd
    split at h
    all_goals first
      | (obtain ⟨rfl, h9⟩ := iflen h; clear h; have h := h9; clear h9)
      | skip
    · exfalso; unfold cget at h; repeat' split at h
      all_goals cases h
    · exfalso; unfold cput at h; repeat' split at h
      all_goals cases h
    iterate 4
      · exfalso; unfold cald at h; repeat' split at h
        all_goals cases h
    iterate 4
      · exfalso; unfold cast_ at h; repeat' split at h
        all_goals cases h
    · exfalso; unfold clen at h; repeat' split at h
      all_goals cases h
    · exfalso; unfold cnew at h; repeat' split at h
      all_goals cases h
    · exfalso; unfold cnewa at h
      split at h
      · split at h
        · split at h
          · cases h
          · cases h
        · cases h
      · cases h
    · exfalso; unfold canew at h; repeat' split at h
      all_goals cases h
    · exfalso
      split at h
      · unfold cmul at h; repeat' split at h
        all_goals cases h
      · cases h
    · exfalso; unfold ccast at h; repeat' split at h
      all_goals cases h
    · exfalso; unfold cstat at h; repeat' split at h
      all_goals cases h
    · exfalso; unfold cldc at h; repeat' split at h
      all_goals cases h
    · exfalso; unfold cldc at h; repeat' split at h
      all_goals cases h
    · exfalso
      split at h
      · cases h
      · cases h
    · exact ⟨0, _, hd, cinv_c h⟩
    · exact ⟨1, _, hd, cinv_c h⟩
    · exact ⟨2, _, hd, cinv_c h⟩
    · exfalso
      obtain ⟨_, _, h⟩ := Option.map_eq_some_iff.mp h
      cases h
    · exfalso
      split at h
      · cases h
      · cases h
    · exfalso
      obtain ⟨_, _, h⟩ := Option.map_eq_some_iff.mp h
      cases h
    · exfalso
      split at h
      · cases h
      · cases h
    · exfalso
      split at h
      · cases h
      · cases h
    · exfalso
      obtain ⟨_, _, h⟩ := Option.map_eq_some_iff.mp h
      cases h
theorem cthrow_c {x : Nat} {kf : CR → CF} (h : cthrow k x pc ls σ = some (.inr (.inr (g, kf)))) : False := by
  unfold cthrow at h; repeat' split at h
  all_goals cases h
end
section
variable {l : Launch} {D : va_G} {ac : Nat → ClassId} {A : Nat → Prop} {zs : Nat → Nat} {J : CJ}
variable {p : Program} {e : Env} {d nc ns : Nat} {s : State} {m : MethodId} {args : Array Value} {below : List Frame} {meth : Method} {c : Code} {nL : Nat} {H : Heap} {locs : List Loc} {cells slots : Nat} {LS : Array Slot} {k : CK} {pc : Nat} {ls : LsT} {st : List Value} {σ : CM} {r : CR} {R : Room}
/-- a return -/
theorem c_ret (hs : cstep zs J (k, none, pc, ls, st, σ) = some (.inl r)) (hF : cFix D ac A zs p s m args meth c nL k) (hP : HP D ac A σ H) (hS : va_S A s.heap H locs) : r.2 = σ ∧ W p l e R s m args below meth c H locs cells slots (cEnd D ac A below r args s cells slots) (F0 m pc LS st) := by
  obtain ⟨hx, hb, hr, hlocks, -⟩ := hF
  have h := hs
  unfold cstep at h
  dsimp only at h
  split at h
  · cases h
  · rename_i i len hd
    split at h
    all_goals first
      | (obtain ⟨rfl, h9⟩ := iflen h; clear h; have h := h9; clear h9)
      | skip
    · exfalso; unfold cget at h; repeat' split at h
      all_goals cases h
    · exfalso; unfold cput at h; repeat' split at h
      all_goals cases h
    iterate 4
      · exfalso; unfold cald at h; repeat' split at h
        all_goals cases h
    iterate 4
      · exfalso; unfold cast_ at h; repeat' split at h
        all_goals cases h
    · exfalso; unfold clen at h; repeat' split at h
      all_goals cases h
    · exfalso; unfold cnew at h; repeat' split at h
      all_goals cases h
    · exfalso; unfold cnewa at h
      split at h
      · split at h
        · split at h
          · cases h
          · cases h
        · cases h
      · cases h
    · exfalso; unfold canew at h; repeat' split at h
      all_goals cases h
    · exfalso
      split at h
      · unfold cmul at h; repeat' split at h
        all_goals cases h
      · cases h
    · exfalso; unfold ccast at h; repeat' split at h
      all_goals cases h
    · exfalso; unfold cstat at h; repeat' split at h
      all_goals cases h
    · exfalso; unfold cldc at h; repeat' split at h
      all_goals cases h
    · exfalso; unfold cldc at h; repeat' split at h
      all_goals cases h
    · exfalso
      split at h
      · cases h
      · cases h
    iterate 3
      · exact (cinv_r h).elim
    · obtain ⟨v, hv, hg⟩ := Option.map_eq_some_iff.mp h
      cases hg
      refine ⟨rfl, ?_⟩
      unfold cret at hv
      split at hv
      · rename_i hrt
        cases hv
        exact W.iret hx hb (hr.trans hrt) (fun t ht hW => ⟨rfl, by rw [ht]; exact hP, hS.F ht⟩) hS.2.2 hd hlocks
      · rename_i hrt
        split at hv
        · rename_i h01
          cases hv
          exact W.zret hx hb (hr.trans hrt) (nar_bool h01).1 (fun t ht hW => ⟨rfl, by rw [ht]; exact hP, hS.F ht⟩) hS.2.2 hd hlocks
        · cases hv
      · cases hv
    · split at h
      · rename_i hrt
        cases h
        exact ⟨rfl, W.lret hx hb (hr.trans hrt) (fun t ht hW => ⟨rfl, by rw [ht]; exact hP, hS.F ht⟩) hS.2.2 hd hlocks⟩
      · cases h
    · obtain ⟨v, hv, hg⟩ := Option.map_eq_some_iff.mp h
      cases hg
      refine ⟨rfl, ?_⟩
      unfold creta at hv
      split at hv
      · rename_i hrt
        cases hv
        exact W.aret hx hb (hr.trans hrt) (Or.inl ⟨_, rfl⟩) (Or.inr ⟨_, rfl⟩) (fun t ht hW => ⟨rfl, by rw [ht]; exact hP, hS.F ht⟩) hS.2.2 hd hlocks
      · rename_i hrt
        cases hv
        exact W.aret hx hb (hr.trans hrt) (Or.inl ⟨_, rfl⟩) (Or.inl rfl) (fun t ht hW => ⟨rfl, by rw [ht]; exact hP, hS.F ht⟩) hS.2.2 hd hlocks
      · rename_i hrt
        cases hv
        exact W.aret hx hb (hr.trans hrt) (Or.inr ⟨_, rfl⟩) (Or.inr ⟨_, rfl⟩) (fun t ht hW => ⟨rfl, by rw [ht]; exact hP, hS.F ht⟩) hS.2.2 hd hlocks
      · rename_i hrt
        cases hv
        exact W.aret hx hb (hr.trans hrt) (Or.inr ⟨_, rfl⟩) (Or.inl rfl) (fun t ht hW => ⟨rfl, by rw [ht]; exact hP, hS.F ht⟩) hS.2.2 hd hlocks
      · cases hv
    · split at h
      · rename_i hrt
        cases h
        exact ⟨rfl, W.vret hx hb (hr.trans hrt) (fun t ht hW => ⟨rfl, by rw [ht]; exact hP, hS.F ht⟩) hS.2.2 hd hlocks⟩
      · cases h
    · exfalso
      split at h
      · cases h
      · cases h
    · exfalso
      obtain ⟨_, _, h⟩ := Option.map_eq_some_iff.mp h
      cases h
/-- an exception leaves -/
theorem c_out {x : Nat} {st' : List Value} (hs : cthrow k x pc ls σ = some (.inl r)) (hF : cFix D ac A zs p s m args meth c nL k) (hP : HP D ac A σ H) (hS : va_S A s.heap H locs) : r.2 = σ ∧ WT p l e R s m args below meth c H locs cells slots (cEnd D ac A below r args s cells slots) (F0 m pc LS st') x := by
  obtain ⟨-, -, -, hlocks, -, -, -, hH, -⟩ := hF
  unfold cthrow at hs
  split at hs
  · cases hs
  · unfold cHnd at hH
    split at hs
    · rename_i a b t hh
      rw [hh] at hH
      dsimp only at hH
      split at hs
      · split at hs
        · split at hs
          · cases hs
          · cases hs
        · cases hs
      · rename_i hr
        cases hs
        refine ⟨rfl, WT.leave (fun y hy => ?_) hlocks (fun t ht hW => ⟨rfl, by rw [ht]; exact hP, hS.F ht⟩) hS.2.2⟩
        rw [hH] at hy
        rw [List.mem_singleton.mp hy]
        simp only [covers, Bool.and_eq_false_iff, decide_eq_false_iff_not]
        by_cases h1 : a ≤ pc
        · exact Or.inr (fun z => hr ⟨h1, z⟩)
        · exact Or.inl h1
    · rename_i hh
      rw [hh] at hH
      dsimp only at hH
      cases hs
      refine ⟨rfl, WT.leave (fun y hy => ?_) hlocks (fun t ht hW => ⟨rfl, by rw [ht]; exact hP, hS.F ht⟩) hS.2.2⟩
      rw [hH] at hy
      cases hy
theorem q_wrong : Cond.classLink "KnowLocks" 138 "KnowLocks$Wrong" ∈ lw_all := (lw_g (lw_at lw_m3 136 rfl) rfl)
/-- an exception is caught -/
theorem c_catch {x : Nat} {st' : List Value} {g : CF} {Q : State → Prop} (hs : cthrow k x pc ls σ = some (.inr (.inl g))) (hF : cFix D ac A zs p s m args meth c nL k) (hP : HP D ac A σ H) : g.1 = k ∧ g.2.1 = none ∧ g.2.2.2.1 = ls ∧ fM g = σ ∧ (W p l e R s m args below meth c H locs cells slots Q (F0 m g.2.2.1 LS g.2.2.2.2.1) → WT p l e R s m args below meth c H locs cells slots Q (F0 m pc LS st') x) := by
  obtain ⟨-, -, -, -, -, hown, -, hH, hH0, hts, -, hK, -⟩ := hF
  unfold cthrow at hs
  split at hs
  · cases hs
  · unfold cHnd at hH
    split at hs
    · rename_i a b t hh
      rw [hh] at hH hH0
      dsimp only at hH
      split at hs
      · rename_i hr
        split at hs
        · rename_i ci fs hg
          split at hs
          · rename_i hci
            subst hci
            cases hs
            refine ⟨rfl, rfl, rfl, rfl, fun kk => ?_⟩
            have ho : k.2.2.1 = 0 := by
              rcases hH0 with h | h
              · cases h
              · exact h
            rw [ho] at hown
            obtain ⟨cellB, h1, h2, h3⟩ := va_recv hK (hP.one hg) (ci := 35) (q0 := 0) (q := cCl.getD 35 ("", (fun _ => ("", "", "", false)), 0)) rfl rfl
            obtain ⟨ks, hks⟩ := Vm.classAt_of_findClass h3
            exact WT.catch hown (hts _ q_wrong) hH hr (by decide) h1 (fun z hz => VmData.ne_statics_of h2 z hz) hks h3 (Vm.assignable_self _ _) kk
          · cases hs
        · cases hs
      · cases hs
    · cases hs
end
