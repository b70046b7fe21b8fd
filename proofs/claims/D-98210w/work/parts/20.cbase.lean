/-! THE COMPONENT: words that ride in no list, and calls of every kind in one form -/
def isNW (w : Cond) : Bool := match w with
  | .methodLinkNest .. => true
  | .fieldLinkNest .. => true
  | .declares _ => true
  | .castable .. => true
  | .arrayOver (.object _) => true
  | _ => false
def nwl : List Cond := lw_tbl.filter isNW
/-- the class of int[][], its component's -/
def NA (U : State) : Prop := ∃ (comp c : ClassId) (k : Class), U.vm.findClass "[I" = some comp ∧ U.vm.classes[c]? = some k ∧ k.kind = .array comp (.array .int) ∧ U.vm.findClass "[[I" = some c
theorem NA.moved {u U : State} (hvm : u.vm.Alike U.vm) (h : NA u) : NA U := by
  obtain ⟨comp, c, k, h1, h2, h3, h4⟩ := h
  obtain ⟨k', hk', he⟩ := hvm.2.2 _ _ h2
  exact ⟨comp, c, k', by rw [hvm.findClass]; exact h1, hk', by rw [he]; exact h3, by rw [hvm.findClass]; exact h4⟩
theorem NA.of {args : Array Value} {s : State} (h : (Cond.arrayOver (.array .int)).before args s = true) : NA s := by
  unfold Cond.before at h
  simp only [Cond.holds, Cond.value, beq_iff_eq] at h
  cases hc : s.vm.findClass (FieldType.array .int).toString with
  | none => simp [hc] at h
  | some comp =>
    simp only [hc, Option.bind_some, Option.bind_eq_some_iff, Option.map_eq_some_iff] at h
    obtain ⟨c, hi, k, hk, hb⟩ := h
    obtain ⟨hlt, hp, -⟩ := Array.findIdx?_eq_some_iff_getElem.mp hi
    have hkk : s.vm.classes[c] = k := (Array.getElem?_eq_some_iff.mp hk).2
    rw [hkk] at hp
    cases hkind : k.kind with
    | array component ty =>
      rw [hkind] at hb hp
      simp at hb hp
      exact ⟨comp, c, k, hc, hk, by rw [hkind, hp, hb.1], hb.2⟩
    | _ => rw [hkind] at hb; simp at hb
def NW (U : State) : Prop := (∀ w ∈ nwl, va_Nw w U) ∧ NA U
theorem nw_mem {w : Cond} (h : w ∈ lw_tbl) (hf : isNW w = true) : w ∈ nwl := List.mem_filter.mpr ⟨h, hf⟩
theorem nw_over : Cond.arrayOver (.array .int) ∈ lw_tbl := (lw_at lw_m1 175 rfl)
theorem NW.of {A : Array Value} {U : State} (h : ∀ w ∈ lw_tbl, w.before A U = true) : NW U := by
  refine ⟨?_, NA.of (h _ nw_over)⟩
  intro w hw
  obtain ⟨hm, hf⟩ := List.mem_filter.mp hw
  have h1 := h w hm
  cases w with
  | arrayOver t =>
    cases t with
    | object C => exact va_AO.of h1
    | _ => simp [isNW] at hf
  | methodLinkNest a i x b => exact va_Nw.of rfl h1
  | fieldLinkNest a i b n d g => exact va_Nw.of rfl h1
  | declares x => exact va_Nw.of rfl h1
  | castable a b => exact va_Nw.of rfl h1
  | _ => simp [isNW] at hf
theorem NW.warm {s U : State} (hW : s.WarmedH U.vm) (h : NW s) : NW U := by
  refine ⟨?_, h.2.moved hW.alike⟩
  intro w hw
  have hz := h.1 w hw
  obtain ⟨-, hf⟩ := List.mem_filter.mp hw
  cases w with
  | methodLinkNest a i x b => exact va_Nw.warmM hW hz
  | fieldLinkNest a i b n d g => exact va_Nw.warmF hW hz
  | declares x => exact va_Nw.warmD hW hz
  | castable a b => exact va_Nw.warmC hW hz
  | arrayOver t =>
    cases t with
    | object C => exact va_AO.moved hW.alike hz
    | _ => simp [isNW] at hf
  | _ => simp [isNW] at hf
theorem NW.same {s U : State} (hv : s.vm = U.vm) (h : NW s) : NW U := by
  refine ⟨?_, h.2.moved (by rw [hv]; exact Vm.Alike.refl _)⟩
  intro w hw
  have hz := h.1 w hw
  obtain ⟨-, hf⟩ := List.mem_filter.mp hw
  cases w with
  | arrayOver t =>
    cases t with
    | object C => exact va_AO.moved (u := s) (by rw [hv]; exact Vm.Alike.refl _) hz
    | _ => simp [isNW] at hf
  | methodLinkNest a i x b => exact va_Nw.same rfl hv hz
  | fieldLinkNest a i b n d g => exact va_Nw.same rfl hv hz
  | declares x => exact va_Nw.same rfl hv hz
  | castable a b => exact va_Nw.same rfl hv hz
  | _ => simp [isNW] at hf
/-- a call of y through the instruction ins of a class own: As are all its arguments, the receiver first -/
def COK (ins : Instr) (own : String) (inst : Bool) (C : Option String) (y : MethodName) (bytes : ByteArray) (rt : Option FieldType) (nL n : Nat) : Prop :=
  ∀ (p : Program) (l : Launch) (e : Env) (R : Room) (s : State) (m : MethodId) (args : Array Value) (below : List Frame) (meth : Method) (c : Code) (cc : ByteArray) (nL0 : Nat) (H : Heap) (locs : List Loc) (cells slots : Nat) (rm : Room) (Pc : Array Value → State → Prop) (Qc : Array Value → State → Outcome → State → Prop) (mc ms : Nat) (free : Addr → Prop) (As rest : List Value) (pc : Nat) (LS : Array Slot),
  CallFix p m c cc nL0 s args lw_all own → NW s → Met l y (ws_ y bytes nL rt) rm Pc Qc mc ms free → rm.cells = mc → rm.slots = ms → rm.frames + 1 ≤ R.frames → 8 + (nL + 11) + rm.locals ≤ R.locals →
  PreS s H Pc As → (inst = true → ∃ b As', As = .ref b :: As' ∧ ∀ CC, C = some CC → ∃ cellB : Cell, H[b]? = some cellB ∧ cellB.vm.isStatics = false ∧ s.vm.findClass CC = some cellB.cls) →
  As.length = n → LS.size = nL0 → catS rest ≤ 8 → decode cc pc = .ok (ins, 3) → cells + mc ≤ R.cells → slots + ms ≤ R.slots →
  va_Run p l e R s m args below meth c H locs cells slots mc ms (F0 m pc LS (As.reverse ++ rest)) rest (Qc As.toArray) free
theorem revc {b : Value} {As rest : List Value} : (b :: As).reverse ++ rest = As.reverse ++ b :: rest := by rw [List.reverse_cons, List.append_assoc]; rfl
def okD (y : MethodName) (n : Nat) : Prop := y.cls ≠ "java/lang/invoke/MethodHandle" ∧ y.cls ≠ "java/lang/invoke/VarHandle" ∧ (parseMethodDescriptor y.desc).map (fun d => d.parameters.length) = some n
section
variable {own : String} {idx : Nat} {C : String} {x y : MethodName} {b : ByteArray} {L : Nat} {r : Option FieldType} {n : Nat}
theorem COK.V (h1 : Cond.methodLink own idx y ∈ lw_all) (h2 : Cond.instanceMethod y ∈ lw_all) (h3 : Cond.selects C y y ∈ lw_all) (h4 : Cond.initialized C ∈ lw_all) (h5 : Cond.code y b L r ∈ lw_all) (hC : y.cls = C) (hd : okD y n) : COK (.invokevirtual idx) own true (some C) y b r L (n + 1) := by
  intro p l e R s m args below meth c cc nL0 H locs cells slots rm Pc Qc mc ms free As rest pc LS S hN hM hrc hrs hf hlo hp hi hn hsz hcat hdg hc1 hc2
  obtain ⟨a, As', rfl, hr⟩ := hi rfl
  rw [revc]
  exact va_runV (As := As') (rest := rest) S hM (cwV n S.2.2.2.2 (lw_V h1 h2 h3 h4 h5) rfl hrc hrs ⟨hC, hd⟩ ⟨hf, hlo⟩) ⟨hp.1, hr C rfl, hp.2⟩ rfl (by simpa using hn) hsz rfl (lv_room hcat) hdg ⟨hc1, hc2⟩
theorem COK.S (h1 : Cond.methodLink own idx y ∈ lw_all) (h2 : Cond.static y ∈ lw_all) (h3 : Cond.initialized y.cls ∈ lw_all) (h4 : Cond.code y b L r ∈ lw_all) (hd : okD y n) : COK (.invokestatic idx) own false none y b r L n := by
  intro p l e R s m args below meth c cc nL0 H locs cells slots rm Pc Qc mc ms free As rest pc LS S hN hM hrc hrs hf hlo hp hi hn hsz hcat hdg hc1 hc2
  exact va_runS (As := As) (rest := rest) S hM (va_cwS n S.2.2.2.2 (lw_S h1 h2 h3 h4) rfl hrc hrs hd ⟨hf, hlo⟩) hp rfl hn hsz rfl (lv_room hcat) hdg ⟨hc1, hc2⟩
theorem COK.I (h1 : Cond.methodLink own idx y ∈ lw_all) (h2 : Cond.instanceMethod y ∈ lw_all) (h3 : Cond.initialized y.cls ∈ lw_all) (h4 : Cond.code y b L none ∈ lw_all) (hi1 : y.name = "<init>") (hd : okD y n) : COK (.invokespecial idx) own true none y b none L (n + 1) := by
  intro p l e R s m args below meth c cc nL0 H locs cells slots rm Pc Qc mc ms free As rest pc LS S hN hM hrc hrs hf hlo hp hi hn hsz hcat hdg hc1 hc2
  obtain ⟨a, As', rfl, hr⟩ := hi rfl
  rw [revc]
  have hts := S.2.2.2.2
  exact va_runI (As := As') (rest := rest) S hM (cwI n hts (lw_meth h4) rfl hrc hrs (hts _ h3) (hts _ h1) (hts _ h2) hi1 hd ⟨hf, hlo⟩) hp rfl (by simpa using hn) hsz rfl (lv_room hcat) hdg ⟨hc1, hc2⟩
theorem COK.U {owner : String} (h1 : Cond.methodLink own idx x ∈ lw_all) (h2 : Cond.sameMethod x.cls owner x.name x.desc ∈ lw_all) (h3 : Cond.selects C x y ∈ lw_all) (h4 : Cond.instanceMethod y ∈ lw_all) (h5 : Cond.initialized y.cls ∈ lw_all) (h6 : Cond.code y b L r ∈ lw_all) (hyx : y = ⟨owner, x.name, x.desc⟩) (hd : okD ⟨owner, x.name, x.desc⟩ n) : COK (.invokevirtual idx) own true (some C) y b r L (n + 1) := by
  intro p l e R s m args below meth c cc nL0 H locs cells slots rm Pc Qc mc ms free As rest pc LS S hN hM hrc hrs hf hlo hp hi hn hsz hcat hdg hc1 hc2
  obtain ⟨a, As', rfl, hr⟩ := hi rfl
  rw [revc]
  have hG : GoodIn lw_all (va_wsU own idx C owner x y (ws_ y b L r)) := by
    refine lw_app ?_ (lw_meth h6)
    intro w hw
    simp only [List.mem_cons, List.not_mem_nil, or_false] at hw
    rcases hw with e | e | e | e | e <;> rw [e] <;> assumption
  exact va_runU (As := As') (rest := rest) S hM (va_cwU n S.2.2.2.2 hG rfl hrc hrs hyx hd ⟨hf, hlo⟩) ⟨hp.1, hr C rfl, hp.2⟩ rfl (by simpa using hn) hsz rfl (lv_room hcat) hdg ⟨hc1, hc2⟩
theorem COK.O {owner : String} {b0 : ByteArray} {m0 : Nat} {r0 : Option FieldType} (h1 : Cond.methodLink own idx x ∈ lw_all) (h2 : Cond.sameMethod x.cls owner x.name x.desc ∈ lw_all) (h0 : Cond.instanceMethod ⟨owner, x.name, x.desc⟩ ∈ lw_all) (h3 : Cond.selects C x y ∈ lw_all) (h4 : Cond.instanceMethod y ∈ lw_all) (h5 : Cond.initialized y.cls ∈ lw_all) (h6 : Cond.code y b L r ∈ lw_all) (h7 : Cond.code ⟨owner, x.name, x.desc⟩ b0 m0 r0 ∈ lw_all) (hd : okD ⟨owner, x.name, x.desc⟩ n) : COK (.invokevirtual idx) own true (some C) y b r L (n + 1) := by
  intro p l e R s m args below meth c cc nL0 H locs cells slots rm Pc Qc mc ms free As rest pc LS S hN hM hrc hrs hf hlo hp hi hn hsz hcat hdg hc1 hc2
  obtain ⟨a, As', rfl, hr⟩ := hi rfl
  rw [revc]
  have hG : GoodIn lw_all (va_wsO own idx C owner x y (ws_ y b L r)) := by
    refine lw_app ?_ (lw_meth h6)
    intro w hw
    simp only [List.mem_cons, List.not_mem_nil, or_false] at hw
    rcases hw with e | e | e | e | e | e <;> rw [e] <;> assumption
  exact va_runU (As := As') (rest := rest) S hM (va_cwO n S.2.2.2.2 hG rfl hrc hrs h7 hd ⟨hf, hlo⟩) ⟨hp.1, hr C rfl, hp.2⟩ rfl (by simpa using hn) hsz rfl (lv_room hcat) hdg ⟨hc1, hc2⟩
theorem COK.A {owner : String} (h1 : Cond.methodLink own idx x ∈ lw_all) (h2 : Cond.sameMethod x.cls owner x.name x.desc ∈ lw_all) (h3 : Cond.selects C x y ∈ lw_all) (h4 : Cond.instanceMethod y ∈ lw_all) (h5 : Cond.initialized y.cls ∈ lw_all) (h6 : Cond.code y b L r ∈ lw_all) (h7 : Cond.declares ⟨owner, x.name, x.desc⟩ ∈ nwl) (hd : okD ⟨owner, x.name, x.desc⟩ n) : COK (.invokevirtual idx) own true (some C) y b r L (n + 1) := by
  intro p l e R s m args below meth c cc nL0 H locs cells slots rm Pc Qc mc ms free As rest pc LS S hN hM hrc hrs hf hlo hp hi hn hsz hcat hdg hc1 hc2
  obtain ⟨a, As', rfl, hr⟩ := hi rfl
  rw [revc]
  have hG : GoodIn lw_all (va_wsU own idx C owner x y (ws_ y b L r)) := by
    refine lw_app ?_ (lw_meth h6)
    intro w hw
    simp only [List.mem_cons, List.not_mem_nil, or_false] at hw
    rcases hw with e | e | e | e | e <;> rw [e] <;> assumption
  exact va_runU (As := As') (rest := rest) S hM (va_cwA n S.2.2.2.2 hG rfl hrc hrs (hN.1 _ h7) hd ⟨hf, hlo⟩) ⟨hp.1, hr C rfl, hp.2⟩ rfl (by simpa using hn) hsz rfl (lv_room hcat) hdg ⟨hc1, hc2⟩
theorem COK.VN {host : String} (h1 : Cond.methodLinkNest own idx y host ∈ nwl) (h2 : Cond.instanceMethod y ∈ lw_all) (h3 : Cond.selects C y y ∈ lw_all) (h4 : Cond.initialized y.cls ∈ lw_all) (h5 : Cond.code y b L r ∈ lw_all) (hd : okD y n) : COK (.invokevirtual idx) own true (some C) y b r L (n + 1) := by
  intro p l e R s m args below meth c cc nL0 H locs cells slots rm Pc Qc mc ms free As rest pc LS S hN hM hrc hrs hf hlo hp hi hn hsz hcat hdg hc1 hc2
  obtain ⟨a, As', rfl, hr⟩ := hi rfl
  rw [revc]
  have hts := S.2.2.2.2
  exact va_runVN (As := As') (rest := rest) S hM ⟨va_cnB n hts (lw_meth h5) rfl hrc hrs (hN.1 _ h1) (hts _ h4) hd ⟨hf, hlo⟩, hts _ h2, hts _ h3⟩ ⟨hp.1, hr C rfl, hp.2⟩ rfl (by simpa using hn) hsz rfl (lv_room hcat) hdg ⟨hc1, hc2⟩
theorem COK.SN {host : String} (h1 : Cond.methodLinkNest own idx y host ∈ nwl) (h2 : Cond.static y ∈ lw_all) (h4 : Cond.initialized y.cls ∈ lw_all) (h5 : Cond.code y b L r ∈ lw_all) (hd : okD y n) : COK (.invokestatic idx) own false none y b r L n := by
  intro p l e R s m args below meth c cc nL0 H locs cells slots rm Pc Qc mc ms free As rest pc LS S hN hM hrc hrs hf hlo hp hi hn hsz hcat hdg hc1 hc2
  have hts := S.2.2.2.2
  exact va_runSN (As := As) (rest := rest) S hM ⟨va_cnB n hts (lw_meth h5) rfl hrc hrs (hN.1 _ h1) (hts _ h4) hd ⟨hf, hlo⟩, hts _ h2, trivial⟩ hp rfl hn hsz rfl (lv_room hcat) hdg ⟨hc1, hc2⟩
theorem COK.IN {host : String} (h1 : Cond.methodLinkNest own idx y host ∈ nwl) (h2 : Cond.instanceMethod y ∈ lw_all) (h4 : Cond.initialized y.cls ∈ lw_all) (h5 : Cond.code y b L none ∈ lw_all) (hi1 : y.name = "<init>") (hd : okD y n) : COK (.invokespecial idx) own true none y b none L (n + 1) := by
  intro p l e R s m args below meth c cc nL0 H locs cells slots rm Pc Qc mc ms free As rest pc LS S hN hM hrc hrs hf hlo hp hi hn hsz hcat hdg hc1 hc2
  obtain ⟨a, As', rfl, hr⟩ := hi rfl
  rw [revc]
  have hts := S.2.2.2.2
  exact va_runIN (As := As') (rest := rest) S hM ⟨va_cnB n hts (lw_meth h5) rfl hrc hrs (hN.1 _ h1) (hts _ h4) hd ⟨hf, hlo⟩, hi1, hts _ h2⟩ hp rfl (by simpa using hn) hsz rfl (lv_room hcat) hdg ⟨hc1, hc2⟩
end
