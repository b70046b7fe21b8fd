/-! OWN ROW for new arrays of arrays of ints -/
/-- the outer array's contents when i inner ones stand; the state then -/
def muV (h0 i : Nat) : Nat → Value := fun j => if j < i then .ref (h0 + 1 + j) else .null
def muS (T : State) (cA cI : ClassId) (N M : Nat) : Nat → State
  | 0 => T.pushCell (arrV cA N (muV T.heap.size 0))
  | i + 1 => ((muS T cA cI N M i).pushCell (arrV cI M (fun _ => .int 0))).setCell T.heap.size (arrV cA N (muV T.heap.size (i + 1)))
theorem muV_next (h0 i : Nat) : updV (muV h0 i) i (.ref (h0 + 1 + i)) = muV h0 (i + 1) := by
  funext j
  unfold updV muV
  by_cases h : j = i
  · subst h; simp
  · by_cases h2 : j < i
    · rw [if_neg h, if_pos h2, if_pos (by omega)]
    · rw [if_neg h, if_neg h2, if_neg (by omega)]
theorem muS_facts (T : State) (cA cI : ClassId) (N M : Nat) : ∀ i, (muS T cA cI N M i).heap.size = T.heap.size + 1 + i ∧ (muS T cA cI N M i).heap[T.heap.size]? = some (arrV cA N (muV T.heap.size i)) ∧ (muS T cA cI N M i).vm = T.vm ∧ (muS T cA cI N M i).slotsUsed = T.slotsUsed + N + i * M
  | 0 => ⟨by simp [muS], by simp [muS], rfl, by simp [muS, arrV_size]⟩
  | i + 1 => by
    obtain ⟨a, b, d, u⟩ := muS_facts T cA cI N M i
    have hlt : T.heap.size < (muS T cA cI N M i).heap.size := by omega
    have hb' : ((muS T cA cI N M i).pushCell (arrV cI M (fun _ => .int 0))).heap[T.heap.size]? = some (arrV cA N (muV T.heap.size i)) := by rw [State.heap_pushCell_of_lt (h := hlt)]; exact b
    refine ⟨?_, State.heap_setCell_self hb', by simp [muS, d], ?_⟩
    · simp [muS, State.setCell, a]; omega
    · simp [muS, u, arrV_size, Nat.succ_mul]; omega
theorem muS_top (T : State) (f : JFrame) (cA cI : ClassId) (N M : Nat) : ∀ i, muS (T.setTop f) cA cI N M i = (muS T cA cI N M i).setTop f
  | 0 => rfl
  | i + 1 => by simp only [muS, muS_top T f cA cI N M i, State.heap_setTop, State.pushCell_setTop, State.setCell_setTop]
theorem muS_old (T : State) (cA cI : ClassId) (N M : Nat) {a : Addr} (ha : a < T.heap.size) : ∀ i, (muS T cA cI N M i).heap[a]? = T.heap[a]?
  | 0 => State.heap_pushCell_of_lt _ _ ha
  | i + 1 => by
    have f1 := (muS_facts T cA cI N M i).1
    have hlt : a < (muS T cA cI N M i).heap.size := Nat.lt_of_lt_of_le ha (by rw [f1]; omega)
    show (((muS T cA cI N M i).pushCell _).setCell T.heap.size _).heap[a]? = _
    rw [State.heap_setCell_other (Nat.ne_of_gt ha), State.heap_pushCell_of_lt (h := hlt)]
    exact muS_old T cA cI N M ha i
theorem muS_in (T : State) (cA cI : ClassId) (N M : Nat) : ∀ i j, j < i → (muS T cA cI N M i).heap[T.heap.size + 1 + j]? = some (arrV cI M (fun _ => .int 0))
  | 0, _, h => absurd h (Nat.not_lt_zero _)
  | i + 1, j, h => by
    have f1 := (muS_facts T cA cI N M i).1
    show (((muS T cA cI N M i).pushCell _).setCell T.heap.size _).heap[T.heap.size + 1 + j]? = _
    rw [State.heap_setCell_other (show T.heap.size ≠ T.heap.size + 1 + j by omega)]
    by_cases hj : j = i
    · subst hj
      rw [← f1]
      exact State.heap_pushCell_size _ _
    · have hlt : T.heap.size + 1 + j < (muS T cA cI N M i).heap.size := by rw [f1]; omega
      rw [State.heap_pushCell_of_lt (h := hlt)]
      exact muS_in T cA cI N M i j (by omega)
section
variable {E : CtlPost} {e : Env} {d : Bool} {acts : List Action} {s : State}
theorem mu_new {c comp : ClassId} {k : Class} {type : FieldType} {len : Nat} {init : Value} (hk : s.vm.classes[c]? = some k) (hkind : k.kind = .array comp type) (hlimit : ¬ len > e.platform.arrayLengthLimit) (hheap : ¬ len * componentBytes type > e.platform.maxHeapBytes) (hfit : fits type init = true) (hdef : init.isDefault = true) {Q : Addr → Pre}
    (h1 : s.heap.size < e.platform.maxCells) (h2 : s.slotsUsed + len ≤ e.platform.maxSlots) (hq : Q s.heap.size d acts (s.pushCell (arrV c len (fun _ => init)))) : wp (Jvm.newArray c len init) Q E e d acts s := by
  have hfits : ∀ i v, (Array.replicate len init)[i]? = some v → s.fitsSlot c .none i v = true := by
    intro i v hv
    simp only [Array.getElem?_replicate] at hv
    split at hv
    · cases hv; simp [State.fitsSlot, State.slotType?, hk, hkind, hfit]
    · cases hv
  have hda : allocActs (Array.replicate len init) s.heap.size acts = acts := by
    have hall : ((Array.replicate len init).all (·.isDefault)) = true := by
      rw [Array.all_replicate]; split <;> simp [hdef]
    unfold allocActs; rw [if_pos hall]
  simp only [Jvm.newArray, Jvm.arrayFits, wp_bind', W.ask, W.ite, hlimit, if_false, wp_pure', W.theClass, hk, hkind, hheap, W.alloc, W.stop, Option.some.injEq, exists_eq_left', Array.size_replicate, hda]
  rw [if_neg (by omega), arrV_new]
  exact ⟨h1, h2, hfits, hq⟩
theorem mu_one {comp cc : ClassId} {kc : Class} {m : Int32} (hkc : s.vm.classes[comp]? = some kc) (hkindc : kc.kind = .array cc .int) (hm : ¬ m < 0) (hl2 : ¬ m.toNatClampNeg > e.platform.arrayLengthLimit) (hh2 : ¬ m.toNatClampNeg * 4 > e.platform.maxHeapBytes)
    (h1 : s.heap.size < e.platform.maxCells) (h2 : s.slotsUsed + m.toNatClampNeg ≤ e.platform.maxSlots) {Q : Addr → Pre} (hq : Q s.heap.size d acts (s.pushCell (arrV comp m.toNatClampNeg (fun _ => .int 0)))) : wp (multianewarray.make comp [m]) Q E e d acts s := by
  rw [multianewarray.make]
  simp only [wp_bind', W.ite, hm, if_false, wp_pure', W.theClass, hkc, hkindc, Option.some.injEq, exists_eq_left']
  exact mu_new hkc hkindc hl2 hh2 rfl rfl h1 h2 hq
theorem mu_two {c comp cc : ClassId} {k kc : Class} {n m : Int32} {N M : Nat} (hN : n.toNatClampNeg = N) (hM : m.toNatClampNeg = M) (hk : s.vm.classes[c]? = some k) (hkind : k.kind = .array comp (.array .int)) (hkc : s.vm.classes[comp]? = some kc) (hkindc : kc.kind = .array cc .int) (hn : ¬ n < 0) (hm : ¬ m < 0)
    (hl1 : ¬ N > e.platform.arrayLengthLimit) (hh1 : ¬ N * 4 > e.platform.maxHeapBytes) (hl2 : ¬ M > e.platform.arrayLengthLimit) (hh2 : ¬ M * 4 > e.platform.maxHeapBytes)
    (hc : s.heap.size + (1 + N) ≤ e.platform.maxCells) (hs : s.slotsUsed + (N + N * M) ≤ e.platform.maxSlots) {Q : Addr → Pre} (hq : ∀ d' acts', Q s.heap.size d' acts' (muS s c comp N M N)) : wp (multianewarray.make c [n, m]) Q E e d acts s := by
  subst hN hM
  have hfind : ([m].find? (· < 0)) = none := by simp [hm]
  rw [multianewarray.make]
  simp only [wp_bind', W.ite, hn, if_false, wp_pure', W.theClass, hk, hkind, Option.some.injEq, exists_eq_left']
  refine mu_new hk hkind hl1 hh1 rfl rfl (by omega) (by have := Nat.zero_le (n.toNatClampNeg * m.toNatClampNeg); omega) ?_
  simp only [hfind]
  rw [ite_self, wp_bind', Std.Legacy.Range.forIn_eq_forIn_range']
  have hsz : ([:n.toNatClampNeg] : Std.Legacy.Range).size = n.toNatClampNeg := by simp [Std.Legacy.Range.size]
  rw [hsz]
  have h0 : (fun _ => Value.null) = muV s.heap.size 0 := by funext j; simp [muV]
  show wp (forIn (List.range' 0 n.toNatClampNeg 1) PUnit.unit _) _ E e d acts _
  rw [h0]
  refine wp_forIn_inv (fun rest s' => ∃ i, i ≤ n.toNatClampNeg ∧ rest = List.range' i (n.toNatClampNeg - i) ∧ s' = muS s c comp n.toNatClampNeg m.toNatClampNeg i) _ _ ⟨0, Nat.zero_le _, rfl, rfl⟩ ?_ ?_
  · rintro x rest s' d' acts' Q' ⟨i, hi, hl, rfl⟩ hnext
    have hlt : i < n.toNatClampNeg := by
      rcases Nat.lt_or_ge i n.toNatClampNeg with h | h
      · exact h
      · rw [show n.toNatClampNeg - i = 0 from by omega] at hl; simp at hl
    rw [show n.toNatClampNeg - i = (n.toNatClampNeg - (i + 1)) + 1 from by omega, List.range'_succ] at hl
    obtain ⟨rfl, hrest⟩ := List.cons.inj hl
    obtain ⟨f1, f2, f3, f4⟩ := muS_facts s c comp n.toNatClampNeg m.toNatClampNeg x
    have hmul : x * m.toNatClampNeg + m.toNatClampNeg ≤ n.toNatClampNeg * m.toNatClampNeg := by
      have := Nat.mul_le_mul_right m.toNatClampNeg (show x + 1 ≤ n.toNatClampNeg from hlt)
      rw [Nat.succ_mul] at this; exact this
    simp only [wp_bind']
    refine mu_one (by rw [f3]; exact hkc) hkindc hm hl2 hh2 (by rw [f1]; omega) (by rw [f4]; omega) ?_
    have hlt0 : s.heap.size < (muS s c comp n.toNatClampNeg m.toNatClampNeg x).heap.size := by rw [f1]; omega
    simp only [wp_bind', W.writeLoc, wp_pure']
    refine ⟨arrV c n.toNatClampNeg (muV s.heap.size x), by rw [State.heap_pushCell_of_lt (h := hlt0)]; exact f2, (fun h => by cases h), (by rw [arrV_size]; exact hlt), ?_, hnext _ _ _ ⟨x + 1, hlt, hrest, ?_⟩⟩
    · show State.fitsSlot _ c .none x _ = true
      simp [State.fitsSlot, State.slotType?, f3, hk, hkind, fits]
    · rw [f1, arrV_store, muV_next]; rfl
  · rintro s' d' acts' ⟨i, hi, hl, rfl⟩
    have hiN : i = n.toNatClampNeg := by
      rcases Nat.lt_or_ge i n.toNatClampNeg with h | h
      · rw [show n.toNatClampNeg - i = (n.toNatClampNeg - (i + 1)) + 1 from by omega, List.range'_succ] at hl; cases hl
      · omega
    subst hiN
    simp only [wp_pure']
    exact hq _ _
end
section
variable {p : Program} {l : Launch} {e : Env} {R : Room} {s : State} {m : MethodId} {args : Array Value} {below : List Frame} {meth : Method} {c : Code} {T : State} {locs : List Loc} {cells slots : Nat}
theorem mu_stand (X : Stand p l e R s m args below meth c T locs cells slots) (cA cI : ClassId) (N M : Nat) : ∀ i, Stand p l e R s m args below meth c (muS T cA cI N M i) (locs ++ (List.range i).map fun j => ⟨T.heap.size, j⟩) (cells + 1 + i) (slots + N + i * M)
  | 0 => by
    have h := X.pushed (arrV cA N (muV T.heap.size 0))
    rw [arrV_size] at h
    simpa [muS] using h
  | i + 1 => by
    have Xi := mu_stand X cA cI N M i
    obtain ⟨f1, f2, f3, f4⟩ := muS_facts T cA cI N M i
    have hlt0 : T.heap.size < (muS T cA cI N M i).heap.size := by rw [f1]; omega
    have hcell : ((muS T cA cI N M i).pushCell (arrV cI M (fun _ => .int 0))).heap[T.heap.size]? = some (arrV cA N (muV T.heap.size i)) := by rw [State.heap_pushCell_of_lt (h := hlt0)]; exact f2
    have h := (Xi.pushed (arrV cI M (fun _ => .int 0))).stored hcell i (.ref (T.heap.size + 1 + i))
    rw [arrV_size, arrV_store, muV_next] at h
    have e2 : (locs ++ (List.range (i + 1)).map fun j => (⟨T.heap.size, j⟩ : Loc)) = (locs ++ (List.range i).map fun j => (⟨T.heap.size, j⟩ : Loc)) ++ [⟨T.heap.size, i⟩] := by simp [List.range_succ, List.append_assoc]
    have e3 : slots + N + (i + 1) * M = slots + N + i * M + M := by rw [Nat.succ_mul]; omega
    rw [e2, e3]
    exact h
end
section
variable {D : va_G} {ac : Nat → ClassId} {A : Nat → Prop}
variable {p : Program} {l : Launch} {e : Env} {R : Room} {s : State} {m : MethodId} {args : Array Value} {below : List Frame} {meth : Method} {c : Code} {H : Heap} {locs : List Loc} {cells slots : Nat} {Q : State → Prop} {cc : ByteArray} {pc : Nat} {LS : Array Slot} {rest : List Value} {σ : CM}
theorem cr_mul (hx : p.tables.exec = Jvm.exec) (hb : c.code = cc) (hts : ∀ w ∈ lw_all, w.before args s = true) (hN0 : NW s) {own : String} {idx : Nat} {n k : Int32} {N M : Nat} (hown : s.vm.findClass own = some m.cls) (hl : Cond.classLink own idx "[[I" ∈ lw_all) (harr : (Cond.arrayClass .int).before args s = true) (hK : va_K D cCl (cTys ac) s) (hP : HP D ac A σ H) (hS : va_S A s.heap H locs)
    (hn : ¬ n < 0) (hk : ¬ k < 0) (hN : n.toNatClampNeg = N) (hM : k.toNatClampNeg = M) (hN1 : N ≤ 100) (hM1 : M ≤ 100000) (h1 : cells + (1 + N) ≤ R.cells) (h2 : slots + (N + N * M) ≤ R.slots) (hdg : decode cc pc = .ok (.multianewarray idx 2, 4))
    (kk : ∀ (H1 : Heap) (locs1 : List Loc), HP D ac A (mC σ N M) H1 → va_S A s.heap H1 locs1 → W p l e R s m args below meth c H1 locs1 (cells + (1 + N)) (slots + (N + N * M)) Q (F0 m (pc + 4) LS (.ref σ.1 :: rest))) : W p l e R s m args below meth c H locs cells slots Q (F0 m pc LS (.int k :: .int n :: rest)) := by
  intro T hT X
  have hpl : e.platform.magicAccessors = ({} : Platform).magicAccessors := by rw [X.admits.platform]
  obtain ⟨comp, cA, kA, hcomp, hkA, hkindA, hnameA⟩ := hN0.2
  obtain ⟨comp', kC, cc', hcomp', hkC, hkindC⟩ := Cond.arrayClass_spec harr
  have ecomp : comp' = comp := Option.some.inj (hcomp'.symm.trans hcomp)
  subst ecomp
  obtain ⟨c0, hfc0, hcl⟩ := Cond.classLink_spec hown (hts _ hl) e.platform hpl
  cases hnameA.symm.trans hfc0
  have ea : ac 8 = cA := by
    have hR : va_RA s (ac 8) (kTy 8) := (hK.2 8 _ (cTys_at (by decide))).2
    exact Option.some.inj (Eq.trans (Eq.symm hR) hnameA)
  have ei : ac 0 = comp' := by
    have hR : va_RA s (ac 0) (kTy 0) := (hK.2 0 _ (cTys_at (by decide))).2
    exact Option.some.inj (Eq.trans (Eq.symm hR) hcomp)
  generalize hg0 : F0 m pc LS (.int k :: .int n :: rest) = g
  have hgm : g.method = m := by rw [← hg0]
  have hgs : g.stack = .int k :: .int n :: rest := by rw [← hg0]
  have hgd : decode c.code g.pc = .ok (.multianewarray idx 2, 4) := by rw [← hg0, hb]; exact hdg
  have hcl' : s.vm.ClassLinks e.platform g.method.cls idx cA := by rw [hgm]; exact hcl
  obtain ⟨hg₁, hwarm₁, hready₁⟩ := State.classEntry (e := e) X.warmed hcl'
  generalize T.vm.noted g.method.cls idx (.cls cA) = vm₁ at hg₁ hwarm₁ hready₁
  have hal : s.vm.Alike vm₁ := hwarm₁.alike
  obtain ⟨kA₁, hkA₁, heA⟩ := hal.2.2 _ _ hkA
  obtain ⟨kC₁, hkC₁, heC⟩ := hal.2.2 _ _ hkC
  have hkindA₁ : kA₁.kind = .array comp' (.array .int) := by rw [heA]; exact hkindA
  have hkindC₁ : kC₁.kind = .array cc' .int := by rw [heC]; exact hkindC
  have X₁ := X.noted hwarm₁
  obtain ⟨hr1, hr2⟩ := X.roomAbove h1 h2
  have XF := mu_stand X₁ cA comp' N M N
  obtain ⟨f1, f2, f3, f4⟩ := muS_facts (T.setVm vm₁) cA comp' N M N
  have hTz : (T.setVm vm₁).heap.size = H.size := by rw [← hT]; rfl
  have hTh : (T.setVm vm₁).heap = H := by rw [← hT]; rfl
  rw [hTz] at f1 f2
  have hsz : σ.1 = H.size := hP.1
  have hold : ∀ q : Nat, q < H.size → (muS (T.setVm vm₁) cA comp' N M N).heap[q]? = H[q]? := fun q hq => by
    have := muS_old (T.setVm vm₁) cA comp' N M (a := q) (by rw [hTz]; exact hq) N
    rw [this, hTh]
  have hP1 : HP D ac A (mC σ N M) (muS (T.setVm vm₁) cA comp' N M N).heap := by
    refine ⟨by rw [f1, ← hsz]; show σ.1 + (1 + N) = _; omega, fun b x hb => ?_, fun q hq => hP.2.2 q (Nat.le_trans (Nat.le_add_right _ _) hq)⟩
    have hb : (if b = σ.1 then some (.inr (8, N, .inr (.inr (.inr (.inr (fun j => if j < N then some (σ.1 + 1 + j) else none)))))) else if σ.1 < b ∧ b < σ.1 + (1 + N) then some (.inr (0, M, .inl (fun _ => 0))) else σ.2.2 b : Option Cl) = some x := hb
    split at hb
    · rename_i hbe
      cases hb
      subst hbe
      refine Or.inl ⟨?_, fun _ => hP.2.2 _ (Nat.le_refl _), fun z => (by cases z), trivial⟩
      show (muS (T.setVm vm₁) cA comp' N M N).heap[σ.1]? = some (vp_cell (ac 8) (N, _))
      rw [hsz, f2, ea, vp_cell_q]
      congr 2
      funext j
      unfold muV
      by_cases hj : j < N
      · simp only [hj, if_true]; rfl
      · simp only [hj, if_false]; rfl
    · split at hb
      · rename_i hbe
        cases hb
        refine Or.inl ⟨?_, fun _ => hP.2.2 _ (by omega), fun z => (by cases z), trivial⟩
        show (muS (T.setVm vm₁) cA comp' N M N).heap[b]? = some (vp_cell (ac 0) (M, _))
        have := muS_in (T.setVm vm₁) cA comp' N M N (b - (H.size + 1)) (by omega)
        rw [hTz, show H.size + 1 + (b - (H.size + 1)) = b by omega] at this
        rw [this, ei, vp_cell_i]
      · have hb : gC σ b = some x := hb
        have hlt := hP.lt hb
        exact cAt.or (hP.2.1 b x hb) (hold b (by rw [← hsz]; exact hlt))
  have hS1 : va_S A s.heap (muS (T.setVm vm₁) cA comp' N M N).heap (locs ++ (List.range N).map fun j => (⟨T.heap.size, j⟩ : Loc)) := by
    refine ⟨Nat.le_trans hS.1 (by rw [f1]; omega), fun x y1 y2 => (hold x (Nat.lt_of_lt_of_le y1 hS.1)).trans (hS.2.1 x y1 y2), fun z hz => ?_⟩
    rcases List.mem_append.mp hz with h | h
    · exact hS.2.2 z h
    · obtain ⟨j, -, rfl⟩ := List.mem_map.mp h
      show A T.heap.size
      rw [hT, ← hsz]
      exact hP.2.2 _ (Nat.le_refl _)
  have ec : cells + 1 + N = cells + (1 + N) := by omega
  have es : slots + N + N * M = slots + (N + N * M) := by omega
  rw [ec, es] at XF
  obtain ⟨t, a1, b1⟩ := kk _ _ hP1 hS1 _ rfl XF
  refine ⟨t, ?_, b1⟩
  have hrest : Steps p.tables e below ((muS (T.setVm vm₁) cA comp' N M N).setTop { g with pc := g.pc + 4, stack := .ref T.heap.size :: rest }) t := by
    rw [hsz] at a1
    rw [← hg0, hT]
    exact a1
  clear a1 kk
  have hl1 : ¬ N > e.platform.arrayLengthLimit := by rw [Launch.admits_arrayLengthLimit X.admits]; omega
  have hh1 : ¬ N * 4 > e.platform.maxHeapBytes := by rw [Launch.admits_maxHeapBytes X.admits]; omega
  have hl2 : ¬ M > e.platform.arrayLengthLimit := by rw [Launch.admits_arrayLengthLimit X.admits]; omega
  have hh2 : ¬ M * 4 > e.platform.maxHeapBytes := by rw [Launch.admits_maxHeapBytes X.admits]; omega
  subst hgm
  jvm_step X.here [hx, hgd]
  simp only [multianewarray.sem, wp_bind', W.resolveClassAt_links (State.method?_setTop g X.here.top) hg₁]
  rw [W.popN, if_neg (by decide)]
  refine ⟨g, State.topJava?_setTop' (s := T.setVm vm₁) g X.here.top, [.int n, .int k], rest, rfl, hgs, ?_⟩
  simp only [List.mapM_cons, List.mapM_nil, wp_bind', wp_pure']
  refine mu_two (k := kA₁) (kc := kC₁) (comp := comp') (cc := cc') hN hM hkA₁ hkindA₁ hkC₁ hkindC₁ hn hk hl1 hh1 hl2 hh2 (by exact hr1) (by exact hr2) (fun d' acts' => ?_)
  have eS : ((T.setTop g).setVm vm₁).setTop { g with stack := rest } = (T.setVm vm₁).setTop { g with stack := rest } := by
    show ((T.setVm vm₁).setTop g).setTop _ = _
    rw [State.setTop_setTop]
  rw [eS, muS_top]
  simp only [wp_bind', W.mark, W.pushRef, State.topJava?_setTop' _ XF.here.top, Option.some.injEq, exists_eq_left', State.setTop_setTop, State.heap_setTop]
  intro acts
  simp [jvm, XF.here.top]
  exact hrest
end
