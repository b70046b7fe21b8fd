/-! THE MODEL's RUNS ARE THE MACHINE's -/
theorem lent_len : ∀ (vs : List Value) (n : Nat), (lg_sl vs).length ≤ n → (lent vs n).length = n
  | [], n, _ => by simp [lent]
  | v :: l, n, h => by
    have hl : lg_sl (v :: l) = (if v.category = 2 then [.val v, .second] else [.val v]) ++ lg_sl l := rfl
    rw [hl, List.length_append] at h
    cases v with
    | long x =>
      have h : 2 + (lg_sl l).length ≤ n := h
      show (some (Value.long x) :: none :: lent l (n - 2)).length = n
      simp only [List.length_cons]
      rw [lent_len l (n - 2) (by omega)]
      omega
    | double x =>
      have h : 2 + (lg_sl l).length ≤ n := h
      show (some (Value.double x) :: none :: lent l (n - 2)).length = n
      simp only [List.length_cons]
      rw [lent_len l (n - 2) (by omega)]
      omega
    | int x => 
      have h : 1 + (lg_sl l).length ≤ n := h
      show (some (Value.int x) :: lent l (n - 1)).length = n
      simp only [List.length_cons]
      rw [lent_len l (n - 1) (by omega)]
      omega
    | float x => 
      have h : 1 + (lg_sl l).length ≤ n := h
      show (some (Value.float x) :: lent l (n - 1)).length = n
      simp only [List.length_cons]
      rw [lent_len l (n - 1) (by omega)]
      omega
    | null => 
      have h : 1 + (lg_sl l).length ≤ n := h
      show (some Value.null :: lent l (n - 1)).length = n
      simp only [List.length_cons]
      rw [lent_len l (n - 1) (by omega)]
      omega
    | ref x => 
      have h : 1 + (lg_sl l).length ≤ n := h
      show (some (Value.ref x) :: lent l (n - 1)).length = n
      simp only [List.length_cons]
      rw [lent_len l (n - 1) (by omega)]
      omega
    | retAddr x => 
      have h : 1 + (lg_sl l).length ≤ n := h
      show (some (Value.retAddr x) :: lent l (n - 1)).length = n
      simp only [List.length_cons]
      rw [lent_len l (n - 1) (by omega)]
      omega
theorem lfs_rep : ∀ (n k : Nat), lfs k (List.replicate n none) = []
  | 0, _ => rfl
  | n + 1, k => by rw [List.replicate_succ]; exact lfs_rep n (k + 1)
theorem lent_fs : ∀ (vs : List Value) (n k : Nat), ∀ q ∈ lfs k (lent vs n), q ∈ lv_args k vs
  | [], n, k, q, h => by rw [show lent [] n = List.replicate n none from rfl, lfs_rep] at h; cases h
  | v :: l, n, k, q, h => by
    cases v with
    | long x =>
      have h : q ∈ (k, Value.long x) :: lfs (k + 1 + 1) (lent l (n - 2)) := h
      rcases List.mem_cons.mp h with h | h
      · rw [h]; exact List.mem_cons_self
      · exact List.mem_cons_of_mem _ (lent_fs l (n - 2) (k + 2) q h)
    | double x =>
      have h : q ∈ (k, Value.double x) :: lfs (k + 1 + 1) (lent l (n - 2)) := h
      rcases List.mem_cons.mp h with h | h
      · rw [h]; exact List.mem_cons_self
      · exact List.mem_cons_of_mem _ (lent_fs l (n - 2) (k + 2) q h)
    | int x =>
      have h : q ∈ (k, Value.int x) :: lfs (k + 1) (lent l (n - 1)) := h
      rcases List.mem_cons.mp h with h | h
      · rw [h]; exact List.mem_cons_self
      · exact List.mem_cons_of_mem _ (lent_fs l (n - 1) (k + 1) q h)
    | float x =>
      have h : q ∈ (k, Value.float x) :: lfs (k + 1) (lent l (n - 1)) := h
      rcases List.mem_cons.mp h with h | h
      · rw [h]; exact List.mem_cons_self
      · exact List.mem_cons_of_mem _ (lent_fs l (n - 1) (k + 1) q h)
    | null =>
      have h : q ∈ (k, Value.null) :: lfs (k + 1) (lent l (n - 1)) := h
      rcases List.mem_cons.mp h with h | h
      · rw [h]; exact List.mem_cons_self
      · exact List.mem_cons_of_mem _ (lent_fs l (n - 1) (k + 1) q h)
    | ref x =>
      have h : q ∈ (k, Value.ref x) :: lfs (k + 1) (lent l (n - 1)) := h
      rcases List.mem_cons.mp h with h | h
      · rw [h]; exact List.mem_cons_self
      · exact List.mem_cons_of_mem _ (lent_fs l (n - 1) (k + 1) q h)
    | retAddr x =>
      have h : q ∈ (k, Value.retAddr x) :: lfs (k + 1) (lent l (n - 1)) := h
      rcases List.mem_cons.mp h with h | h
      · rw [h]; exact List.mem_cons_self
      · exact List.mem_cons_of_mem _ (lent_fs l (n - 1) (k + 1) q h)
theorem LH.entry {vs : List Value} {n : Nat} (h : (lg_sl vs).length ≤ n) : LH ((lg_sl vs ++ List.replicate (n - (lg_sl vs).length) Slot.unset).toArray) n (lent vs n) :=
  ⟨lent_len vs n h, lv_has_sub (lv_entry vs h) (lent_fs vs n 0)⟩
theorem qm_i : Cond.initialized RX19 ∈ lw_all := (lw_g (lw_at lw_m1 22 rfl) rfl)
theorem qm_ini {y : MethodName} (_ : y.cls = RX19) : Cond.initialized RX19 ∈ lw_all := qm_i
section
variable {l : Launch} {mb : Nat} {D : va_G} {cs : McT}
theorem m_callG {p : Program} {e : Env} {s : State} {m : MethodId} {args : Array Value} {below : List Frame} {meth : Method} {c : Code} {Q : State → Prop} {R : Room} {H : Heap} {locs : List Loc} {pc : Nat} {LS : Array Slot} {st0 rest : List Value} {r : MR} {a : Array Value}
    (hr : va_Run p l e R s m args below meth c H locs 0 0 0 0 (F0 m pc LS st0) rest (mQc mb D cs r a) (mA mb)) (hS : va_S (mA mb) s.heap H locs)
    (kk : ∀ (H1 : Heap) (locs1 : List Loc), va_P D mCl (mws mb cs r.2) H1 → va_S (mA mb) s.heap H1 locs1 → W p l e R s m args below meth c H1 locs1 0 0 Q (F0 m (pc + 3) LS (r.1.toList ++ rest))) : W p l e R s m args below meth c H locs 0 0 Q (F0 m pc LS st0) := by
  intro T hT X
  obtain ⟨v, st₀, t, T', L, h0, X', hL, e1, e2, ⟨hv, hp, hz, hk⟩, st⟩ := hr T hT X
  cases hv
  rw [h0] at hz hk
  obtain ⟨t2, a1, b1⟩ := kk T'.heap (locs ++ L) (by rw [e1]; exact hp)
    ⟨Nat.le_trans hS.1 (by rw [e1]; exact hz), fun q h1 h2 => by rw [e1, hk q (Nat.lt_of_lt_of_le h1 hS.1) h2]; exact hS.2.1 q h1 h2, fun q hq => by
      rcases List.mem_append.mp hq with h | h
      · exact hS.2.2 q h
      · exact hL q h⟩ T' rfl X'
  exact ⟨t2, st t2 a1, b1⟩
/-- the claim of a run of n steps -/
def mSound (l : Launch) (mb : Nat) (D : va_G) (cs : McT) (n : Nat) : Prop := ∀ (d : Nat) (f : MF) (r : MR), xv (mstep mb) n d f = some r →
  ∀ (p : Program) (e : Env) (s : State) (m : MethodId) (args : Array Value) (below : List Frame) (meth : Method) (c : Code) (nL : Nat), p.tables.exec = Jvm.exec → c.code = f.1.1 → meth.sig.returnType = f.1.2 → meth.locks = false → c.maxLocals = nL → s.vm.findClass RX19 = some m.cls → (∀ w ∈ lw_all, w.before args s = true) → va_K D mCl (mtys cs) s →
  ∀ (H : Heap) (locs : List Loc) (LS : Array Slot), va_P D mCl (mws mb cs f.2.2.2.2) H → va_S (mA mb) s.heap H locs → LH LS nL f.2.2.1 → W p l e (rmD d) s m args below meth c H locs 0 0 (MQ below (mQc mb D cs r) args s 0 0 (mA mb)) (F0 m f.2.1 LS f.2.2.2.1)
theorem m_met {n d : Nat} (ih : mSound l mb D cs n) {y : MethodName} {cc : ByteArray} {rt : Option FieldType} {nL : Nat} {As : List Value} {M : MM} {r : MR} (h : xv (mstep mb) n d ((cc, rt), 0, lent As nL, [], M) = some r) (hcls : y.cls = RX19) (hlen : (lg_sl As).length ≤ nL) :
    Met l y (ws_ y cc nL rt) (rmD d) (mPc mb D cs As M) (mQc mb D cs r) 0 0 (mA mb) := by
  refine Met.ofW (cc := cc) (maxL := nL) (ret := rt) (by rw [hcls]; decide) rfl ?_
  intro p e s m args below meth c s₁ B hml hv
  obtain ⟨rfl, hP, hK⟩ := hv
  have hts := atoms_spec (ws := ws_ y cc nL rt) B.pre
  have hts : ∀ w ∈ lw_all, w.before _ s = true := fun w h => hts w (List.mem_cons_of_mem _ h)
  have hown : s.vm.findClass RX19 = some m.cls := by rw [← hcls]; exact findClass_of_methodNamed B.named
  rw [lg_entry_eq]
  exact ih d _ r h p e s m _ below meth c nL B.exec B.bytes B.returns B.notSynchronized hml hown hts hK s.heap [] _ hP va_S.rf (LH.entry hlen)
theorem mPc_blind {As : List Value} {M : MM} : FrameBlind (mPc mb D cs As M) := by
  intro a U g mk q
  obtain ⟨q0, qP, qK⟩ := q
  exact ⟨q0, qP, va_K.moved (u := U) (U := U.calling g mk a) (Vm.Alike.refl U.vm) qK⟩
theorem m_sound_step {n : Nat} (ih : mSound l mb D cs n) : mSound l mb D cs (n + 1) := by
  intro d f r h p e s m args below meth c nL hx hb hr hlocks hml hown hts hK H locs LS hP hS hL
  obtain ⟨k, pc, ls, st, M⟩ := f
  change xw (mstep mb) (xv (mstep mb) n) d (k, pc, ls, st, M) = some r at h
  have hsz : LS.size = nL := hL.2.1
  unfold xw at h
  split at h
  · cases h
  · -- a return
    rename_i r0 hs
    cases h
    unfold mstep at hs
    dsimp only at hs
    split at hs
    · cases hs
    · rename_i i len hd
      split at hs
      all_goals first
        | (obtain ⟨rfl, h9⟩ := iflen hs; clear hs; have hs := h9; clear h9)
        | skip
      · split at hs
        · split at hs
          · obtain ⟨_, _, hg⟩ := Option.map_eq_some_iff.mp hs
            cases hg
          · cases hs
        · cases hs
      · split at hs
        · split at hs
          · obtain ⟨_, _, hs⟩ := Option.bind_eq_some_iff.mp hs
            obtain ⟨_, _, hg⟩ := Option.map_eq_some_iff.mp hs
            cases hg
          · cases hs
        · cases hs
      iterate 7
        · obtain ⟨_, _, hg⟩ := Option.map_eq_some_iff.mp hs
          cases hg
      · obtain ⟨y, cc, rt, nL', n, -, As, rest, -, -, -, -, -, hz⟩ := mcall_inv hs
        cases hz
      · split at hs
        · split at hs
          · split at hs
            · cases hs
            · cases hs
          · cases hs
        · obtain ⟨y, cc, rt, nL', n, -, As, rest, -, -, -, -, -, hz⟩ := mcall_inv hs
          cases hz
      · obtain ⟨v, hv, hg⟩ := Option.map_eq_some_iff.mp hs
        cases hg
        unfold mret at hv
        split at hv
        · rename_i hrt
          cases hv
          exact W.iret hx hb (hr.trans hrt) (fun t ht hW => ⟨rfl, by rw [ht]; exact hP, hS.F ht⟩) hS.2.2 hd hlocks
        · rename_i hrt
          split at hv
          · rename_i h01
            cases hv
            exact W.zret hx hb (hr.trans hrt) (nar_bool h01).1 (fun t ht hW => ⟨rfl, by rw [ht]; exact hP, hS.F ht⟩) hS.2.2 hd hlocks
          · cases hv
        · cases hv
      · split at hs
        · rename_i hrt
          cases hs
          exact W.vret hx hb (hr.trans hrt) (fun t ht hW => ⟨rfl, by rw [ht]; exact hP, hS.F ht⟩) hS.2.2 hd hlocks
        · cases hs
      · obtain ⟨_, _, hg⟩ := Option.map_eq_some_iff.mp hs
        cases hg
  · rename_i g hs
    refine mstep_next hs hx hb hml hown hts hK hP hS hL (fun hg H' locs' LS' hP' hS' hL' => ?_)
    exact ih d g r h p e s m args below meth c nL hx (by rw [hg]; exact hb) (by rw [hg]; exact hr) hlocks hml hown hts hK H' locs' LS' hP' hS' hL'
  · rename_i g kf hs
    split at h
    · cases h
    · rename_i d' 
      split at h
      · cases h
      · rename_i q hq
        unfold mstep at hs
        dsimp only at hs
        split at hs
        · cases hs
        · rename_i i len hd
          split at hs
          all_goals first
            | (obtain ⟨rfl, h9⟩ := iflen hs; clear hs; have hs := h9; clear h9)
            | skip
          · split at hs
            · split at hs
              · obtain ⟨_, _, hg⟩ := Option.map_eq_some_iff.mp hs
                cases hg
              · cases hs
            · cases hs
          · split at hs
            · split at hs
              · obtain ⟨_, _, hs⟩ := Option.bind_eq_some_iff.mp hs
                obtain ⟨_, _, hg⟩ := Option.map_eq_some_iff.mp hs
                cases hg
              · cases hs
            · cases hs
          iterate 7
            · obtain ⟨_, _, hg⟩ := Option.map_eq_some_iff.mp hs
              cases hg
          · obtain ⟨y, cc, rt, nL', n', hm, As, rest, hAs, hst, hcat, hvi, hle, hz⟩ := mcall_inv hs
            cases hz
            obtain ⟨As', rfl⟩ := hvi rfl
            obtain ⟨h1, h2, h3, h4, h5, -, h7⟩ := mTab_ok _ (lookup_mem hm)
            obtain ⟨h7, h8⟩ := h7 rfl
            have hcls : y.cls = RX19 := h3
            have hne : y.cls = RX19 ∧ y.cls ≠ "java/lang/invoke/MethodHandle" ∧ y.cls ≠ "java/lang/invoke/VarHandle" ∧ (parseMethodDescriptor y.desc).map (fun d => d.parameters.length) = some n' := ⟨hcls, by rw [hcls]; decide, by rw [hcls]; decide, h4⟩
            refine m_callG (va_runV (C := RX19) (own := RX19) (As := As') (rest := rest) (n := n') ⟨hx, hb, hml, hown, hts⟩ (m_met ih hq hcls hle) (cwV n' hts (lw_V h1 h7 h8 qm_i h2) rfl rfl rfl hne ⟨Nat.le_refl _, ?_⟩) ⟨mPc_blind, va_recv hK hP (ci := 0) (q0 := 0) rfl mce_obj, fun U hU hW => ⟨rfl, by rw [hU]; exact hP, va_K.moved hW.alike hK⟩⟩ rfl (by simpa using hAs) hsz (by rw [hst, List.reverse_cons, List.append_assoc]; rfl) (lv_room hcat) hd ⟨Nat.le_refl 0, Nat.le_refl 0⟩) hS (fun H1 locs1 hP1 hS1 => ?_)
            · show 8 + (nL' + 11) + 64 * (d' + 1) ≤ 64 * (d' + 1 + 1)
              have : nL' ≤ 40 := h5
              omega
            · exact ih (d' + 1) _ r h p e s m args below meth c nL hx hb hr hlocks hml hown hts hK H1 locs1 LS hP1 hS1 hL
          · rename_i idx
            split at hs
            · split at hs
              · split at hs
                · cases hs
                · cases hs
              · cases hs
            · obtain ⟨y, cc, rt, nL', n', hm, As, rest, hAs, hst, hcat, hvi, hle, hz⟩ := mcall_inv hs
              cases hz
              obtain ⟨h1, h2, h3, h4, h5, h6, -⟩ := mTab_ok _ (lookup_mem hm)
              have hcls : y.cls = RX19 := h3
              refine m_callG (va_runS (own := RX19) (As := As) (rest := rest) (n := n') ⟨hx, hb, hml, hown, hts⟩ (m_met ih hq hcls hle) (va_cwS n' hts (lw_S h1 (h6 rfl) (by rw [hcls]; exact qm_i) h2) rfl rfl rfl ⟨by rw [hcls]; decide, by rw [hcls]; decide, h4⟩ ⟨Nat.le_refl _, ?_⟩) ⟨mPc_blind, fun U hU hW => ⟨rfl, by rw [hU]; exact hP, va_K.moved hW.alike hK⟩⟩ rfl (by simpa using hAs) hsz hst (lv_room hcat) hd ⟨Nat.le_refl 0, Nat.le_refl 0⟩) hS (fun H1 locs1 hP1 hS1 => ?_)
              · show 8 + (nL' + 11) + 64 * (d' + 1) ≤ 64 * (d' + 1 + 1)
                have : nL' ≤ 40 := h5
                omega
              · exact ih (d' + 1) _ r h p e s m args below meth c nL hx hb hr hlocks hml hown hts hK H1 locs1 LS hP1 hS1 hL
          · obtain ⟨_, _, hg⟩ := Option.map_eq_some_iff.mp hs
            cases hg
          · split at hs
            · cases hs
            · cases hs
          · obtain ⟨_, _, hg⟩ := Option.map_eq_some_iff.mp hs
            cases hg
theorem m_sound : ∀ n : Nat, mSound l mb D cs n
  | 0 => fun d f r h => by cases h
  | n + 1 => m_sound_step (m_sound n)
/-- A RUN OF THE MODEL's METHOD IS ITS CONTRACT -/
theorem m_contract {d : Nat} {y : MethodName} {cc : ByteArray} {rt : Option FieldType} {nL : Nat} {As : List Value} {M : MM} {r : MR} (h : Xv (mstep mb) d ((cc, rt), 0, lent As nL, [], M) r) (hcls : y.cls = RX19) (hlen : (lg_sl As).length ≤ nL) :
    Met l y (ws_ y cc nL rt) (rmD d) (mPc mb D cs As M) (mQc mb D cs r) 0 0 (mA mb) := by
  obtain ⟨n, h⟩ := h
  exact m_met (m_sound n) h hcls hlen
end
