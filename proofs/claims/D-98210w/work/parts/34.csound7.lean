/-! A STEP WITHIN A METHOD of the component's, whatever it is -/
section
variable {l : Launch} {D : va_G} {ac : Nat → ClassId} {A : Nat → Prop} {zs : Nat → Nat} {J : CJ}
variable {p : Program} {e : Env} {d nc ns : Nat} {s : State} {m : MethodId} {args : Array Value} {below : List Frame} {meth : Method} {c : Code} {Q : State → Prop} {nL : Nat} {H : Heap} {locs : List Loc} {cells slots : Nat} {LS : Array Slot} {k : CK} {pc : Nat} {ls : LsT} {st : List Value} {σ : CM} {g : CF}
theorem ccall_inv {idx tag : Nat} {z} (h : ccall k pc ls st σ idx tag = some z) : ∃ (y : MethodName) (cc : ByteArray) (rt : Option FieldType) (o2 nL2 n : Nat) (rc : Option Nat), okCe (k.2.2.1, idx, tag, rc, y, cc, rt, o2, nL2, n) ∧ ∃ As rest, As.length = n ∧ st = As.reverse ++ rest ∧ catS rest ≤ 8 ∧ (lg_sl As).length ≤ nL2 ∧ recvB σ tag rc As = true ∧
    z = .inr (.inr (((cc, rt, o2, if tag = 1 ∧ rc = none then 9 else 0), none, 0, lent As nL2, [], σ), fun q => match q.1 with
        | .inl v => (k, none, pc + 3, ls, v.toList ++ rest, q.2)
        | .inr x => (k, some x, pc, ls, rest, q.2))) := by
  unfold ccall at h
  split at h
  · rename_i a b tg rc y cc rt o2 nL2 n he
    split at h
    · rename_i hc
      cases h
      obtain ⟨h1, h2, h3, h4, h5⟩ := hc
      have hok : okCe (a, b, tg, rc, y, cc, rt, o2, nL2, n) ∧ a = k.2.2.1 ∧ b = idx := by
        split at he
        · obtain ⟨_, _, he⟩ := Option.bind_eq_some_iff.mp he
          obtain ⟨_, _, he⟩ := Option.bind_eq_some_iff.mp he
          exact ccp_ok he
        · exact ccp_ok he
      obtain ⟨hok, rfl, rfl⟩ := hok
      subst h1
      exact ⟨y, cc, rt, o2, nL2, n, rc, hok, (st.take n).reverse, st.drop n, by rw [List.length_reverse, List.length_take, Nat.min_eq_left h2], by rw [List.reverse_reverse, List.take_append_drop], h3, h4, h5, rfl⟩
    · cases h
  · cases h
theorem s_int {idx tag : Nat} (h : cinv J k pc ls st σ idx tag = some (.inr (.inl g))) (hJ : JOK l D ac A zs J) (hx : p.tables.exec = Jvm.exec) (hb : c.code = k.1) (hml : c.maxLocals = nL) (hown : s.vm.findClass (oN k.2.2.1) = some m.cls) (hts : ∀ w ∈ lw_all, w.before args s = true) (hN : NW s) (hK : va_K D cCl (cTys ac) s) (hZ : ZW zs A s s.heap) (hP : HP D ac A σ H) (hS : va_S A s.heap H locs) (hL : LH LS nL ls) (hd : decode k.1 pc = .ok (insO tag idx, 3)) (hr : cells + (g.2.2.2.2.2.1 - σ.1) ≤ nc ∧ slots + (g.2.2.2.2.2.2.1 - σ.2.1) ≤ ns)
    (kk : g.1 = k → g.2.1 = none → CGo l D ac A p e d nc ns s m args below meth c Q nL cells slots σ g.2.2.1 g.2.2.2.1 g.2.2.2.2.1 g.2.2.2.2.2) : W p l e (rmC d nc ns) s m args below meth c H locs cells slots Q (F0 m pc LS st) := by
  unfold cinv at h
  split at h
  · rename_i kind tg n hi
    split at h
    · rename_i hc
      obtain ⟨rfl, h2, h3⟩ := hc
      obtain ⟨⟨v, σ'⟩, hj, hg⟩ := Option.bind_eq_some_iff.mp h
      cases hg
      obtain ⟨-, -, hW⟩ := hJ kind _ σ v σ' hj
      have h9 := hW k.2.2.1 idx tg n hi (by rw [List.length_reverse, List.length_take, Nat.min_eq_left h2]) p e d nc ns s m args below meth c k.1 H locs cells slots Q pc LS (st.drop n) hx hb (by rw [hml]; exact hL.2.1.symm) hown hts hN hK hZ hP hS h3 hr.1 hr.2 hd (fun H' locs' hP' hS' => kk rfl rfl H' locs' LS hP' hS' hL)
      rw [List.reverse_reverse, List.take_append_drop] at h9
      exact h9
    · cases h
  · obtain ⟨y, cc, rt, o2, nL2, n, rc, -, As, rest, -, -, -, -, -, hz⟩ := ccall_inv h
    cases hz
theorem cstep_next (h : cstep zs J (k, none, pc, ls, st, σ) = some (.inr (.inl g))) (hg1 : g.2.1 = none) (hJ : JOK l D ac A zs J) (hx : p.tables.exec = Jvm.exec) (hb : c.code = k.1) (hml : c.maxLocals = nL) (hown : s.vm.findClass (oN k.2.2.1) = some m.cls) (hmode : k.2.2.2 = 9 → meth.name = "<init>") (hts : ∀ w ∈ lw_all, w.before args s = true) (hN : NW s) (hK : va_K D cCl (cTys ac) s) (hZ : ZW zs A s s.heap) (hP : HP D ac A σ H) (hS : va_S A s.heap H locs) (hL : LH LS nL ls) (hr : cells + (g.2.2.2.2.2.1 - σ.1) ≤ nc ∧ slots + (g.2.2.2.2.2.2.1 - σ.2.1) ≤ ns)
    (kk : g.1 = k → g.2.1 = none → CGo l D ac A p e d nc ns s m args below meth c Q nL cells slots σ g.2.2.1 g.2.2.2.1 g.2.2.2.2.1 g.2.2.2.2.2) : W p l e (rmC d nc ns) s m args below meth c H locs cells slots Q (F0 m pc LS st) := by
  unfold cstep at h
  dsimp only at h
  split at h
  · cases h
  · rename_i i len hd
    split at h
    all_goals first
      | (obtain ⟨rfl, h9⟩ := iflen h; clear h; have h := h9; clear h9)
      | skip
    · exact s_get h hx hb hown hts hN hK hP hS hL hd kk
    · exact s_put h hx hb hown hmode hts hN hK hP hS hL hd kk
    · exact s_ald h hx hb hK hP hS hL (Or.inl ⟨rfl, rfl⟩) hd kk
    · exact s_ald h hx hb hK hP hS hL (Or.inr (Or.inl ⟨rfl, rfl⟩)) hd kk
    · exact s_ald h hx hb hK hP hS hL (Or.inr (Or.inr (Or.inl ⟨rfl, rfl⟩))) hd kk
    · exact s_ald h hx hb hK hP hS hL (Or.inr (Or.inr (Or.inr ⟨rfl, rfl⟩))) hd kk
    · exact s_ast h hx hb hN hZ hK hP hS hL (Or.inl ⟨rfl, rfl⟩) hd kk
    · exact s_ast h hx hb hN hZ hK hP hS hL (Or.inr (Or.inl ⟨rfl, rfl⟩)) hd kk
    · exact s_ast h hx hb hN hZ hK hP hS hL (Or.inr (Or.inr (Or.inl ⟨rfl, rfl⟩))) hd kk
    · exact s_ast h hx hb hN hZ hK hP hS hL (Or.inr (Or.inr (Or.inr ⟨rfl, rfl⟩))) hd kk
    · exact s_len h hx hb hK hP hS hL hd kk
    · exact s_new h hx hb hown hts hK hP hS hL hd hr kk
    · exact s_newa h hx hb hts hK hP hS hL hd hr kk
    · exact s_anew h hx hb hown hts hN hK hP hS hL hd hr kk
    · split at h
      · rename_i hdm
        subst hdm
        exact s_mul h hx hb hown hts hN hK hP hS hL hd hr kk
      · cases h
    · exact s_cast h hx hb hown hts hN hK hP hS hL hd kk
    · exact s_stat h hx hb hown hts hZ hP hS hL hd kk
    · exact s_ldc h hx hb hown hts hZ hP hS hL (Or.inl ⟨rfl, rfl⟩) hd kk
    · exact s_ldc h hx hb hown hts hZ hP hS hL (Or.inr ⟨rfl, rfl⟩) hd kk
    · split at h
      · rename_i v hv
        cases h
        have hq : Cond.constantLong (oN k.2.2.1) _ v ∈ lw_all := lcc_ok hv
        exact lv_ldc2 hx hb hown (hts _ hq) hd ((kk rfl rfl).same rfl rfl hP hS hL)
      · cases h
    · exact s_int (tag := 0) h hJ hx hb hml hown hts hN hK hZ hP hS hL hd hr kk
    · exact s_int (tag := 1) h hJ hx hb hml hown hts hN hK hZ hP hS hL hd hr kk
    · exact s_int (tag := 2) h hJ hx hb hml hown hts hN hK hZ hP hS hL hd hr kk
    · obtain ⟨_, _, hg⟩ := Option.map_eq_some_iff.mp h
      cases hg
    · split at h
      · cases h
      · cases h
    · obtain ⟨_, _, hg⟩ := Option.map_eq_some_iff.mp h
      cases hg
    · split at h
      · cases h
      · cases h
    · split at h
      · cases h
        cases hg1
      · cases h
    · obtain ⟨q, hq, hg⟩ := Option.map_eq_some_iff.mp h
      cases hg
      exact stp_sound hx hb hd hq hL (fun LS' hL' => (kk rfl rfl).same rfl rfl hP hS hL')
end
