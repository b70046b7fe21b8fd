/-! STEPS WITHIN A METHOD of the component's: constants; all together -/
theorem scp_at {idx i : Nat} (h : scp idx = some i) : ∃ tx, sStr[i]? = some (idx, tx) := by
  unfold scp at h
  obtain ⟨x, hx, rfl⟩ := Option.map_eq_some_iff.mp h
  have h1 := List.mem_of_find?_eq_some hx
  have h2 := List.find?_some hx
  obtain ⟨⟨a, tx⟩, j⟩ := x
  have h3 := List.mem_zipIdx_iff_getElem?.mp h1
  have h4 : a = idx := by simpa using h2
  subst h4
  exact ⟨tx, h3⟩
section
variable {l : Launch} {D : va_G} {ac : Nat → ClassId} {A : Nat → Prop} {zs : Nat → Nat} {J : CJ}
variable {p : Program} {e : Env} {d nc ns : Nat} {s : State} {m : MethodId} {args : Array Value} {below : List Frame} {meth : Method} {c : Code} {Q : State → Prop} {nL : Nat} {H : Heap} {locs : List Loc} {cells slots : Nat} {LS : Array Slot} {k : CK} {pc : Nat} {ls : LsT} {st : List Value} {σ : CM} {g : CF}
theorem vk_use {own tx : String} {i a : Nat} {U : State} {B : Array Value} (h : vk_R own i tx a U) : (Cond.stringRef own i tx).before B U = true ∧ (Term.string own i).eval B U none [] U = some (.ref a) := ⟨h.1, h.2⟩
theorem cr_ldcwS (hx : p.tables.exec = Jvm.exec) {cc : ByteArray} (hb : c.code = cc) {own tx : String} {index q : Nat} {R : Room} {rest : List Value} (hown : s.vm.findClass own = some m.cls) (hZ : vk_R own index tx q s) (hdg : decode cc pc = .ok (.ldc_w index, 3))
    (kk : W p l e R s m args below meth c H locs cells slots Q (F0 m (pc + 3) LS (.ref q :: rest))) : W p l e R s m args below meth c H locs cells slots Q (F0 m pc LS rest) := by
  intro T hT X
  obtain ⟨t, a1, b1⟩ := kk T hT X
  exact ⟨t, Jvm.Stand.ldcStringW X hx hown (text := tx) (a := q) (vk_use hZ).1 (vk_use hZ).2 (g := F0 m pc LS rest) rfl (by rw [hb]; exact hdg) t a1, b1⟩
theorem s_ldc {len idx : Nat} {i0 : Instr} (h : cldc zs k len pc ls st σ idx = some (.inr (.inl g))) (hx : p.tables.exec = Jvm.exec) (hb : c.code = k.1) (hown : s.vm.findClass (oN k.2.2.1) = some m.cls) (hts : ∀ w ∈ lw_all, w.before args s = true) (hZ : ZW zs A s s.heap) (hP : HP D ac A σ H) (hS : va_S A s.heap H locs) (hL : LH LS nL ls) (hi : (len = 2 ∧ i0 = .ldc idx) ∨ (len = 3 ∧ i0 = .ldc_w idx)) (hd : decode k.1 pc = .ok (i0, len))
    (kk : g.1 = k → g.2.1 = none → CGo l D ac A p e d nc ns s m args below meth c Q nL cells slots σ g.2.2.1 g.2.2.2.1 g.2.2.2.2.1 g.2.2.2.2.2) : W p l e (rmC d nc ns) s m args below meth c H locs cells slots Q (F0 m pc LS st) := by
  unfold cldc at h
  split at h
  · rename_i v hv
    cases h
    have hq : Cond.constant (oN k.2.2.1) idx v ∈ lw_all := icc_ok hv
    rcases hi with ⟨rfl, rfl⟩ | ⟨rfl, rfl⟩
    · exact lv_ldc hx hb hown (hts _ hq) hd ((kk rfl rfl).same rfl rfl hP hS hL)
    · exact lv_ldcw hx hb hown (hts _ hq) hd ((kk rfl rfl).same rfl rfl hP hS hL)
  · split at h
    · rename_i ho
      split at h
      · rename_i i hs
        cases h
        obtain ⟨tx, ht⟩ := scp_at hs
        have hv := hZ.2.2.1 i idx tx ht
        rw [ho] at hown
        rcases hi with ⟨rfl, rfl⟩ | ⟨rfl, rfl⟩
        · exact va_ldcS hx hb hown hv hd ((kk rfl rfl).same rfl rfl hP hS hL)
        · exact cr_ldcwS hx hb hown hv hd ((kk rfl rfl).same rfl rfl hP hS hL)
      · cases h
    · cases h
end
