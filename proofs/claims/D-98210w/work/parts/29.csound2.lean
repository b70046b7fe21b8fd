/-! STEPS WITHIN A METHOD of the component's -/
section
variable {l : Launch} {D : va_G} {ac : Nat → ClassId} {A : Nat → Prop} {zs : Nat → Nat} {J : CJ}
variable {p : Program} {e : Env} {d nc ns : Nat} {s : State} {m : MethodId} {args : Array Value} {below : List Frame} {meth : Method} {c : Code} {Q : State → Prop} {nL : Nat} {H : Heap} {locs : List Loc} {cells slots : Nat} {LS : Array Slot}
/-- where a step goes on: the machine from there on -/
def CGo (l : Launch) (D : va_G) (ac : Nat → ClassId) (A : Nat → Prop) (p : Program) (e : Env) (d nc ns : Nat) (s : State) (m : MethodId) (args : Array Value) (below : List Frame) (meth : Method) (c : Code) (Q : State → Prop) (nL cells slots : Nat) (σ : CM) (pc : Nat) (ls : LsT) (st : List Value) (σ' : CM) : Prop :=
  ∀ (H' : Heap) (locs' : List Loc) (LS' : Array Slot), HP D ac A σ' H' → va_S A s.heap H' locs' → LH LS' nL ls → W p l e (rmC d nc ns) s m args below meth c H' locs' (cells + (σ'.1 - σ.1)) (slots + (σ'.2.1 - σ.2.1)) Q (F0 m pc LS' st)
theorem CGo.same {σ : CM} {pc : Nat} {ls : LsT} {st : List Value} {σ' : CM} (h : CGo l D ac A p e d nc ns s m args below meth c Q nL cells slots σ pc ls st σ') (h1 : σ'.1 = σ.1) (h2 : σ'.2.1 = σ.2.1) {H' : Heap} {locs' : List Loc} {LS' : Array Slot} (hP : HP D ac A σ' H') (hS : va_S A s.heap H' locs') (hL : LH LS' nL ls) : W p l e (rmC d nc ns) s m args below meth c H' locs' cells slots Q (F0 m pc LS' st) := by
  have h3 := h H' locs' LS' hP hS hL
  rw [h1, h2, Nat.sub_self, Nat.sub_self] at h3
  exact h3
theorem s_get {k : CK} {pc : Nat} {ls : LsT} {st : List Value} {σ : CM} {idx : Nat} {g : CF} (h : cget k pc ls st σ idx = some (.inr (.inl g))) (hx : p.tables.exec = Jvm.exec) (hb : c.code = k.1) (hown : s.vm.findClass (oN k.2.2.1) = some m.cls) (hts : ∀ w ∈ lw_all, w.before args s = true) (hN : NW s) (hK : va_K D cCl (cTys ac) s) (hP : HP D ac A σ H) (hS : va_S A s.heap H locs) (hL : LH LS nL ls) (hd : decode k.1 pc = .ok (.getfield idx, 3))
    (kk : g.1 = k → g.2.1 = none → CGo l D ac A p e d nc ns s m args below meth c Q nL cells slots σ g.2.2.1 g.2.2.2.1 g.2.2.2.2.1 g.2.2.2.2.2) : W p l e (rmC d nc ns) s m args below meth c H locs cells slots Q (F0 m pc LS st) := by
  unfold cget at h
  split at h
  · split at h
    · rename_i ci fs hg
      split at h
      · rename_i p0 hp
        split at h
        · rename_i v hv
          cases h
          exact cr_get hx hb hts hN hown hK hP hg (fpk_ok hp) hv hd ((kk rfl rfl).same rfl rfl hP hS hL)
        · cases h
      · cases h
    · cases h
  · cases h
theorem s_put {k : CK} {pc : Nat} {ls : LsT} {st : List Value} {σ : CM} {idx : Nat} {g : CF} (h : cput k pc ls st σ idx = some (.inr (.inl g))) (hx : p.tables.exec = Jvm.exec) (hb : c.code = k.1) (hown : s.vm.findClass (oN k.2.2.1) = some m.cls) (hmode : k.2.2.2 = 9 → meth.name = "<init>") (hts : ∀ w ∈ lw_all, w.before args s = true) (hN : NW s) (hK : va_K D cCl (cTys ac) s) (hP : HP D ac A σ H) (hS : va_S A s.heap H locs) (hL : LH LS nL ls) (hd : decode k.1 pc = .ok (.putfield idx, 3))
    (kk : g.1 = k → g.2.1 = none → CGo l D ac A p e d nc ns s m args below meth c Q nL cells slots σ g.2.2.1 g.2.2.2.1 g.2.2.2.2.1 g.2.2.2.2.2) : W p l e (rmC d nc ns) s m args below meth c H locs cells slots Q (F0 m pc LS st) := by
  unfold cput at h
  split at h
  · split at h
    · rename_i ci fs hg
      split at h
      · rename_i p0 hp
        split at h
        · rename_i hc
          cases h
          obtain ⟨h1, h2, h3, h4⟩ := hc
          refine cr_put hx hb hts hN hown hK hP hS hg h2 (fpk_ok hp) h1 h3 ?_ hd (fun H1 locs1 hP1 hS1 => (kk rfl rfl).same rfl rfl hP1 hS1 hL)
          unfold fwr at h4
          split at h4
          · rename_i hf
            rw [Bool.and_eq_true] at h4
            exact Or.inr ⟨hmode (of_decide_eq_true h4.1), of_decide_eq_true h4.2⟩
          · rename_i hf
            exact Or.inl (by simpa using hf)
        · cases h
      · cases h
    · cases h
  · cases h
theorem s_len {k : CK} {pc : Nat} {ls : LsT} {st : List Value} {σ : CM} {g : CF} (h : clen k pc ls st σ = some (.inr (.inl g))) (hx : p.tables.exec = Jvm.exec) (hb : c.code = k.1) (hK : va_K D cCl (cTys ac) s) (hP : HP D ac A σ H) (hS : va_S A s.heap H locs) (hL : LH LS nL ls) (hd : decode k.1 pc = .ok (.arraylength, 1))
    (kk : g.1 = k → g.2.1 = none → CGo l D ac A p e d nc ns s m args below meth c Q nL cells slots σ g.2.2.1 g.2.2.2.1 g.2.2.2.2.1 g.2.2.2.2.2) : W p l e (rmC d nc ns) s m args below meth c H locs cells slots Q (F0 m pc LS st) := by
  unfold clen at h
  split at h
  · split at h
    · rename_i kd x hg
      split at h
      · rename_i hk
        cases h
        rcases hP.2.1 _ _ hg with h9 | h9
        · exact va_alen hx hb hK (ws := [(_, toE ac (.inr (kd, x)))]) (fun k q hk => by
            have hz : k < 1 := (List.getElem?_eq_some_iff.mp hk).1
            rw [show k = 0 by omega] at hk
            cases hk
            exact h9.1) 0 kd rfl (cTys_at hk) rfl hd ((kk rfl rfl).same rfl rfl hP hS hL)
        · obtain ⟨h1, -, cell, h3, h4, h5, h6⟩ := h9
          have h1 : ¬ (kd ≠ 4 ∨ x.1 ≠ 0) := of_decide_eq_false h1
          have hk4 : kd = 4 := by omega
          have hx0 : x.1 = 0 := by omega
          obtain ⟨-, kA, g2, comp, g3⟩ := (hK.2 4 _ (cTys_at (by decide))).1 0 (fun _ => .null)
          have g2 : s.vm.classes[ac 4]? = some kA := g2
          exact W.alen (n := Int32.ofNat x.1) hx hb h3 ⟨h6, kA, by rw [h5]; exact g2, comp, g3⟩ (by rw [h4, hx0]) rfl rfl hd ((kk rfl rfl).same rfl rfl hP hS hL)
      · cases h
    · cases h
  · cases h
theorem s_ald {k : CK} {pc : Nat} {ls : LsT} {st : List Value} {σ : CM} {t : Nat} {i0 : Instr} {g : CF} (h : cald k pc ls st σ t = some (.inr (.inl g))) (hx : p.tables.exec = Jvm.exec) (hb : c.code = k.1) (hK : va_K D cCl (cTys ac) s) (hP : HP D ac A σ H) (hS : va_S A s.heap H locs) (hL : LH LS nL ls) (hi : (t = 0 ∧ i0 = .iaload) ∨ (t = 1 ∧ i0 = .baload) ∨ (t = 2 ∧ i0 = .laload) ∨ (t = 4 ∧ i0 = .aaload)) (hd : decode k.1 pc = .ok (i0, 1))
    (kk : g.1 = k → g.2.1 = none → CGo l D ac A p e d nc ns s m args below meth c Q nL cells slots σ g.2.2.1 g.2.2.2.1 g.2.2.2.2.1 g.2.2.2.2.2) : W p l e (rmC d nc ns) s m args below meth c H locs cells slots Q (F0 m pc LS st) := by
  unfold cald at h
  split at h
  · split at h
    · rename_i kd n f hg
      split at h
      · rename_i hc
        cases h
        obtain ⟨rfl, h1, h2⟩ := hc
        rcases hi with ⟨rfl, rfl⟩ | ⟨rfl, rfl⟩ | ⟨rfl, rfl⟩ | ⟨rfl, rfl⟩
        · exact va_iald hx hb hK (hP.one hg (nz_i (inb_in.mp h2))) 0 0 rfl (cTys_at (by decide)) (inb_in.mp h2) hd ((kk rfl rfl).same rfl rfl hP hS hL)
        · exact va_zald hx hb hK (hP.one hg (nz_i (inb_in.mp h2))) 0 1 rfl (cTys_at (by decide)) (inb_in.mp h2) hd ((kk rfl rfl).same rfl rfl hP hS hL)
        · omega
        · omega
      · cases h
    · rename_i kd n f hg
      split at h
      · rename_i hc
        cases h
        obtain ⟨rfl, rfl, h2⟩ := hc
        rcases hi with ⟨h3, rfl⟩ | ⟨h3, rfl⟩ | ⟨h3, rfl⟩ | ⟨h3, rfl⟩
        · cases h3
        · cases h3
        · exact va_lald hx hb hK (hP.one hg (nz_i (inb_in.mp h2))) 0 2 rfl (cTys_at (by decide)) (inb_in.mp h2) hd ((kk rfl rfl).same rfl rfl hP hS hL)
        · cases h3
      · cases h
    · rename_i kd n f hg
      split at h
      · rename_i hc
        cases h
        obtain ⟨h1, h2, rfl, h5⟩ := hc
        rcases hi with ⟨h6, rfl⟩ | ⟨h6, rfl⟩ | ⟨h6, rfl⟩ | ⟨h6, rfl⟩
        · cases h6
        · cases h6
        · cases h6
        by_cases h8 : kd = 8
        · subst h8
          have hlt : _ < n := Nat.not_le.mp fun q => (inb_in.mp h5) (Or.inr q)
          have hcell := (hP.at hg (nz_k (by decide))).1
          exact W.aald (v := va_rf (f _)) (ty := .array .int) hx hb hcell ((hK.2 8 _ (cTys_at (by decide))).1 n (fun j => va_rf (f j))) rfl (fun q => by cases q) (by show ¬ (_ < 0 ∨ (arrV _ _ _).slots.size ≤ _); rw [arrV_size]; exact inb_in.mp h5) (by show (arrV _ _ _).slots[_]? = _; rw [arrV_read _ _ hlt]) rfl rfl hd ((kk rfl rfl).same rfl rfl hP hS hL)
        · obtain ⟨E, hE⟩ : ∃ E, kTy kd = .object E := by
            have : kd = 4 ∨ kd = 5 ∨ kd = 6 ∨ kd = 7 ∨ kd = 9 := by omega
            rcases this with rfl | rfl | rfl | rfl | rfl <;> exact ⟨_, rfl⟩
          exact va_aldq hx hb hK (hP.one hg (nz_i (inb_in.mp h5))) 0 kd rfl (by rw [cTys_at (by omega), hE]) (inb_in.mp h5) hd ((kk rfl rfl).same rfl rfl hP hS hL)
      · cases h
    · cases h
  · cases h
end
