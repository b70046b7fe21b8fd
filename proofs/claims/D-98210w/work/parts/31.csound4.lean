/-! STEPS WITHIN A METHOD of the component's: stores, new cells, casts, constants -/
section
variable {l : Launch} {D : va_G} {ac : Nat → ClassId} {A : Nat → Prop} {zs : Nat → Nat} {J : CJ}
variable {p : Program} {e : Env} {d nc ns : Nat} {s : State} {m : MethodId} {args : Array Value} {below : List Frame} {meth : Method} {c : Code} {Q : State → Prop} {nL : Nat} {H : Heap} {locs : List Loc} {cells slots : Nat} {LS : Array Slot} {k : CK} {pc : Nat} {ls : LsT} {st : List Value} {σ : CM} {g : CF}
theorem s_ast {t : Nat} {i0 : Instr} (h : cast_ zs k pc ls st σ t = some (.inr (.inl g))) (hx : p.tables.exec = Jvm.exec) (hb : c.code = k.1) (hN : NW s) (hZ : ZW zs A s s.heap) (hK : va_K D cCl (cTys ac) s) (hP : HP D ac A σ H) (hS : va_S A s.heap H locs) (hL : LH LS nL ls) (hi : (t = 0 ∧ i0 = .iastore) ∨ (t = 1 ∧ i0 = .bastore) ∨ (t = 2 ∧ i0 = .lastore) ∨ (t = 4 ∧ i0 = .aastore)) (hd : decode k.1 pc = .ok (i0, 1))
    (kk : g.1 = k → g.2.1 = none → CGo l D ac A p e d nc ns s m args below meth c Q nL cells slots σ g.2.2.1 g.2.2.2.1 g.2.2.2.2.1 g.2.2.2.2.2) : W p l e (rmC d nc ns) s m args below meth c H locs cells slots Q (F0 m pc LS st) := by
  unfold cast_ at h
  split at h
  · split at h
    · rename_i kd n f hg
      split at h
      · rename_i hc
        cases h
        obtain ⟨rfl, h1, h2, h3⟩ := hc
        rcases hi with ⟨rfl, rfl⟩ | ⟨rfl, rfl⟩ | ⟨rfl, rfl⟩ | ⟨rfl, rfl⟩
        · exact cr_iast hx hb hK hP hS hg (inb_in.mp h2) hd (fun H1 locs1 hP1 hS1 => (kk rfl rfl).same rfl rfl hP1 hS1 hL)
        · exact cr_zast hx hb hK hP hS hg (inb_in.mp h2) (h3 rfl) hd (fun H1 locs1 hP1 hS1 => (kk rfl rfl).same rfl rfl hP1 hS1 hL)
        · omega
        · omega
      · cases h
    · cases h
  · split at h
    · rename_i kd n f hg
      split at h
      · rename_i hc
        cases h
        obtain ⟨rfl, rfl, h2⟩ := hc
        rcases hi with ⟨h3, rfl⟩ | ⟨h3, rfl⟩ | ⟨h3, rfl⟩ | ⟨h3, rfl⟩
        · cases h3
        · cases h3
        · exact cr_last hx hb hK hP hS hg (inb_in.mp h2) hd (fun H1 locs1 hP1 hS1 => (kk rfl rfl).same rfl rfl hP1 hS1 hL)
        · cases h3
      · cases h
    · cases h
  · split at h
    · rename_i kd n f hg
      split at h
      · rename_i hc
        cases h
        obtain ⟨h1, h2, rfl, h5⟩ := hc
        rcases hi with ⟨h6, rfl⟩ | ⟨h6, rfl⟩ | ⟨h6, rfl⟩ | ⟨h6, rfl⟩
        · cases h6
        · cases h6
        · cases h6
        · obtain ⟨E, hE⟩ : ∃ E, kTy kd = .object E := by
            have : kd = 4 ∨ kd = 5 ∨ kd = 6 ∨ kd = 7 := by omega
            rcases this with rfl | rfl | rfl | rfl <;> exact ⟨_, rfl⟩
          exact cr_astN hx hb hK hP hS hg (by omega) hE (inb_in.mp h5) hd (fun H1 locs1 hP1 hS1 => (kk rfl rfl).same rfl rfl hP1 hS1 hL)
      · cases h
    · cases h
  · split at h
    · rename_i kd n f kd2 x hg hv
      split at h
      · rename_i hc
        cases h
        obtain ⟨rfl, rfl, rfl, h5⟩ := hc
        rcases hi with ⟨h6, rfl⟩ | ⟨h6, rfl⟩ | ⟨h6, rfl⟩ | ⟨h6, rfl⟩
        · cases h6
        · cases h6
        · cases h6
        · exact cr_astR (E := "java/lang/Object") hx hb hK hP hS hg (by omega) rfl (any_arr hN hK hP hv) (inb_in.mp h5) hd (fun H1 locs1 hP1 hS1 => (kk rfl rfl).same rfl rfl hP1 hS1 hL)
      · cases h
    · rename_i kd n f ci x hg hv
      split at h
      · rename_i hc
        cases h
        obtain ⟨h1, rfl, h5⟩ := hc
        rcases hi with ⟨h6, rfl⟩ | ⟨h6, rfl⟩ | ⟨h6, rfl⟩ | ⟨h6, rfl⟩
        · cases h6
        · cases h6
        · cases h6
        · rcases h1 with ⟨rfl, rfl⟩ | ⟨rfl, rfl⟩ | rfl
          · exact cr_astR (E := "KnowLocks$Lock") hx hb hK hP hS hg (by omega) rfl (any_obj hN hK hP hv (Or.inl rfl)) (inb_in.mp h5) hd (fun H1 locs1 hP1 hS1 => (kk rfl rfl).same rfl rfl hP1 hS1 hL)
          · exact cr_astR (E := "KnowLocks$Mark") hx hb hK hP hS hg (by omega) rfl (any_obj hN hK hP hv (Or.inl rfl)) (inb_in.mp h5) hd (fun H1 locs1 hP1 hS1 => (kk rfl rfl).same rfl rfl hP1 hS1 hL)
          · obtain ⟨q, hcq, -⟩ := hP.obj hv
            exact cr_astR (E := "java/lang/Object") hx hb hK hP hS hg (by omega) rfl (any_obj hN hK hP hv (Or.inr (cast_obj ci q hcq))) (inb_in.mp h5) hd (fun H1 locs1 hP1 hS1 => (kk rfl rfl).same rfl rfl hP1 hS1 hL)
      · cases h
    · rename_i kd n f hg hv
      split at h
      · rename_i hc
        cases h
        obtain ⟨rfl, rfl, h5, h7⟩ := hc
        rcases hi with ⟨h6, rfl⟩ | ⟨h6, rfl⟩ | ⟨h6, rfl⟩ | ⟨h6, rfl⟩
        · cases h6
        · cases h6
        · cases h6
        · exact cr_astR (E := "java/lang/String") hx hb hK hP hS hg (by omega) rfl (any_str hZ hS h7) (inb_in.mp h5) hd (fun H1 locs1 hP1 hS1 => (kk rfl rfl).same rfl rfl hP1 hS1 hL)
      · cases h
    · cases h
  · cases h
theorem s_new {idx : Nat} (h : cnew k pc ls st σ idx = some (.inr (.inl g))) (hx : p.tables.exec = Jvm.exec) (hb : c.code = k.1) (hown : s.vm.findClass (oN k.2.2.1) = some m.cls) (hts : ∀ w ∈ lw_all, w.before args s = true) (hK : va_K D cCl (cTys ac) s) (hP : HP D ac A σ H) (hS : va_S A s.heap H locs) (hL : LH LS nL ls) (hd : decode k.1 pc = .ok (.new idx, 3)) (hr : cells + (g.2.2.2.2.2.1 - σ.1) ≤ nc ∧ slots + (g.2.2.2.2.2.2.1 - σ.2.1) ≤ ns)
    (kk : g.1 = k → g.2.1 = none → CGo l D ac A p e d nc ns s m args below meth c Q nL cells slots σ g.2.2.1 g.2.2.2.1 g.2.2.2.2.1 g.2.2.2.2.2) : W p l e (rmC d nc ns) s m args below meth c H locs cells slots Q (F0 m pc LS st) := by
  unfold cnew at h
  split at h
  · rename_i ci hn
    cases h
    obtain ⟨h1, h2, h3⟩ := ncp_ok hn
    have e1 : (aC σ (cSz ci) (.inl (ci, cDf ci))).1 - σ.1 = 1 := by show σ.1 + 1 - σ.1 = 1; omega
    have e2 : (aC σ (cSz ci) (.inl (ci, cDf ci))).2.1 - σ.2.1 = cSz ci := by show σ.2.1 + cSz ci - σ.2.1 = cSz ci; omega
    dsimp only at hr
    rw [e1, e2] at hr
    refine cr_new hx hb hts hown hK hP hS h1 h2 h3 hr.1 hr.2 hd (fun H1 hP1 hS1 => ?_)
    have h9 := kk rfl rfl H1 locs LS hP1 hS1 hL
    dsimp only at h9
    rw [e1, e2] at h9
    exact h9
  · cases h
theorem s_stat {idx : Nat} (h : cstat zs k pc ls st σ idx = some (.inr (.inl g))) (hx : p.tables.exec = Jvm.exec) (hb : c.code = k.1) (hown : s.vm.findClass (oN k.2.2.1) = some m.cls) (hts : ∀ w ∈ lw_all, w.before args s = true) (hZ : ZW zs A s s.heap) (hP : HP D ac A σ H) (hS : va_S A s.heap H locs) (hL : LH LS nL ls) (hd : decode k.1 pc = .ok (.getstatic idx, 3))
    (kk : g.1 = k → g.2.1 = none → CGo l D ac A p e d nc ns s m args below meth c Q nL cells slots σ g.2.2.1 g.2.2.2.1 g.2.2.2.2.1 g.2.2.2.2.2) : W p l e (rmC d nc ns) s m args below meth c H locs cells slots Q (F0 m pc LS st) := by
  unfold cstat at h
  split at h
  · rename_i hc
    cases h
    obtain ⟨h1, rfl⟩ := hc
    rw [h1] at hown
    exact va_gets hx hb hZ.1 hS hown (hts _ qs_15) (fun x hx => hx) hd ((kk rfl rfl).same rfl rfl hP hS hL)
  · split at h
    · rename_i hc
      cases h
      obtain ⟨h1, rfl⟩ := hc
      rw [h1] at hown
      exact va_gets hx hb hZ.2.1 hS hown (hts _ qs_39) (fun x hx => hx) hd ((kk rfl rfl).same rfl rfl hP hS hL)
    · cases h
end
