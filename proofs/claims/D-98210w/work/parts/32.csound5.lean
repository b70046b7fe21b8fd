/-! STEPS WITHIN A METHOD of the component's: new arrays, casts -/
section
variable {l : Launch} {D : va_G} {ac : Nat → ClassId} {A : Nat → Prop} {zs : Nat → Nat} {J : CJ}
variable {p : Program} {e : Env} {d nc ns : Nat} {s : State} {m : MethodId} {args : Array Value} {below : List Frame} {meth : Method} {c : Code} {Q : State → Prop} {nL : Nat} {H : Heap} {locs : List Loc} {cells slots : Nat} {LS : Array Slot} {k : CK} {pc : Nat} {ls : LsT} {st : List Value} {σ : CM} {g : CF}
theorem n100k {n : Int32} (h0 : 0 ≤ n) (h1 : n ≤ 100000) : ¬ n < 0 ∧ n.toNatClampNeg ≤ 100000 := by
  have a : (0 : Int32).toInt ≤ n.toInt := Int32.le_iff_toInt_le.mp h0
  have b : n.toInt ≤ (100000 : Int32).toInt := Int32.le_iff_toInt_le.mp h1
  have c1 : (0 : Int32).toInt = 0 := by decide
  have c2 : (100000 : Int32).toInt = 100000 := by decide
  rw [c1] at a
  rw [c2] at b
  constructor
  · intro z
    have z := Int32.lt_iff_toInt_lt.mp z
    rw [c1] at z
    omega
  · show n.toInt.toNat ≤ 100000
    omega
theorem s_newa {t : ArrayType} (h : cnewa k pc ls st σ t = some (.inr (.inl g))) (hx : p.tables.exec = Jvm.exec) (hb : c.code = k.1) (hts : ∀ w ∈ lw_all, w.before args s = true) (hK : va_K D cCl (cTys ac) s) (hP : HP D ac A σ H) (hS : va_S A s.heap H locs) (hL : LH LS nL ls) (hd : decode k.1 pc = .ok (.newarray t, 2)) (hr : cells + (g.2.2.2.2.2.1 - σ.1) ≤ nc ∧ slots + (g.2.2.2.2.2.2.1 - σ.2.1) ≤ ns)
    (kk : g.1 = k → g.2.1 = none → CGo l D ac A p e d nc ns s m args below meth c Q nL cells slots σ g.2.2.1 g.2.2.2.1 g.2.2.2.2.1 g.2.2.2.2.2) : W p l e (rmC d nc ns) s m args below meth c H locs cells slots Q (F0 m pc LS st) := by
  unfold cnewa at h
  split at h
  · rename_i n r
    split at h
    · rename_i kd hkd
      split at h
      · rename_i hc
        obtain ⟨hn, hN⟩ := n100k hc.1 hc.2
        cases h
        generalize hcont : (if kd = 2 then Sum.inr (Sum.inl (fun _ => (0 : Int64))) else Sum.inl (fun _ => (0 : Int32)) : (Nat → Int32) ⊕ (Nat → Int64) ⊕ (Nat → UInt32) ⊕ (Nat → UInt64) ⊕ (Nat → Option Nat)) = cont at hr kk
        have e1 : ∀ x : Cl, (aC σ n.toNatClampNeg x).1 - σ.1 = 1 := fun x => by show σ.1 + 1 - σ.1 = 1; omega
        have e2 : ∀ x : Cl, (aC σ n.toNatClampNeg x).2.1 - σ.2.1 = n.toNatClampNeg := fun x => by show σ.2.1 + n.toNatClampNeg - σ.2.1 = n.toNatClampNeg; omega
        dsimp only at hr
        rw [e1, e2] at hr
        have go : ∀ H1 : Heap, HP D ac A (aC σ n.toNatClampNeg (.inr (kd, n.toNatClampNeg, cont))) H1 → va_S A s.heap H1 locs → W p l e (rmC d nc ns) s m args below meth c H1 locs (cells + 1) (slots + n.toNatClampNeg) Q (F0 m (pc + 2) LS (.ref σ.1 :: r)) := by
          intro H1 hP1 hS1
          have h9 := kk rfl rfl H1 locs LS hP1 hS1 hL
          dsimp only at h9
          rw [e1, e2] at h9
          exact h9
        cases t with
        | int =>
          cases hkd
          rw [if_neg (by decide)] at hcont
          subst hcont
          exact cr_newa (t := .int) hx hb (hts _ qa_I) hK hP hS (by decide) rfl (fun C z => by cases z) (fun cA => rfl) hn rfl (by show _ * 4 ≤ _; omega) hr.1 hr.2 hd go
        | boolean =>
          cases hkd
          rw [if_neg (by decide)] at hcont
          subst hcont
          exact cr_newa (t := .boolean) hx hb (hts _ qa_Z) hK hP hS (by decide) rfl (fun C z => by cases z) (fun cA => rfl) hn rfl (by show _ * 1 ≤ _; omega) hr.1 hr.2 hd go
        | long =>
          cases hkd
          rw [if_pos rfl] at hcont
          subst hcont
          exact cr_newa (t := .long) hx hb (hts _ qa_J) hK hP hS (by decide) rfl (fun C z => by cases z) (fun cA => rfl) hn rfl (by show _ * 8 ≤ _; omega) hr.1 hr.2 hd go
        | _ => cases hkd
      · cases h
    · cases h
  · cases h
theorem s_anew {idx : Nat} (h : canew k pc ls st σ idx = some (.inr (.inl g))) (hx : p.tables.exec = Jvm.exec) (hb : c.code = k.1) (hown : s.vm.findClass (oN k.2.2.1) = some m.cls) (hts : ∀ w ∈ lw_all, w.before args s = true) (hN0 : NW s) (hK : va_K D cCl (cTys ac) s) (hP : HP D ac A σ H) (hS : va_S A s.heap H locs) (hL : LH LS nL ls) (hd : decode k.1 pc = .ok (.anewarray idx, 3)) (hr : cells + (g.2.2.2.2.2.1 - σ.1) ≤ nc ∧ slots + (g.2.2.2.2.2.2.1 - σ.2.1) ≤ ns)
    (kk : g.1 = k → g.2.1 = none → CGo l D ac A p e d nc ns s m args below meth c Q nL cells slots σ g.2.2.1 g.2.2.2.1 g.2.2.2.2.1 g.2.2.2.2.2) : W p l e (rmC d nc ns) s m args below meth c H locs cells slots Q (F0 m pc LS st) := by
  unfold canew at h
  split at h
  · rename_i n r
    split at h
    · rename_i kd hkd
      split at h
      · rename_i hc
        obtain ⟨hn, hN⟩ := n100k hc.1 hc.2
        cases h
        have e1 : ∀ x : Cl, (aC σ n.toNatClampNeg x).1 - σ.1 = 1 := fun x => by show σ.1 + 1 - σ.1 = 1; omega
        have e2 : ∀ x : Cl, (aC σ n.toNatClampNeg x).2.1 - σ.2.1 = n.toNatClampNeg := fun x => by show σ.2.1 + n.toNatClampNeg - σ.2.1 = n.toNatClampNeg; omega
        dsimp only at hr
        rw [e1, e2] at hr
        obtain ⟨h8, C, hl, hov, hty⟩ := acp_ok hkd
        refine cr_anew hx hb hts hN0 hown hl hov hK hP hS (by have : kd < 8 := h8; omega) hty hn rfl (by omega) hr.1 hr.2 hd (fun H1 hP1 hS1 => ?_)
        have h9 := kk rfl rfl H1 locs LS hP1 hS1 hL
        dsimp only at h9
        rw [e1, e2] at h9
        exact h9
      · cases h
    · cases h
  · cases h
theorem s_cast {idx : Nat} (h : ccast k pc ls st σ idx = some (.inr (.inl g))) (hx : p.tables.exec = Jvm.exec) (hb : c.code = k.1) (hown : s.vm.findClass (oN k.2.2.1) = some m.cls) (hts : ∀ w ∈ lw_all, w.before args s = true) (hN : NW s) (hK : va_K D cCl (cTys ac) s) (hP : HP D ac A σ H) (hS : va_S A s.heap H locs) (hL : LH LS nL ls) (hd : decode k.1 pc = .ok (.checkcast idx, 3))
    (kk : g.1 = k → g.2.1 = none → CGo l D ac A p e d nc ns s m args below meth c Q nL cells slots σ g.2.2.1 g.2.2.2.1 g.2.2.2.2.1 g.2.2.2.2.2) : W p l e (rmC d nc ns) s m args below meth c H locs cells slots Q (F0 m pc LS st) := by
  unfold ccast at h
  split at h
  · cases h
    exact lv_castN hx hb hd ((kk rfl rfl).same rfl rfl hP hS hL)
  · split at h
    · rename_i ci fs hg
      split at h
      · rename_i hc
        cases h
        obtain ⟨nm, h1, h2⟩ := kcc_ok hc
        obtain ⟨q, hcq, -⟩ := hP.obj hg
        have hn : cNm ci = q.1 := by unfold cNm; rw [getD_some hcq]
        have hrv := hP.recv hK hg hcq
        rcases h2 with h2 | h2
        · dsimp only at h1 h2
          rw [h2, hn] at h1
          exact va_castS hx hb hown (hts _ h1) (hK.1 ci _ hcq).2 hrv hd ((kk rfl rfl).same rfl rfl hP hS hL)
        · dsimp only at h1 h2
          rw [hn] at h2
          exact va_castY hx hb hown (hts _ h1) (hN.1 _ h2) hrv hd ((kk rfl rfl).same rfl rfl hP hS hL)
      · cases h
    · rename_i kd x hg
      split at h
      · rename_i hc
        cases h
        obtain ⟨rfl, h1⟩ := hc
        have h2 : Cond.classLink (oN k.2.2.1) idx "[I" ∈ lw_all := kca_ok h1
        exact va_castA hx hb hown (hts _ h2) (hP.one hg (nz_k (by decide))) 0 rfl (hK.2 0 _ (cTys_at (by decide))).2 hd ((kk rfl rfl).same rfl rfl hP hS hL)
      · cases h
    · cases h
  · cases h
end
