/-! A STEP WITHIN A METHOD: a new array of arrays -/
section
variable {l : Launch} {D : va_G} {ac : Nat → ClassId} {A : Nat → Prop} {zs : Nat → Nat} {J : CJ}
variable {p : Program} {e : Env} {d nc ns : Nat} {s : State} {m : MethodId} {args : Array Value} {below : List Frame} {meth : Method} {c : Code} {Q : State → Prop} {nL : Nat} {H : Heap} {locs : List Loc} {cells slots : Nat} {LS : Array Slot} {k : CK} {pc : Nat} {ls : LsT} {st : List Value} {σ : CM} {g : CF}
theorem mulK_ok {o idx : Nat} (h : mulK o idx = true) : Cond.classLink (oN o) idx "[[I" ∈ lw_all := by
  rcases of_decide_eq_true h with ⟨rfl, rfl⟩ | ⟨rfl, rfl⟩
  · exact (lw_g (lw_at lw_m1 174 rfl) rfl)
  · exact (lw_g (lw_at lw_m3 24 rfl) rfl)
theorem s_mul {idx : Nat} (h : cmul k pc ls st σ idx = some (.inr (.inl g))) (hx : p.tables.exec = Jvm.exec) (hb : c.code = k.1) (hown : s.vm.findClass (oN k.2.2.1) = some m.cls) (hts : ∀ w ∈ lw_all, w.before args s = true) (hN0 : NW s) (hK : va_K D cCl (cTys ac) s) (hP : HP D ac A σ H) (hS : va_S A s.heap H locs) (hL : LH LS nL ls) (hd : decode k.1 pc = .ok (.multianewarray idx 2, 4)) (hr : cells + (g.2.2.2.2.2.1 - σ.1) ≤ nc ∧ slots + (g.2.2.2.2.2.2.1 - σ.2.1) ≤ ns)
    (kk : g.1 = k → g.2.1 = none → CGo l D ac A p e d nc ns s m args below meth c Q nL cells slots σ g.2.2.1 g.2.2.2.1 g.2.2.2.2.1 g.2.2.2.2.2) : W p l e (rmC d nc ns) s m args below meth c H locs cells slots Q (F0 m pc LS st) := by
  unfold cmul at h
  split at h
  · rename_i m' n' r
    split at h
    · rename_i hc
      obtain ⟨hmk, ⟨hn0, hn1⟩, hm0, hm1⟩ := hc
      have hn2 : n' ≤ 100000 := Int32.le_trans hn1 (by decide)
      obtain ⟨hn, -⟩ := n100k hn0 hn2
      obtain ⟨hm, hM⟩ := n100k hm0 hm1
      have hN : n'.toNatClampNeg ≤ 100 := by
        have b : n'.toInt ≤ (100 : Int32).toInt := Int32.le_iff_toInt_le.mp hn1
        have c2 : (100 : Int32).toInt = 100 := by decide
        rw [c2] at b
        show n'.toInt.toNat ≤ 100
        omega
      cases h
      generalize hN' : n'.toNatClampNeg = N at *
      generalize hM' : m'.toNatClampNeg = M at *
      have e1 : (mC σ N M).1 - σ.1 = 1 + N := by show σ.1 + (1 + N) - σ.1 = 1 + N; omega
      have e2 : (mC σ N M).2.1 - σ.2.1 = N + N * M := by show σ.2.1 + (N + N * M) - σ.2.1 = N + N * M; omega
      dsimp only at hr
      rw [e1, e2] at hr
      refine cr_mul hx hb hts hN0 hown (mulK_ok hmk) (hts _ qa_I) hK hP hS hn hm hN' hM' hN hM hr.1 hr.2 hd (fun H1 locs1 hP1 hS1 => ?_)
      have h9 := kk rfl rfl H1 locs1 LS hP1 hS1 hL
      dsimp only at h9
      rw [e1, e2] at h9
      exact h9
    · cases h
  · cases h
end
