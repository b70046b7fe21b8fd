/-! CALLS THAT ARE TAKEN AS ONE STEP: arrays of objects copied; Arrays.copyOf -/
set_option maxRecDepth 100000
abbrev cJ13_copyOf : ByteArray := prog_66_method_119_code
theorem dJ13_copyOf_0 : decode cJ13_copyOf 0 = .ok (.aload_n 0, 1) := dk_42 (dk_all 0 (by decide +kernel))
theorem dJ13_copyOf_1 : decode cJ13_copyOf 1 = .ok (.iload_n 1, 1) := dk_27 (dk_all 1 (by decide +kernel))
theorem dJ13_copyOf_2 : decode cJ13_copyOf 2 = .ok (.aload_n 0, 1) := dk_42 (dk_all 2 (by decide +kernel))
theorem dJ13_copyOf_3 : decode cJ13_copyOf 3 = .ok (.invokevirtual 86, 3) := dk_182 0 86 (dk_all 3 (by decide +kernel))
theorem dJ13_copyOf_6 : decode cJ13_copyOf 6 = .ok (.invokestatic 300, 3) := dk_184 1 44 (dk_all 6 (by decide +kernel))
theorem dJ13_copyOf_9 : decode cJ13_copyOf 9 = .ok (.areturn, 1) := dk_176 (dk_all 9 (by decide +kernel))
abbrev cJ13_copyOf_2 : ByteArray := prog_66_method_120_code
theorem dJ13_copyOf_2_0 : decode cJ13_copyOf_2 0 = .ok (.aload_n 2, 1) := dk_44 (dk_all 0 (by decide +kernel))
theorem dJ13_copyOf_2_1 : decode cJ13_copyOf_2 1 = .ok (.ldc 110, 2) := dk_18 110 (dk_all 1 (by decide +kernel))
theorem dJ13_copyOf_2_3 : decode cJ13_copyOf_2 3 = .ok (.if_acmp .ne 10, 3) := dk_166 0 10 (dk_all 3 (by decide +kernel))
theorem dJ13_copyOf_2_6 : decode cJ13_copyOf_2 6 = .ok (.iload_n 1, 1) := dk_27 (dk_all 6 (by decide +kernel))
theorem dJ13_copyOf_2_7 : decode cJ13_copyOf_2 7 = .ok (.anewarray 2, 3) := dk_189 0 2 (dk_all 7 (by decide +kernel))
theorem dJ13_copyOf_2_10 : decode cJ13_copyOf_2 10 = .ok (.goto 14, 3) := dk_167 0 14 (dk_all 10 (by decide +kernel))
theorem dJ13_copyOf_2_13 : decode cJ13_copyOf_2 13 = .ok (.aload_n 2, 1) := dk_44 (dk_all 13 (by decide +kernel))
theorem dJ13_copyOf_2_14 : decode cJ13_copyOf_2 14 = .ok (.invokevirtual 90, 3) := dk_182 0 90 (dk_all 14 (by decide +kernel))
theorem dJ13_copyOf_2_17 : decode cJ13_copyOf_2 17 = .ok (.iload_n 1, 1) := dk_27 (dk_all 17 (by decide +kernel))
theorem dJ13_copyOf_2_18 : decode cJ13_copyOf_2 18 = .ok (.invokestatic 95, 3) := dk_184 0 95 (dk_all 18 (by decide +kernel))
theorem dJ13_copyOf_2_21 : decode cJ13_copyOf_2 21 = .ok (.checkcast 110, 3) := dk_192 0 110 (dk_all 21 (by decide +kernel))
theorem dJ13_copyOf_2_24 : decode cJ13_copyOf_2 24 = .ok (.astore_n 3, 1) := dk_78 (dk_all 24 (by decide +kernel))
theorem dJ13_copyOf_2_25 : decode cJ13_copyOf_2 25 = .ok (.aload_n 0, 1) := dk_42 (dk_all 25 (by decide +kernel))
theorem dJ13_copyOf_2_26 : decode cJ13_copyOf_2 26 = .ok (.iconst 0, 1) := dk_3 (dk_all 26 (by decide +kernel))
theorem dJ13_copyOf_2_27 : decode cJ13_copyOf_2 27 = .ok (.aload_n 3, 1) := dk_45 (dk_all 27 (by decide +kernel))
theorem dJ13_copyOf_2_28 : decode cJ13_copyOf_2 28 = .ok (.iconst 0, 1) := dk_3 (dk_all 28 (by decide +kernel))
theorem dJ13_copyOf_2_29 : decode cJ13_copyOf_2 29 = .ok (.aload_n 0, 1) := dk_42 (dk_all 29 (by decide +kernel))
theorem dJ13_copyOf_2_30 : decode cJ13_copyOf_2 30 = .ok (.arraylength, 1) := dk_190 (dk_all 30 (by decide +kernel))
theorem dJ13_copyOf_2_31 : decode cJ13_copyOf_2 31 = .ok (.iload_n 1, 1) := dk_27 (dk_all 31 (by decide +kernel))
theorem dJ13_copyOf_2_32 : decode cJ13_copyOf_2 32 = .ok (.invokestatic 304, 3) := dk_184 1 48 (dk_all 32 (by decide +kernel))
theorem dJ13_copyOf_2_35 : decode cJ13_copyOf_2 35 = .ok (.invokestatic 150, 3) := dk_184 0 150 (dk_all 35 (by decide +kernel))
theorem dJ13_copyOf_2_38 : decode cJ13_copyOf_2 38 = .ok (.aload_n 3, 1) := dk_45 (dk_all 38 (by decide +kernel))
theorem dJ13_copyOf_2_39 : decode cJ13_copyOf_2 39 = .ok (.areturn, 1) := dk_176 (dk_all 39 (by decide +kernel))
section
variable {p : Program} {l : Launch} {e : Env} {R : Room} {s : State} {m : MethodId} {args : Array Value} {below : List Frame} {meth : Method} {c : Code} {H : Heap} {locs : List Loc} {cells slots : Nat} {Q : State → Prop} {cc : ByteArray} {pc : Nat} {LS : Array Slot} {rest : List Value} {D : va_G} {A : Nat → Prop} {ac : Nat → ClassId} {σ : CM}
/-- System.arraycopy of objects -/
theorem cr_copyR (hx : p.tables.exec = Jvm.exec) (hb : c.code = cc) (hml : c.maxLocals = LS.size) {own : String} {index : Nat} (hown : s.vm.findClass own = some m.cls) (hlink : (Cond.methodLink own index arraycopyName).before args s = true) (hts : ∀ w ∈ lw_all, w.before args s = true) (hN : NW s) (hK : va_K D cCl (cTys ac) s) (hP : HP D ac A σ H) (hS : va_S A s.heap H locs) {a b n0 n1 : Nat} {f g : Nat → Option Nat} (ha : gC σ a = some (.inr (4, n0, .inr (.inr (.inr (.inr f)))))) (hb2 : gC σ b = some (.inr (4, n1, .inr (.inr (.inr (.inr g))))))
    {sp dp n : Int32} (h1 : ¬ sp < 0) (h2 : ¬ dp < 0) (h3 : ¬ n < 0) (h4 : sp.toNatClampNeg + n.toNatClampNeg ≤ n0) (h5 : dp.toNatClampNeg + n.toNatClampNeg ≤ n1) (hel : elB σ f sp.toNatClampNeg n.toNatClampNeg = true) (hn9 : 0 < n.toNatClampNeg) (hframes : 1 ≤ R.frames) (hlocals : (rest.map fun v => v.category).sum + (nativeFrameWords "java/lang/System" "arraycopy" 5 + 11) ≤ R.locals) (hdg : decode cc pc = .ok (.invokestatic index, 3))
    (kk : ∀ (H1 : Heap) (locs1 : List Loc), HP D ac A (pC σ b (.inr (4, n1, .inr (.inr (.inr (.inr (cpF f g sp.toNatClampNeg dp.toNatClampNeg n.toNatClampNeg))))))) H1 → va_S A s.heap H1 locs1 → W p l e R s m args below meth c H1 locs1 cells slots Q (F0 m (pc + 3) LS rest)) : W p l e R s m args below meth c H locs cells slots Q (F0 m pc LS (.int n :: .int dp :: .ref b :: .int sp :: .ref a :: rest)) := by
  intro T hT X
  have hc0 : H[a]? = some (vp_cell (ac 4) (n0, .inr (.inr (.inr (.inr f))))) := (hP.at ha (nz_n (show n0 ≠ 0 by omega))).1
  have hc1 : H[b]? = some (vp_cell (ac 4) (n1, .inr (.inr (.inr (.inr g))))) := (hP.at hb2 (nz_n (show n1 ≠ 0 by omega))).1
  have hA : A b := (hP.at hb2 (nz_n (show n1 ≠ 0 by omega))).2.1 rfl
  have hty : (cTys ac)[4]? = some (ac 4, .object "java/lang/Object") := cTys_at (by decide)
  obtain ⟨-, k0, hk0, cm0, hkk0⟩ := (hK.2 4 _ hty).1 n0 (fun j => va_rf (f j))
  obtain ⟨-, k1, hk1, cm1, hkk1⟩ := (hK.2 4 _ hty).1 n1 (fun j => va_rf (g j))
  obtain ⟨vm', X', step⟩ := X.arraycopy hx hown hlink (hts _ qj_cn) (hts _ qj_cs) (hts _ qj_si) (src := a) (dst := b) (cs := vp_cell (ac 4) (n0, .inr (.inr (.inr (.inr f))))) (cd := vp_cell (ac 4) (n1, .inr (.inr (.inr (.inr g))))) (srcPos := sp) (destPos := dp) (n := n) (by rw [hT]; exact hc0) (by rw [hT]; exact hc1)
    (fun _ h => by cases h) (fun _ h => by cases h) (fun h => by cases h) (fun h => by cases h) hk0 hk1 hkk0 hkk1 rfl h1 h2 h3
    (by rw [clampI h1, clampI h3]; show ¬ _ > ((arrV (ac 4) n0 (fun j => va_rf (f j))).slots.size : Int); rw [arrV_size]; omega)
    (by rw [clampI h2, clampI h3]; show ¬ _ > ((arrV (ac 4) n1 (fun j => va_rf (g j))).slots.size : Int); rw [arrV_size]; omega)
    (fun vm₁ hal i hi => by
      have e : (vp_cell (ac 4) (n0, .inr (.inr (.inr (.inr f))))).slots.getD (sp.toNatClampNeg + i) .null = va_rf (f (sp.toNatClampNeg + i)) := by
        show (arrV (ac 4) n0 (fun j => va_rf (f j))).slots.getD _ _ = _
        rw [Array.getD_eq_getD_getElem?, arrV_read _ _ (by omega)]
        rfl
      rw [e]
      cases hy : f (sp.toNatClampNeg + i) with
      | none => exact ⟨rfl, trivial⟩
      | some y =>
        obtain ⟨cellV, g1, g2, ⟨kC, hkC⟩, hasg⟩ := elB_any hN hK hP hel hi hy
        obtain ⟨kA, comp, r1, r2, r3, -⟩ := (hK.2 4 _ hty).2
        cases hk1.symm.trans r1
        cases hkk1.symm.trans r2
        obtain ⟨kE, hkE, -⟩ := Vm.findClass_spec r3
        obtain ⟨kC', hkC', -⟩ := hal.2.2 _ _ hkC
        obtain ⟨kE', hkE', -⟩ := hal.2.2 _ _ hkE
        refine ⟨rfl, cellV, (show T.heap[y]? = some cellV by rw [hT]; exact g1), (fun q h => by rw [h] at g2; cases g2), ⟨kC', hkC'⟩, ⟨kE', hkE'⟩, ?_⟩
        show vm₁.assignable _ _ = true
        rw [hal.assignable]
        exact hasg _ r3)
    (g := F0 m pc LS (.int n :: .int dp :: .ref b :: .int sp :: .ref a :: rest)) rfl (by rw [hml]) (rest := rest) rfl (by rw [hb]; exact hdg) hframes (by show 2 * 0 + _ + _ ≤ _; omega)
  have e1 : copied (vp_cell (ac 4) (n0, .inr (.inr (.inr (.inr f))))) (vp_cell (ac 4) (n1, .inr (.inr (.inr (.inr g))))) sp dp n = vp_cell (ac 4) (n1, .inr (.inr (.inr (.inr (va_cpy f g sp.toNatClampNeg dp.toNatClampNeg n.toNatClampNeg))))) := by
    rw [vp_cell_q, vp_cell_q, vp_cell_q]
    exact va_copied (fun z => va_rf z) (ac 4) (ac 4) f g h4
  rw [e1] at X' step
  have hl : b < H.size := (Array.getElem?_eq_some_iff.mp hc1).1
  have hheap : ((T.setVm vm').setCell b (vp_cell (ac 4) (n1, .inr (.inr (.inr (.inr (va_cpy f g sp.toNatClampNeg dp.toNatClampNeg n.toNatClampNeg))))))).heap = H.setIfInBounds b (vp_cell (ac 4) (n1, .inr (.inr (.inr (.inr (va_cpy f g sp.toNatClampNeg dp.toNatClampNeg n.toNatClampNeg)))))) := by rw [← hT]; rfl
  have oq : ∀ q : Nat, q ≠ b → (H.setIfInBounds b (vp_cell (ac 4) (n1, .inr (.inr (.inr (.inr (va_cpy f g sp.toNatClampNeg dp.toNatClampNeg n.toNatClampNeg)))))))[q]? = H[q]? := fun q hq => by simp [Array.getElem?_setIfInBounds, Ne.symm hq]
  obtain ⟨t, a1, b1⟩ := kk _ _ (hP.set hb2 rfl (show (H.setIfInBounds b _)[b]? = some _ by simp [Array.getElem?_setIfInBounds, hl]; rfl) (by simp) oq (hn := nz_n (show n1 ≠ 0 by omega))) ⟨by simp; exact hS.1, fun q g1 g2 => by
      rw [oq q (fun e => g2 (by rw [e]; exact hA))]
      exact hS.2.1 q g1 g2, fun q hq => by
      rcases List.mem_append.mp hq with h | h
      · exact hS.2.2 q h
      · obtain ⟨z, -, hz⟩ := List.mem_map.mp h
        rw [← hz]
        exact hA⟩ _ hheap X'
  exact ⟨t, step t a1, b1⟩
end
section
variable {l : Launch} {D : va_G} {ac : Nat → ClassId} {A : Nat → Prop} {zs : Nat → Nat}
theorem cpyB_sp {i j n : Int32} {la lb : Nat} (h : cpyB i j n la lb = true) : ¬ i < 0 ∧ ¬ j < 0 ∧ ¬ n < 0 ∧ i.toNatClampNeg + n.toNatClampNeg ≤ la ∧ j.toNatClampNeg + n.toNatClampNeg ≤ lb ∧ 0 < n.toNatClampNeg := by
  unfold cpyB at h
  rw [Bool.and_eq_true, decide_eq_true_eq, decide_eq_true_eq] at h
  obtain ⟨⟨h1, h2, h3⟩, h4, h5⟩ := h
  refine ⟨Int32.not_lt.mpr h1, Int32.not_lt.mpr h2, Int32.not_lt.mpr (Int32.le_of_lt h3), h4, h5, ?_⟩
  have h9 := clampI (Int32.not_lt.mpr (Int32.le_of_lt h3))
  have h8 : (0 : Int) < n.toInt := by simpa using Int32.lt_iff_toInt_lt.mp h3
  omega
theorem J6 : JK l D ac A zs (Jc zs) 6 := by
  intro As σ v σ' h
  obtain ⟨a, b, i, j, n, rfl, h9⟩ := Jc_6 h
  clear h
  have h := h9
  have hw : nativeFrameWords "java/lang/System" "arraycopy" 5 + 11 ≤ 30 := by decide
  unfold Jcpy at h
  split at h
  · rename_i la f lb g ha hb2
    split at h
    · rename_i hc
      cases h
      obtain ⟨c1, c2, c3, c4, c5, c6⟩ := cpyB_sp hc
      refine ⟨Nat.le_refl _, Nat.le_refl _, fun o idx tag n hi hn => ?_⟩
      obtain ⟨hl, hs⟩ := il_ok hi
      cases hs
      intro p e d nc ns s m args below meth c cc H locs cells slots Q pc LS rest hx hb hml hown hts hN hK hZ hP hS hcat hc1 hc2 hd kk
      have hcat : (rest.map fun v => v.category).sum ≤ 8 := hcat
      refine cr_copyI (rest := rest) hx hb hml hown (hts _ hl) hts hK hP hS ha hb2 c1 c2 c3 c4 c5 (by show 1 ≤ d + 8; omega) (by show _ ≤ 64 * (d + 8); omega) hd (fun H1 locs1 hP1 hS1 => ?_)
      exact same0 (W0 := fun a b => W p l e (rmC d nc ns) s m args below meth c H1 locs1 a b Q (F0 m (pc + 3) LS rest)) (kk H1 locs1 hP1 hS1)
    · cases h
  · rename_i la f lb g ha hb2
    split at h
    · rename_i hc
      cases h
      obtain ⟨hc, hel⟩ := hc
      obtain ⟨c1, c2, c3, c4, c5, c6⟩ := cpyB_sp hc
      refine ⟨Nat.le_refl _, Nat.le_refl _, fun o idx tag n hi hn => ?_⟩
      obtain ⟨hl, hs⟩ := il_ok hi
      cases hs
      intro p e d nc ns s m args below meth c cc H locs cells slots Q pc LS rest hx hb hml hown hts hN hK hZ hP hS hcat hc1 hc2 hd kk
      have hcat : (rest.map fun v => v.category).sum ≤ 8 := hcat
      refine cr_copyR (rest := rest) hx hb hml hown (hts _ hl) hts hN hK hP hS ha hb2 c1 c2 c3 c4 c5 hel c6 (by show 1 ≤ d + 8; omega) (by show _ ≤ 64 * (d + 8); omega) hd (fun H1 locs1 hP1 hS1 => ?_)
      exact same0 (W0 := fun a b => W p l e (rmC d nc ns) s m args below meth c H1 locs1 a b Q (F0 m (pc + 3) LS rest)) (kk H1 locs1 hP1 hS1)
    · cases h
  · cases h
end
