/-! CALLS THAT ARE TAKEN AS ONE STEP: Arrays.copyOf, Long.valueOf -/
set_option maxRecDepth 100000
abbrev cJ15_valueOf : ByteArray := prog_51_method_24_code
theorem dJ15_valueOf_0 : decode cJ15_valueOf 0 = .ok (.sipush 128, 3) := dk_17 0 128 (dk_all 0 (by decide +kernel))
theorem dJ15_valueOf_3 : decode cJ15_valueOf 3 = .ok (.istore_n 2, 1) := dk_61 (dk_all 3 (by decide +kernel))
theorem dJ15_valueOf_4 : decode cJ15_valueOf 4 = .ok (.lload_n 0, 1) := dk_30 (dk_all 4 (by decide +kernel))
theorem dJ15_valueOf_5 : decode cJ15_valueOf 5 = .ok (.ldc2_w 230, 3) := dk_20 0 230 (dk_all 5 (by decide +kernel))
theorem dJ15_valueOf_8 : decode cJ15_valueOf 8 = .ok (.lcmp, 1) := dk_148 (dk_all 8 (by decide +kernel))
theorem dJ15_valueOf_9 : decode cJ15_valueOf 9 = .ok (.ifCond .lt 22, 3) := dk_155 0 22 (dk_all 9 (by decide +kernel))
theorem dJ15_valueOf_12 : decode cJ15_valueOf 12 = .ok (.lload_n 0, 1) := dk_30 (dk_all 12 (by decide +kernel))
theorem dJ15_valueOf_13 : decode cJ15_valueOf 13 = .ok (.ldc2_w 232, 3) := dk_20 0 232 (dk_all 13 (by decide +kernel))
theorem dJ15_valueOf_16 : decode cJ15_valueOf 16 = .ok (.lcmp, 1) := dk_148 (dk_all 16 (by decide +kernel))
theorem dJ15_valueOf_17 : decode cJ15_valueOf 17 = .ok (.ifCond .gt 14, 3) := dk_157 0 14 (dk_all 17 (by decide +kernel))
theorem dJ15_valueOf_20 : decode cJ15_valueOf 20 = .ok (.getstatic 234, 3) := dk_178 0 234 (dk_all 20 (by decide +kernel))
theorem dJ15_valueOf_23 : decode cJ15_valueOf 23 = .ok (.lload_n 0, 1) := dk_30 (dk_all 23 (by decide +kernel))
theorem dJ15_valueOf_24 : decode cJ15_valueOf 24 = .ok (.l2i, 1) := dk_136 (dk_all 24 (by decide +kernel))
theorem dJ15_valueOf_25 : decode cJ15_valueOf 25 = .ok (.sipush 128, 3) := dk_17 0 128 (dk_all 25 (by decide +kernel))
theorem dJ15_valueOf_28 : decode cJ15_valueOf 28 = .ok (.iadd, 1) := dk_96 (dk_all 28 (by decide +kernel))
theorem dJ15_valueOf_29 : decode cJ15_valueOf 29 = .ok (.aaload, 1) := dk_50 (dk_all 29 (by decide +kernel))
theorem dJ15_valueOf_30 : decode cJ15_valueOf 30 = .ok (.areturn, 1) := dk_176 (dk_all 30 (by decide +kernel))
theorem dJ15_valueOf_31 : decode cJ15_valueOf 31 = .ok (.new 1, 3) := dk_187 0 1 (dk_all 31 (by decide +kernel))
theorem dJ15_valueOf_34 : decode cJ15_valueOf 34 = .ok (.dup, 1) := dk_89 (dk_all 34 (by decide +kernel))
theorem dJ15_valueOf_35 : decode cJ15_valueOf 35 = .ok (.lload_n 0, 1) := dk_30 (dk_all 35 (by decide +kernel))
theorem dJ15_valueOf_36 : decode cJ15_valueOf 36 = .ok (.invokespecial 240, 3) := dk_183 0 240 (dk_all 36 (by decide +kernel))
theorem dJ15_valueOf_39 : decode cJ15_valueOf 39 = .ok (.areturn, 1) := dk_176 (dk_all 39 (by decide +kernel))
section
variable {l : Launch} {D : va_G} {ac : Nat → ClassId} {A : Nat → Prop} {zs : Nat → Nat}
theorem cpPc_blind {a mi : Nat} {n : Int32} {σ : CM} : FrameBlind (cpPc D ac A zs a n mi σ) := by
  intro v U g mk q
  exact ⟨cPc_blind v U g mk q.1, va_Mi.al (u := U) (U := U.calling g mk v) (Vm.Alike.refl U.vm) q.2⟩
theorem c_copy2 {d a la : Nat} {n : Int32} {σ : CM} {f : Nat → Option Nat} (ha : gC σ a = some (.inr (4, la, .inr (.inr (.inr (.inr f)))))) (h0 : 0 ≤ n) (h1 : n ≤ 100000) (h2 : la ≤ n.toNatClampNeg) (hel : elB σ f 0 la = true) (hla : 0 < la) :
    Met l yCopy2 (ws_ yCopy2 cJ13_copyOf 2 (some (.array (.object "java/lang/Object")))) { frames := d + 4, cells := 1, slots := n.toNatClampNeg, locals := 64 * (d + 4) } (cPc D ac A zs [.ref a, .int n] σ) (cQc D ac A (.inl (some (.ref σ.1)), aC σ n.toNatClampNeg (.inr (4, n.toNatClampNeg, .inr (.inr (.inr (.inr (fun k => if k < la then f k else none)))))))) 1 n.toNatClampNeg A := by
  refine Met.ofW (cc := cJ13_copyOf) (maxL := 2) (ret := some (.array (.object "java/lang/Object"))) (by decide) rfl ?_
  intro p e s m args below meth c s₁ B hml hv
  obtain ⟨rfl, hP, hK, hN, hZ⟩ := hv
  have hts0 := atoms_spec (ws := ws_ yCopy2 cJ13_copyOf 2 (some (.array (.object "java/lang/Object")))) B.pre
  have hts : ∀ w ∈ lw_all, w.before _ s = true := fun w h => hts0 w (List.mem_cons_of_mem _ h)
  have hown : s.vm.findClass "java/util/Arrays" = some m.cls := findClass_of_methodNamed B.named
  have hx := B.exec
  have hb := B.bytes
  have hS : va_S A s.heap s.heap [] := va_S.rf
  obtain ⟨mi, hMi⟩ := hZ.2.2.2.mi
  rw [lg_entry_eq]
  have hL := LH.entry (vs := [.ref a, .int n]) (n := 2) (by show 2 ≤ 2; decide)
  generalize ((lg_sl [Value.ref a, .int n] ++ List.replicate (2 - (lg_sl [Value.ref a, .int n]).length) Slot.unset).toArray) = LS at hL ⊢
  refine stp_sound hx hb dJ13_copyOf_0 (q := (1, [some (.ref a), some (.int n)], [.ref a])) rfl hL (fun LS hL => ?_)
  refine stp_sound hx hb dJ13_copyOf_1 (q := (2, [some (.ref a), some (.int n)], [.int n, .ref a])) rfl hL (fun LS hL => ?_)
  refine stp_sound hx hb dJ13_copyOf_2 (q := (3, [some (.ref a), some (.int n)], [.ref a, .int n, .ref a])) rfl hL (fun LS hL => ?_)
  have hc0 : s.heap[a]? = some (vp_cell (ac 4) (la, .inr (.inr (.inr (.inr f))))) := (hP.at ha (nz_n (show la ≠ 0 by omega))).1
  have hty : (cTys ac)[4]? = some (ac 4, .object "java/lang/Object") := cTys_at (by decide)
  refine va_getC hx hb (by rw [hml]; exact hL.2.1.symm) hown (hts _ (lw_g (lw_at lw_m5 26 rfl) rfl)) (va_Nw.use rfl (hN.1 _ (nw_mem (lw_at lw_m12 105 rfl) rfl))) (hts _ (lw_g (lw_at lw_m12 104 rfl) rfl)) (hts _ (lw_g (lw_at lw_m5 27 rfl) rfl)) (hts _ (lw_g (lw_at lw_m5 69 rfl) rfl)) hMi ⟨_, hc0, rfl, va_nmO (hK.2 4 _ hty).2 rfl⟩ (by show 1 ≤ d + 4; omega) (by show 2 + 14 ≤ 64 * (d + 4); omega) dJ13_copyOf_3 ?_
  have hrun := (ce_49_300_99).1 p l e { frames := d + 4, cells := 1, slots := n.toNatClampNeg, locals := 64 * (d + 4) } s m _ below meth c cJ13_copyOf 2 s.heap [] 0 0 { frames := d + 3, cells := 1, slots := n.toNatClampNeg, locals := 64 * (d + 3) } (cpPc D ac A zs a n mi σ) _ 1 n.toNatClampNeg A [.ref a, .int n, .ref mi] [] 6 LS ⟨hx, hb, hml, hown, hts⟩ hN (c_copy3 ha h0 h1 h2 hel hla) rfl rfl (by show d + 3 + 1 ≤ d + 4; omega) (by show 8 + (4 + 11) + 64 * (d + 3) ≤ 64 * (d + 4); omega) ⟨cpPc_blind, fun U hU hW => ⟨⟨rfl, by rw [hU]; exact hP, va_K.moved hW.alike hK, hN.warm hW, hZ.go hW hS hU⟩, va_Mi.al hW.alike hMi⟩⟩ (fun h => by cases h) rfl hL.2.1 (by decide) dJ13_copyOf_6 (by show 0 + 1 ≤ 1; omega) (by show 0 + n.toNatClampNeg ≤ n.toNatClampNeg; omega)
  refine c_callG hrun hS (fun H1 locs1 hP1 hS1 => ?_)
  have e1 : 0 + 1 = 1 := rfl
  have e2 : 0 + n.toNatClampNeg = n.toNatClampNeg := Nat.zero_add _
  rw [e1, e2]
  exact W.aret hx hb B.returns (Or.inr ⟨_, rfl⟩) (Or.inr ⟨_, rfl⟩) (fun t ht hW => ⟨rfl, by rw [ht]; exact hP1, hS1.F ht⟩) hS1.2.2 dJ13_copyOf_9 B.notSynchronized
theorem Jc_7 {σ : CM} {r : Option Value × CM} {As : List Value} (h : Jc zs 7 As σ = some r) : ∃ a n, As = [.ref a, .int n] ∧ Jgro σ a n = some r := by
  rcases As with _ | ⟨a, _ | ⟨b, _ | ⟨c, t⟩⟩⟩
  · cases h
  · cases a <;> cases h
  · cases a <;> cases b <;> first | (cases h; done) | exact ⟨_, _, rfl, h⟩
  · cases a <;> cases b <;> cases h
theorem J7 : JK l D ac A zs (Jc zs) 7 := by
  intro As σ v σ' h
  obtain ⟨a, n, rfl, h9⟩ := Jc_7 h
  obtain ⟨la, f, ha, h0, h1, h2, hel, hla, hr⟩ := Jgro_sp h9
  cases hr
  refine ⟨Nat.le_succ _, Nat.le_add_right _ _, fun o idx tag n' hi hn => ?_⟩
  obtain ⟨hl, hs⟩ := il_ok hi
  cases hs
  intro p e d nc ns s m args below meth c cc H locs cells slots Q pc LS rest hx hb hml hown hts hN hK hZ hP hS hcat hc1 hc2 hd kk
  have e1 : (aC σ n.toNatClampNeg (.inr (4, n.toNatClampNeg, .inr (.inr (.inr (.inr (fun k => if k < la then f k else none))))))).1 - σ.1 = 1 := by show σ.1 + 1 - σ.1 = 1; omega
  have e2 : (aC σ n.toNatClampNeg (.inr (4, n.toNatClampNeg, .inr (.inr (.inr (.inr (fun k => if k < la then f k else none))))))).2.1 - σ.2.1 = n.toNatClampNeg := by show σ.2.1 + n.toNatClampNeg - σ.2.1 = _; omega
  rw [e1] at hc1
  rw [e2] at hc2
  rw [e1, e2] at kk
  have hcok : COK (.invokestatic idx) (oN o) false none yCopy2 cJ13_copyOf (some (.array (.object "java/lang/Object"))) 2 2 := COK.S hl ((lw_g (lw_at lw_m5 24 rfl) rfl)) qj_ai ((lw_g (lw_at lw_m5 25 rfl) rfl)) ⟨by decide, by decide, by decide +kernel⟩
  have hrun := hcok p l e (rmC d nc ns) s m args below meth c cc LS.size H locs cells slots { frames := d + 4, cells := 1, slots := n.toNatClampNeg, locals := 64 * (d + 4) } (cPc D ac A zs [.ref a, .int n] σ) _ 1 n.toNatClampNeg A [.ref a, .int n] rest pc LS ⟨hx, hb, hml, hown, hts⟩ hN (c_copy2 ha h0 h1 h2 hel hla) rfl rfl (by show d + 4 + 1 ≤ d + 8; omega) (by show 8 + (2 + 11) + 64 * (d + 4) ≤ 64 * (d + 8); omega) ⟨cPc_blind, fun U hU hW => ⟨rfl, by rw [hU]; exact hP, va_K.moved hW.alike hK, hN.warm hW, hZ.go hW hS hU⟩⟩ (fun h => by cases h) rfl rfl hcat hd (by show cells + 1 ≤ nc; omega) (by show slots + n.toNatClampNeg ≤ ns; omega)
  exact c_callG hrun hS (fun H1 locs1 hP1 hS1 => kk H1 locs1 hP1 hS1)
end
