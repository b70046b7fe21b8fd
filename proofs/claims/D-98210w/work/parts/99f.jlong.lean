/-! A RUN OF THE COMPONENT's METHOD IS ITS CONTRACT; Long.valueOf -/
set_option maxRecDepth 100000
abbrev cJ15_init : ByteArray := prog_51_method_26_code
theorem dJ15_init_0 : decode cJ15_init 0 = .ok (.aload_n 0, 1) := dk_42 (dk_all 0 (by decide +kernel))
theorem dJ15_init_1 : decode cJ15_init 1 = .ok (.invokespecial 270, 3) := dk_183 1 14 (dk_all 1 (by decide +kernel))
theorem dJ15_init_4 : decode cJ15_init 4 = .ok (.aload_n 0, 1) := dk_42 (dk_all 4 (by decide +kernel))
theorem dJ15_init_5 : decode cJ15_init 5 = .ok (.lload_n 1, 1) := dk_31 (dk_all 5 (by decide +kernel))
theorem dJ15_init_6 : decode cJ15_init 6 = .ok (.putfield 273, 3) := dk_181 1 17 (dk_all 6 (by decide +kernel))
theorem dJ15_init_9 : decode cJ15_init 9 = .ok (.return_, 1) := dk_177 (dk_all 9 (by decide +kernel))
abbrev cJ14_init : ByteArray := prog_54_method_1_code
theorem dJ14_init_0 : decode cJ14_init 0 = .ok (.aload_n 0, 1) := by decide +kernel
theorem dJ14_init_1 : decode cJ14_init 1 = .ok (.invokespecial 1, 3) := by decide +kernel
theorem dJ14_init_4 : decode cJ14_init 4 = .ok (.return_, 1) := by decide +kernel
theorem c_contract {l : Launch} {D : va_G} {ac : Nat → ClassId} {A : Nat → Prop} {zs : Nat → Nat} {J : CJ} (hJ : JOK l D ac A zs J) {y : MethodName} {cc : ByteArray} {rt : Option FieldType} {o2 md nL d : Nat} {As : List Value} {σ : CM} {r : CR} (h : EC zs J d cc rt o2 md 0 (lent As nL) [] σ (fun q => q = r)) (hcls : y.cls = oN o2) (hpl : plainName y.cls = true) (hmd : hnd md = none) (hini : md = 9 → y.name = "<init>") (hlen : (lg_sl As).length ≤ nL) :
    leM σ r.2 ∧ cMet l D ac A y (ws_ y cc nL rt) (rmC d (r.2.1 - σ.1) (r.2.2.1 - σ.2.1)) (cPc D ac A zs As σ) r (r.2.1 - σ.1) (r.2.2.1 - σ.2.1) := by
  obtain ⟨q, ⟨n, hn⟩, rfl⟩ := h
  exact ⟨cxv_mono hJ.mono _ _ _ _ hn, c_met (c_sound hJ n) hn hcls hpl hmd hini hlen⟩
def rmS (n mc ms : Nat) : Room := { frames := n, cells := mc, slots := ms, locals := 64 * n }
section
variable {l : Launch} {D : va_G} {ac : Nat → ClassId} {A : Nat → Prop} {zs : Nat → Nat}
theorem c_numInit {a : Nat} {σ : CM} : Met l ⟨"java/lang/Number", "<init>", "()V"⟩ (ws_ ⟨"java/lang/Number", "<init>", "()V"⟩ cJ14_init 1 none) (rmS 1 0 0) (cPc D ac A zs [.ref a] σ) (cQc D ac A (.inl none, σ)) 0 0 A := by
  refine Met.ofW (cc := cJ14_init) (maxL := 1) (ret := none) (by decide) rfl ?_
  intro p e s m args below meth c s₁ B hml hv
  obtain ⟨rfl, hP, hK, hN, hZ⟩ := hv
  have hts0 := atoms_spec (ws := ws_ ⟨"java/lang/Number", "<init>", "()V"⟩ cJ14_init 1 none) B.pre
  have hts : ∀ w ∈ lw_all, w.before _ s = true := fun w h => hts0 w (List.mem_cons_of_mem _ h)
  have hown : s.vm.findClass "java/lang/Number" = some m.cls := findClass_of_methodNamed B.named
  have hx := B.exec
  have hb := B.bytes
  have hS : va_S A s.heap s.heap [] := va_S.rf
  rw [lg_entry_eq]
  have hL := LH.entry (vs := [.ref a]) (n := 1) (by show 1 ≤ 1; decide)
  generalize ((lg_sl [Value.ref a] ++ List.replicate (1 - (lg_sl [Value.ref a]).length) Slot.unset).toArray) = LS at hL ⊢
  refine stp_sound hx hb dJ14_init_0 (q := (1, [some (.ref a)], [.ref a])) rfl hL (fun LS hL => ?_)
  refine W.objInit hx hb hown (hts _ (lw_g (lw_at lw_m5 100 rfl) rfl)) (hts _ qj_oi) (hts _ qj_oc) (g := F0 m 1 LS [.ref a]) rfl (by rw [hml]; exact hL.2.1) rfl dJ14_init_1 (by show 1 ≤ 1; decide) (by show 2 * 0 + 0 + 12 ≤ 64; decide) ?_
  exact W.vret hx hb B.returns (fun t ht hW => ⟨rfl, by rw [ht]; exact hP, hS.F ht⟩) hS.2.2 dJ14_init_4 B.notSynchronized
theorem c_longInit {a : Nat} {x : Int64} {v0 : Value} {σ : CM} (ha : gC σ a = some (.inl (37, [v0]))) : Met l ⟨"java/lang/Long", "<init>", "(J)V"⟩ (ws_ ⟨"java/lang/Long", "<init>", "(J)V"⟩ cJ15_init 3 none) (rmS 2 0 0) (cPc D ac A zs [.ref a, .long x] σ) (cQc D ac A (.inl none, pC σ a (.inl (37, [.long x])))) 0 0 A := by
  refine Met.ofW (cc := cJ15_init) (maxL := 3) (ret := none) (by decide) rfl ?_
  intro p e s m args below meth c s₁ B hml hv
  obtain ⟨rfl, hP, hK, hN, hZ⟩ := hv
  have hts0 := atoms_spec (ws := ws_ ⟨"java/lang/Long", "<init>", "(J)V"⟩ cJ15_init 3 none) B.pre
  have hts : ∀ w ∈ lw_all, w.before _ s = true := fun w h => hts0 w (List.mem_cons_of_mem _ h)
  have hown : s.vm.findClass "java/lang/Long" = some m.cls := findClass_of_methodNamed B.named
  have hx := B.exec
  have hb := B.bytes
  have hS : va_S A s.heap s.heap [] := va_S.rf
  rw [lg_entry_eq]
  have hL := LH.entry (vs := [.ref a, .long x]) (n := 3) (by show 3 ≤ 3; decide)
  generalize ((lg_sl [Value.ref a, .long x] ++ List.replicate (3 - (lg_sl [Value.ref a, .long x]).length) Slot.unset).toArray) = LS at hL ⊢
  refine stp_sound hx hb dJ15_init_0 (q := (1, [some (.ref a), some (.long x), none], [.ref a])) rfl hL (fun LS hL => ?_)
  have hrun := (ce_37_270_99).1 p l e (rmS 2 0 0) s m _ below meth c cJ15_init 3 s.heap [] 0 0 (rmS 1 0 0) _ _ 0 0 A [.ref a] [] 1 LS ⟨hx, hb, hml, hown, hts⟩ hN (c_numInit (l := l) (D := D) (ac := ac) (A := A) (zs := zs) (a := a) (σ := σ)) rfl rfl (by show 1 + 1 ≤ 2; decide) (by show 8 + (1 + 11) + 64 ≤ 64 * 2; decide) ⟨cPc_blind, fun U hU hW => ⟨rfl, by rw [hU]; exact hP, va_K.moved hW.alike hK, hN.warm hW, hZ.go hW hS hU⟩⟩ (fun _ => ⟨_, _, rfl, fun CC hC => by cases hC⟩) rfl hL.2.1 (by decide) dJ15_init_1 (by decide) (by decide)
  refine c_callG hrun hS (fun H1 locs1 hP1 hS1 => ?_)
  refine stp_sound hx hb dJ15_init_4 (q := (5, [some (.ref a), some (.long x), none], [.ref a])) rfl hL (fun LS hL => ?_)
  refine stp_sound hx hb dJ15_init_5 (q := (6, [some (.ref a), some (.long x), none], [.long x, .ref a])) rfl hL (fun LS hL => ?_)
  refine cr_put (ci := 37) (k := 0) hx hb hts hN hown hK hP1 hS1 ha (by decide) (fpk_ok (o := 37) fpk_37_273_37) (by show 0 < 1; decide) rfl (Or.inr ⟨(name_of_methodNamed B.named B.method).1, rfl⟩) dJ15_init_6 (fun H2 locs2 hP2 hS2 => ?_)
  exact W.vret hx hb B.returns (fun t ht hW => ⟨rfl, by rw [ht]; exact hP2, hS2.F ht⟩) hS2.2.2 dJ15_init_9 B.notSynchronized
end
theorem small_ix {v : Int64} (h1 : -128 ≤ v) (h2 : v ≤ 127) : vp_in (v.toInt32 + 128) 256 ∧ (v.toInt32 + 128).toNatClampNeg = (v + 128).toNatClampNeg ∧ (v + 128).toNatClampNeg < 256 := by
  have a1 := Int64.le_iff_toInt_le.mp h1
  have a2 := Int64.le_iff_toInt_le.mp h2
  have b1 : (-128 : Int64).toInt = -128 := by decide
  have b2 : (127 : Int64).toInt = 127 := by decide
  have b3 : (128 : Int64).toInt = 128 := by decide
  have b4 : (128 : Int32).toInt = 128 := by decide
  have e1 : v.toInt32.toInt = v.toInt := by rw [Int64.toInt_toInt32]; exact Int.bmod_eq_of_le (by omega) (by omega)
  have e2 : (v.toInt32 + 128).toInt = v.toInt + 128 := by rw [Int32.toInt_add, e1, b4]; exact Int.bmod_eq_of_le (by omega) (by omega)
  have e3 : (v + 128).toInt = v.toInt + 128 := by rw [Int64.toInt_add, b3]; exact Int.bmod_eq_of_le (by omega) (by omega)
  have e4 : (v.toInt32 + 128).toNatClampNeg = (v.toInt + 128).toNat := by show (v.toInt32 + 128).toInt.toNat = _; rw [e2]
  have e5 : (v + 128).toNatClampNeg = (v.toInt + 128).toNat := by show (v + 128).toInt.toNat = _; rw [e3]
  refine ⟨?_, by rw [e4, e5], by rw [e5]; omega⟩
  rintro (h | h)
  · have := Int32.lt_iff_toInt_lt.mp h
    have b5 : (0 : Int32).toInt = 0 := by decide
    omega
  · rw [e4] at h; omega
theorem Z0.lc {zs : Nat → Nat} {A : Nat → Prop} {U : State} {H : Heap} (h : Z0 zs A U H) : va_Z "java/lang/Long$LongCache" "cache" "[Ljava/lang/Long;" (.ref (zs 104)) A U H ∧ va_T (.object "java/lang/Long") (zs 104) 256 (fun j => .ref (zs (200 + j))) A U H := by
  obtain ⟨s0, a0, h1, h2, h3, h4, h5, h6⟩ := h
  have hs := flat_of_before _ h1
  have hA : ∀ a : Nat, a < s0.heap.size → ¬ A a := fun a ha => (h5 a ha).1
  have hq : ∀ a : Nat, a < s0.heap.size → ¬ A a → H[a]? = s0.heap[a]? := fun a ha _ => (h5 a ha).2
  refine ⟨va_Z.moved h3.alike (va_Z.kept (va_Zof (h2 _ ((lw_at lw_m5 91 rfl))) (h2 _ ((lw_at lw_m1 44 rfl))) h6.2.2.1 hA) hq), ?_⟩
  obtain ⟨t, ht, hT⟩ := va_Tof (tm := Term.static "java/lang/Long$LongCache" "cache" "[Ljava/lang/Long;") (ty := .object "java/lang/Long") (N := 256) (f := fun j => .ref (zs (200 + j))) (A := A) (by decide) (hs (Cond.arrayOf (Term.static "java/lang/Long$LongCache" "cache" "[Ljava/lang/Long;") (.object "java/lang/Long")) (by decide +kernel)) (va_eqt (hs (Cond.eq (.length (Term.static "java/lang/Long$LongCache" "cache" "[Ljava/lang/Long;")) (.int 256)) (by decide +kernel))) (fun j hj => h6.2.2.2 j hj) hA
  have he := Option.some.inj (ht.symm.trans h6.2.2.1)
  cases he
  exact va_T.moved h3.alike (hT.kept hq)
def yVal : MethodName := ⟨"java/lang/Long", "valueOf", "(J)Ljava/lang/Long;"⟩
section
variable {l : Launch} {D : va_G} {ac : Nat → ClassId} {A : Nat → Prop} {zs : Nat → Nat}
theorem c_valS {v : Int64} {σ : CM} (h1 : -128 ≤ v) (h2 : v ≤ 127) : Met l yVal (ws_ yVal cJ15_valueOf 3 (some (.object "java/lang/Long"))) (rmS 3 0 0) (cPc D ac A zs [.long v] σ) (cQc D ac A (.inl (some (.ref (zs (200 + (v + 128).toNatClampNeg)))), σ)) 0 0 A := by
  obtain ⟨i1, i2, i3⟩ := small_ix h1 h2
  refine Met.ofW (cc := cJ15_valueOf) (maxL := 3) (ret := some (.object "java/lang/Long")) (by decide) rfl ?_
  intro p e s m args below meth c s₁ B hml hv
  obtain ⟨rfl, hP, hK, hN, hZ⟩ := hv
  have hts0 := atoms_spec (ws := ws_ yVal cJ15_valueOf 3 (some (.object "java/lang/Long"))) B.pre
  have hts : ∀ w ∈ lw_all, w.before _ s = true := fun w h => hts0 w (List.mem_cons_of_mem _ h)
  have hown : s.vm.findClass "java/lang/Long" = some m.cls := findClass_of_methodNamed B.named
  have hx := B.exec
  have hb := B.bytes
  have hS : va_S A s.heap s.heap [] := va_S.rf
  obtain ⟨hZc, hTc⟩ := hZ.2.2.2.lc
  rw [lg_entry_eq]
  have hL := LH.entry (vs := [.long v]) (n := 3) (by show 2 ≤ 3; decide)
  generalize ((lg_sl [Value.long v] ++ List.replicate (3 - (lg_sl [Value.long v]).length) Slot.unset).toArray) = LS at hL ⊢
  refine stp_sound hx hb dJ15_valueOf_0 (q := (3, [some (.long v), none, none], [.int 128])) rfl hL (fun LS hL => ?_)
  refine stp_sound hx hb dJ15_valueOf_3 (q := (4, [some (.long v), none, some (.int 128)], [])) rfl hL (fun LS hL => ?_)
  refine stp_sound hx hb dJ15_valueOf_4 (q := (5, [some (.long v), none, some (.int 128)], [.long v])) rfl hL (fun LS hL => ?_)
  refine lv_ldc2 (v := -128) hx hb hown (hts _ (lw_g (lw_at lw_m5 88 rfl) rfl)) dJ15_valueOf_5 ?_
  refine stp_sound hx hb dJ15_valueOf_8 (q := (9, [some (.long v), none, some (.int 128)], [.int (lg_cmp v (-128))])) rfl hL (fun LS hL => ?_)
  refine stp_sound hx hb dJ15_valueOf_9 (q := (12, [some (.long v), none, some (.int 128)], [])) (by simp [stp, sF1, jmp, lg_cmp_lt, Int64.not_lt.mpr h1]) hL (fun LS hL => ?_)
  refine stp_sound hx hb dJ15_valueOf_12 (q := (13, [some (.long v), none, some (.int 128)], [.long v])) rfl hL (fun LS hL => ?_)
  refine lv_ldc2 (v := 127) hx hb hown (hts _ (lw_g (lw_at lw_m5 89 rfl) rfl)) dJ15_valueOf_13 ?_
  refine stp_sound hx hb dJ15_valueOf_16 (q := (17, [some (.long v), none, some (.int 128)], [.int (lg_cmp v 127)])) rfl hL (fun LS hL => ?_)
  refine stp_sound hx hb dJ15_valueOf_17 (q := (20, [some (.long v), none, some (.int 128)], [])) (by simp [stp, sF1, jmp, lg_cmp_gt, Int64.not_lt.mpr h2]) hL (fun LS hL => ?_)
  refine va_gets hx hb hZc hS hown (hts _ (lw_g (lw_at lw_m5 90 rfl) rfl)) (fun x hx => hx) dJ15_valueOf_20 ?_
  refine stp_sound hx hb dJ15_valueOf_23 (q := (24, [some (.long v), none, some (.int 128)], [.long v, .ref (zs 104)])) rfl hL (fun LS hL => ?_)
  refine stp_sound hx hb dJ15_valueOf_24 (q := (25, [some (.long v), none, some (.int 128)], [.int v.toInt32, .ref (zs 104)])) rfl hL (fun LS hL => ?_)
  refine stp_sound hx hb dJ15_valueOf_25 (q := (28, [some (.long v), none, some (.int 128)], [.int 128, .int v.toInt32, .ref (zs 104)])) rfl hL (fun LS hL => ?_)
  refine stp_sound hx hb dJ15_valueOf_28 (q := (29, [some (.long v), none, some (.int 128)], [.int (v.toInt32 + 128), .ref (zs 104)])) rfl hL (fun LS hL => ?_)
  refine vb_tq hx hb hTc hS i1 (v := .ref (zs (200 + (v + 128).toNatClampNeg))) (by rw [i2]) dJ15_valueOf_29 ?_
  exact W.aret hx hb B.returns (Or.inl ⟨_, rfl⟩) (Or.inr ⟨_, rfl⟩) (fun t ht hW => ⟨rfl, by rw [ht]; exact hP, hS.F ht⟩) hS.2.2 dJ15_valueOf_30 B.notSynchronized
theorem c_valB {v : Int64} {σ : CM} (h : ¬ (-128 ≤ v ∧ v ≤ 127)) : Met l yVal (ws_ yVal cJ15_valueOf 3 (some (.object "java/lang/Long"))) (rmS 3 1 1) (cPc D ac A zs [.long v] σ) (cQc D ac A (.inl (some (.ref σ.1)), aC σ 1 (.inl (37, [.long v])))) 1 1 A := by
  refine Met.ofW (cc := cJ15_valueOf) (maxL := 3) (ret := some (.object "java/lang/Long")) (by decide) rfl ?_
  intro p e s m args below meth c s₁ B hml hv
  obtain ⟨rfl, hP, hK, hN, hZ⟩ := hv
  have hts0 := atoms_spec (ws := ws_ yVal cJ15_valueOf 3 (some (.object "java/lang/Long"))) B.pre
  have hts : ∀ w ∈ lw_all, w.before _ s = true := fun w h => hts0 w (List.mem_cons_of_mem _ h)
  have hown : s.vm.findClass "java/lang/Long" = some m.cls := findClass_of_methodNamed B.named
  have hx := B.exec
  have hb := B.bytes
  have hS : va_S A s.heap s.heap [] := va_S.rf
  rw [lg_entry_eq]
  have hL := LH.entry (vs := [.long v]) (n := 3) (by show 2 ≤ 3; decide)
  generalize ((lg_sl [Value.long v] ++ List.replicate (3 - (lg_sl [Value.long v]).length) Slot.unset).toArray) = LS at hL ⊢
  have tail : ∀ LS, LH LS 3 [some (.long v), none, some (.int 128)] → W p l e (rmS 3 1 1) s m #[Value.long v] below meth c s.heap [] 0 0 (MQ below (cQc D ac A (.inl (some (.ref σ.1)), aC σ 1 (.inl (37, [.long v])))) #[Value.long v] s 1 1 A) (F0 m 31 LS []) := by
    intro LS hL
    refine cr_new (ci := 37) hx hb hts hown hK hP hS ((lw_g (lw_at lw_m5 92 rfl) rfl)) rfl (by decide) (by show 0 + 1 ≤ 1; decide) (by show 0 + 1 ≤ 1; decide) dJ15_valueOf_31 (fun H1 hP1 hS1 => ?_)
    refine stp_sound hx hb dJ15_valueOf_34 (q := (35, [some (.long v), none, some (.int 128)], [.ref σ.1, .ref σ.1])) rfl hL (fun LS hL => ?_)
    refine stp_sound hx hb dJ15_valueOf_35 (q := (36, [some (.long v), none, some (.int 128)], [.long v, .ref σ.1, .ref σ.1])) rfl hL (fun LS hL => ?_)
    have hmet := c_longInit (l := l) (D := D) (ac := ac) (A := A) (zs := zs) (a := σ.1) (x := v) (v0 := .long 0) (σ := aC σ 1 (.inl (37, cDf 37))) gC_new
    rw [aC_pC] at hmet
    have hrun := (ce_37_240_99).1 p l e (rmS 3 1 1) s m _ below meth c cJ15_valueOf 3 H1 [] (0 + 1) (0 + 1) (rmS 2 0 0) _ _ 0 0 A [.ref σ.1, .long v] [.ref σ.1] 36 LS ⟨hx, hb, hml, hown, hts⟩ hN hmet rfl rfl (by show 2 + 1 ≤ 3; decide) (by show 8 + (3 + 11) + 64 * 2 ≤ 64 * 3; decide) ⟨cPc_blind, fun U hU hW => ⟨rfl, by rw [hU]; exact hP1, va_K.moved hW.alike hK, hN.warm hW, hZ.go hW hS1 hU⟩⟩ (fun _ => ⟨_, _, rfl, fun CC hC => by cases hC⟩) rfl hL.2.1 (by show 1 ≤ 8; decide) dJ15_valueOf_36 (by show 0 + 1 + 0 ≤ 1; decide) (by show 0 + 1 + 0 ≤ 1; decide)
    refine c_callG hrun hS1 (fun H2 locs2 hP2 hS2 => ?_)
    exact W.aret hx hb B.returns (Or.inl ⟨_, rfl⟩) (Or.inr ⟨_, rfl⟩) (fun t ht hW => ⟨rfl, by rw [ht]; exact hP2, hS2.F ht⟩) hS2.2.2 dJ15_valueOf_39 B.notSynchronized
  refine stp_sound hx hb dJ15_valueOf_0 (q := (3, [some (.long v), none, none], [.int 128])) rfl hL (fun LS hL => ?_)
  refine stp_sound hx hb dJ15_valueOf_3 (q := (4, [some (.long v), none, some (.int 128)], [])) rfl hL (fun LS hL => ?_)
  refine stp_sound hx hb dJ15_valueOf_4 (q := (5, [some (.long v), none, some (.int 128)], [.long v])) rfl hL (fun LS hL => ?_)
  refine lv_ldc2 (v := -128) hx hb hown (hts _ (lw_g (lw_at lw_m5 88 rfl) rfl)) dJ15_valueOf_5 ?_
  refine stp_sound hx hb dJ15_valueOf_8 (q := (9, [some (.long v), none, some (.int 128)], [.int (lg_cmp v (-128))])) rfl hL (fun LS hL => ?_)
  by_cases h1 : v < -128
  · refine stp_sound hx hb dJ15_valueOf_9 (q := (31, [some (.long v), none, some (.int 128)], [])) (by simp [stp, sF1, jmp, lg_cmp_lt, h1]) hL (fun LS hL => ?_)
    exact tail LS hL
  · refine stp_sound hx hb dJ15_valueOf_9 (q := (12, [some (.long v), none, some (.int 128)], [])) (by simp [stp, sF1, jmp, lg_cmp_lt, h1]) hL (fun LS hL => ?_)
    have h2 : (127 : Int64) < v := Int64.not_le.mp (fun z => h ⟨Int64.not_lt.mp h1, z⟩)
    refine stp_sound hx hb dJ15_valueOf_12 (q := (13, [some (.long v), none, some (.int 128)], [.long v])) rfl hL (fun LS hL => ?_)
    refine lv_ldc2 (v := 127) hx hb hown (hts _ (lw_g (lw_at lw_m5 89 rfl) rfl)) dJ15_valueOf_13 ?_
    refine stp_sound hx hb dJ15_valueOf_16 (q := (17, [some (.long v), none, some (.int 128)], [.int (lg_cmp v 127)])) rfl hL (fun LS hL => ?_)
    refine stp_sound hx hb dJ15_valueOf_17 (q := (31, [some (.long v), none, some (.int 128)], [])) (by simp [stp, sF1, jmp, lg_cmp_gt, h2]) hL (fun LS hL => ?_)
    exact tail LS hL
end
section
variable {l : Launch} {D : va_G} {ac : Nat → ClassId} {A : Nat → Prop} {zs : Nat → Nat}
theorem Jc_13 {σ : CM} {r : Option Value × CM} {As : List Value} (h : Jc zs 13 As σ = some r) : ∃ x, As = [.long x] ∧ ((-128 ≤ x ∧ x ≤ 127 ∧ r = (some (.ref (zs (200 + (x + 128).toNatClampNeg))), σ)) ∨ (¬ (-128 ≤ x ∧ x ≤ 127) ∧ r = (some (.ref σ.1), aC σ 1 (.inl (37, [.long x]))))) := by
  rcases As with _ | ⟨a, _ | ⟨b, t⟩⟩
  · cases h
  · cases a <;> try (cases h; done)
    rename_i x
    refine ⟨x, rfl, ?_⟩
    change (if -128 ≤ x ∧ x ≤ 127 then some (some (Value.ref (zs (200 + (x + 128).toNatClampNeg))), σ) else some (some (.ref σ.1), aC σ 1 (.inl (37, [.long x])))) = some r at h
    split at h
    · rename_i hc
      exact Or.inl ⟨hc.1, hc.2, (Option.some.inj h).symm⟩
    · rename_i hc
      exact Or.inr ⟨hc, (Option.some.inj h).symm⟩
  · cases a <;> cases h
theorem J13 : JK l D ac A zs (Jc zs) 13 := by
  intro As σ v σ' h
  obtain ⟨x, rfl, h9⟩ := Jc_13 h
  rcases h9 with ⟨h1, h2, hr⟩ | ⟨h1, hr⟩
  · cases hr
    refine ⟨Nat.le_refl _, Nat.le_refl _, fun o idx tag n' hi hn => ?_⟩
    obtain ⟨hl, hs⟩ := il_ok hi
    cases hs
    intro p e d nc ns s m args below meth c cc H locs cells slots Q pc LS rest hx hb hml hown hts hN hK hZ hP hS hcat hc1 hc2 hd kk
    have hcok : COK (.invokestatic idx) (oN o) false none yVal cJ15_valueOf (some (.object "java/lang/Long")) 3 1 := COK.S hl ((lw_g (lw_at lw_m5 86 rfl) rfl)) ((lw_g (lw_at lw_m1 43 rfl) rfl)) ((lw_g (lw_at lw_m5 87 rfl) rfl)) ⟨by decide, by decide, by decide +kernel⟩
    have hrun := hcok p l e (rmC d nc ns) s m args below meth c cc LS.size H locs cells slots (rmS 3 0 0) (cPc D ac A zs [.long x] σ) _ 0 0 A [.long x] rest pc LS ⟨hx, hb, hml, hown, hts⟩ hN (c_valS h1 h2) rfl rfl (by show 3 + 1 ≤ d + 8; omega) (by show 8 + (3 + 11) + 64 * 3 ≤ 64 * (d + 8); omega) ⟨cPc_blind, fun U hU hW => ⟨rfl, by rw [hU]; exact hP, va_K.moved hW.alike hK, hN.warm hW, hZ.go hW hS hU⟩⟩ (fun h => by cases h) rfl rfl hcat hd (by show cells + 0 ≤ nc; omega) (by show slots + 0 ≤ ns; omega)
    refine c_callG hrun hS (fun H1 locs1 hP1 hS1 => ?_)
    have k9 := kk H1 locs1 hP1 hS1
    rw [Nat.sub_self, Nat.sub_self] at k9
    exact k9
  · cases hr
    refine ⟨Nat.le_succ _, Nat.le_succ _, fun o idx tag n' hi hn => ?_⟩
    obtain ⟨hl, hs⟩ := il_ok hi
    cases hs
    intro p e d nc ns s m args below meth c cc H locs cells slots Q pc LS rest hx hb hml hown hts hN hK hZ hP hS hcat hc1 hc2 hd kk
    have e1 : (aC σ 1 (.inl (37, [.long x]))).1 - σ.1 = 1 := by show σ.1 + 1 - σ.1 = 1; omega
    have e2 : (aC σ 1 (.inl (37, [.long x]))).2.1 - σ.2.1 = 1 := by show σ.2.1 + 1 - σ.2.1 = 1; omega
    rw [e1] at hc1
    rw [e2] at hc2
    rw [e1, e2] at kk
    have hcok : COK (.invokestatic idx) (oN o) false none yVal cJ15_valueOf (some (.object "java/lang/Long")) 3 1 := COK.S hl ((lw_g (lw_at lw_m5 86 rfl) rfl)) ((lw_g (lw_at lw_m1 43 rfl) rfl)) ((lw_g (lw_at lw_m5 87 rfl) rfl)) ⟨by decide, by decide, by decide +kernel⟩
    have hrun := hcok p l e (rmC d nc ns) s m args below meth c cc LS.size H locs cells slots (rmS 3 1 1) (cPc D ac A zs [.long x] σ) _ 1 1 A [.long x] rest pc LS ⟨hx, hb, hml, hown, hts⟩ hN (c_valB h1) rfl rfl (by show 3 + 1 ≤ d + 8; omega) (by show 8 + (3 + 11) + 64 * 3 ≤ 64 * (d + 8); omega) ⟨cPc_blind, fun U hU hW => ⟨rfl, by rw [hU]; exact hP, va_K.moved hW.alike hK, hN.warm hW, hZ.go hW hS hU⟩⟩ (fun h => by cases h) rfl rfl hcat hd (by show cells + 1 ≤ nc; omega) (by show slots + 1 ≤ ns; omega)
    exact c_callG hrun hS (fun H1 locs1 hP1 hS1 => kk H1 locs1 hP1 hS1)
end
