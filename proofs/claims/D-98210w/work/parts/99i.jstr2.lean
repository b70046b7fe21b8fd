/-! CALLS THAT ARE TAKEN AS ONE STEP: charAt, indexOf -/
set_option maxRecDepth 100000
def yPre : MethodName := ⟨"jdk/internal/util/Preconditions", "checkIndex", "(IILjava/util/function/BiFunction;)I"⟩
def tPc (D : va_G) (ac : Nat → ClassId) (A : Nat → Prop) (zs : Nat → Nat) (As : List Value) (σ : CM) (av : Nat) (tx : String) : Array Value → State → Prop := fun v U => cPc D ac A zs As σ v U ∧ va_T .byte av tx.length (fun j => .int (chI tx j)) A U U.heap
section
variable {l : Launch} {D : va_G} {ac : Nat → ClassId} {A : Nat → Prop} {zs : Nat → Nat}
theorem tPc_blind {As : List Value} {σ : CM} {av : Nat} {tx : String} : FrameBlind (tPc D ac A zs As σ av tx) := by
  intro v U g mk q
  exact ⟨cPc_blind v U g mk q.1, va_T.moved (u := U) (U := U.calling g mk v) (Vm.Alike.refl U.vm) q.2⟩
theorem tMet {y : MethodName} {cc : ByteArray} {nL n av : Nat} {rt : Option FieldType} {As : List Value} {σ : CM} {v : Option Value} {tx : String} (hpl : plainName y.cls = true) (hlen : (lg_sl As).length ≤ nL)
    (body : ∀ p e s m below meth c, sCx D ac A zs p s m As.toArray c cc nL y.cls → meth.sig.returnType = rt → meth.locks = false → HP D ac A σ s.heap → va_T .byte av tx.length (fun j => .int (chI tx j)) A s s.heap → ∀ LS, LH LS nL (lent As nL) → W p l e (rmS n 0 0) s m As.toArray below meth c s.heap [] 0 0 (MQ below (cQc D ac A (.inl v, σ)) As.toArray s 0 0 A) (F0 m 0 LS [])) :
    Met l y (ws_ y cc nL rt) (rmS n 0 0) (tPc D ac A zs As σ av tx) (cQc D ac A (.inl v, σ)) 0 0 A := by
  refine Met.ofW (cc := cc) (maxL := nL) (ret := rt) hpl rfl ?_
  intro p e s m args below meth c s₁ B hml hv
  obtain ⟨⟨rfl, hP, hK, hN, hZ⟩, hT⟩ := hv
  have hts0 := atoms_spec (ws := ws_ y cc nL rt) B.pre
  have hts : ∀ w ∈ lw_all, w.before _ s = true := fun w h => hts0 w (List.mem_cons_of_mem _ h)
  rw [lg_entry_eq]
  exact body p e s m below meth c ⟨B.exec, B.bytes, hml, findClass_of_methodNamed B.named, hts, hN, hK, hZ⟩ B.returns B.notSynchronized hP hT _ (LH.entry hlen)
theorem tCall {p : Program} {e : Env} {s : State} {m : MethodId} {args : Array Value} {below : List Frame} {meth : Method} {c : Code} {cc : ByteArray} {H : Heap} {locs : List Loc} {Q : State → Prop} {pc nL k kR nL2 na av : Nat} {LS : Array Slot} {As rest : List Value} {own : String} {σ : CM} {ins : Instr} {y : MethodName} {b : ByteArray} {rt2 : Option FieldType} {v : Option Value} {tx : String}
    (F : sCx D ac A zs p s m args c cc nL own) (hP : HP D ac A σ H) (hT : va_T .byte av tx.length (fun j => .int (chI tx j)) A s s.heap) (hS : va_S A s.heap H locs) (hcok : COK ins own false none y b rt2 nL2 na) (hM : Met l y (ws_ y b nL2 rt2) (rmS k 0 0) (tPc D ac A zs As σ av tx) (cQc D ac A (.inl v, σ)) 0 0 A) (hk : k + 1 ≤ kR) (hnL : nL2 ≤ 40)
    (hna : As.length = na) (hsz : LS.size = nL) (hcat : catS rest ≤ 8) (hd : decode cc pc = .ok (ins, 3))
    (kk : ∀ (H1 : Heap) (locs1 : List Loc), HP D ac A σ H1 → va_S A s.heap H1 locs1 → W p l e (rmS kR 0 0) s m args below meth c H1 locs1 0 0 Q (F0 m (pc + 3) LS (v.toList ++ rest))) : W p l e (rmS kR 0 0) s m args below meth c H locs 0 0 Q (F0 m pc LS (As.reverse ++ rest)) := by
  obtain ⟨hx, hb, hml, hown, hts, hN, hK, hZ⟩ := F
  have hrun := hcok p l e (rmS kR 0 0) s m args below meth c cc nL H locs 0 0 (rmS k 0 0) (tPc D ac A zs As σ av tx) _ 0 0 A As rest pc LS ⟨hx, hb, hml, hown, hts⟩ hN hM rfl rfl hk (by show 8 + (nL2 + 11) + 64 * k ≤ 64 * kR; omega) ⟨tPc_blind, fun U hU hW => ⟨⟨rfl, by rw [hU]; exact hP, va_K.moved hW.alike hK, hN.warm hW, hZ.go hW hS hU⟩, by rw [hU]; exact va_T.moved hW.alike (hT.kept hS.2.1)⟩⟩ (fun h => by cases h) hna hsz hcat hd (Nat.le_refl _) (Nat.le_refl _)
  exact c_callG hrun hS kk
variable {i idx : Nat} {tx : String} {σ : CM}
theorem c_pre {x n : Int32} {v : Value} (hv : v = .null ∨ ∃ t, v = .ref t) (h1 : ¬ x < 0) (h2 : x < n) : Met l yPre (ws_ yPre cJ7_checkIndex 3 (some .int)) (rmS 1 0 0) (cPc D ac A zs [.int x, .int n, v] σ) (cQc D ac A (.inl (some (.int x)), σ)) 0 0 A := by
  refine sMet (by decide) (by rcases hv with rfl | ⟨t, rfl⟩ <;> (show 3 ≤ 3; decide)) ?_
  intro p e s m below meth c F hrt hlk hP LS hL
  obtain ⟨hx, hb, hml, hown, hts, hN, hK, hZ⟩ := F
  have hS : va_S A s.heap s.heap [] := va_S.rf
  have e1 : lent [.int x, .int n, v] 3 = [some (.int x), some (.int n), some v] := by rcases hv with rfl | ⟨t, rfl⟩ <;> rfl
  rw [e1] at hL
  refine stp_sound hx hb dJ7_checkIndex_0 (q := (1, [some (.int x), some (.int n), some v], [.int x])) rfl hL (fun LS hL => ?_)
  refine stp_sound hx hb dJ7_checkIndex_1 (q := (4, [some (.int x), some (.int n), some v], [])) (by simp [stp, sF1, jmp, h1]) hL (fun LS hL => ?_)
  refine stp_sound hx hb dJ7_checkIndex_4 (q := (5, [some (.int x), some (.int n), some v], [.int x])) rfl hL (fun LS hL => ?_)
  refine stp_sound hx hb dJ7_checkIndex_5 (q := (6, [some (.int x), some (.int n), some v], [.int n, .int x])) rfl hL (fun LS hL => ?_)
  refine stp_sound hx hb dJ7_checkIndex_6 (q := (16, [some (.int x), some (.int n), some v], [])) (by simp [stp, sF2, jmp, h2]) hL (fun LS hL => ?_)
  refine stp_sound hx hb dJ7_checkIndex_16 (q := (17, [some (.int x), some (.int n), some v], [.int x])) rfl hL (fun LS hL => ?_)
  exact W.iret hx hb hrt (fun t ht hW => ⟨rfl, by rw [ht]; exact hP, hS.F ht⟩) hS.2.2 dJ7_checkIndex_17 hlk
theorem c_chk {x n : Int32} (h1 : ¬ x < 0) (h2 : x < n) : Met l (yS "checkIndex" "(II)V") (ws_ (yS "checkIndex" "(II)V") cJ3_checkIndex 2 none) (rmS 2 0 0) (cPc D ac A zs [.int x, .int n] σ) (cQc D ac A (.inl none, σ)) 0 0 A := by
  refine sMet (by decide) (by show 2 ≤ 2; decide) ?_
  intro p e s m below meth c F hrt hlk hP LS hL
  have F0' := F
  obtain ⟨hx, hb, hml, hown, hts, hN, hK, hZ⟩ := F
  have hS : va_S A s.heap s.heap [] := va_S.rf
  obtain ⟨v, hv, hZs⟩ := hZ.si
  refine stp_sound hx hb dJ3_checkIndex_0 (q := (1, [some (.int x), some (.int n)], [.int x])) rfl hL (fun LS hL => ?_)
  refine stp_sound hx hb dJ3_checkIndex_1 (q := (2, [some (.int x), some (.int n)], [.int n, .int x])) rfl hL (fun LS hL => ?_)
  refine va_gets hx hb hZs hS hown (hts _ (lw_g (lw_at lw_m3 211 rfl) rfl)) (fun x hx => hx) dJ3_checkIndex_2 ?_
  refine sCall (As := [.int x, .int n, v]) (rest := []) F0' hP hS (COK.S (n := 3) (lw_g (lw_at lw_m4 22 rfl) rfl) (lw_g (lw_at lw_m4 23 rfl) rfl) (lw_g (lw_at lw_m1 27 rfl) rfl) (lw_g (lw_at lw_m4 24 rfl) rfl) ⟨by decide, by decide, by decide +kernel⟩) (c_pre hv h1 h2) (by decide) (by decide) (fun h => by cases h) rfl hL.2.1 (by decide) dJ3_checkIndex_5 (fun H1 locs1 hP1 hS1 => ?_)
  refine stp_sound hx hb dJ3_checkIndex_8 (q := (9, [some (.int x), some (.int n)], [])) rfl hL (fun LS hL => ?_)
  exact W.vret hx hb hrt (fun t ht hW => ⟨rfl, by rw [ht]; exact hP1, hS1.F ht⟩) hS1.2.2 dJ3_checkIndex_9 hlk
theorem in_lt {x : Int32} {n : Nat} (h : vp_in x n) (hn : n < 100) : ¬ x < 0 ∧ x < Int32.ofNat n := by
  have h0 : ¬ x < 0 := fun q => h (Or.inl q)
  have h1 : x.toNatClampNeg < n := Nat.not_le.mp fun q => h (Or.inr q)
  refine ⟨h0, ?_⟩
  rw [Int32.lt_iff_toInt_lt, clampI h0, Int32.toInt_ofNat_of_lt (by omega)]
  omega
theorem c_l1At {av : Nat} {x : Int32} (hi : sStr[i]? = some (idx, tx)) (hin : vp_in x tx.length) : Met l (yL "charAt" "([BI)C") (ws_ (yL "charAt" "([BI)C") cJ4_charAt 2 (some .char)) (rmS 3 0 0) (tPc D ac A zs [.ref av, .int x] σ av tx) (cQc D ac A (.inl (some (.int (chI tx x.toNatClampNeg))), σ)) 0 0 A := by
  have hmem := List.mem_of_getElem? hi
  have hlen : tx.length < 100 := (ch_ok _ hmem).1
  have hlt : x.toNatClampNeg < tx.length := Nat.not_le.mp fun q => hin (Or.inr q)
  obtain ⟨b1, b2, b3, b4⟩ := (ch_ok _ hmem).2 _ hlt
  obtain ⟨i1, i2⟩ := in_lt hin hlen
  refine tMet (by decide) (by show 2 ≤ 2; decide) ?_
  intro p e s m below meth c F hrt hlk hP hT LS hL
  have F0' := F
  obtain ⟨hx, hb, hml, hown, hts, hN, hK, hZ⟩ := F
  have hS : va_S A s.heap s.heap [] := va_S.rf
  refine stp_sound hx hb dJ4_charAt_0 (q := (1, [some (.ref av), some (.int x)], [.int x])) rfl hL (fun LS hL => ?_)
  refine stp_sound hx hb dJ4_charAt_1 (q := (2, [some (.ref av), some (.int x)], [.ref av, .int x])) rfl hL (fun LS hL => ?_)
  refine va_tlen hx hb hT hS (v := Int32.ofNat tx.length) rfl dJ4_charAt_2 ?_
  refine sCall (As := [.int x, .int (Int32.ofNat tx.length)]) (rest := []) F0' hP hS (COK.S (n := 2) (lw_g (lw_at lw_m4 19 rfl) rfl) (lw_g (lw_at lw_m4 20 rfl) rfl) qS_i (lw_g (lw_at lw_m4 21 rfl) rfl) ⟨by decide, by decide, by decide +kernel⟩) (c_chk i1 i2) (by decide) (by decide) (fun h => by cases h) rfl hL.2.1 (by decide) dJ4_charAt_3 (fun H1 locs1 hP1 hS1 => ?_)
  refine stp_sound hx hb dJ4_charAt_6 (q := (7, [some (.ref av), some (.int x)], [.ref av])) rfl hL (fun LS hL => ?_)
  refine stp_sound hx hb dJ4_charAt_7 (q := (8, [some (.ref av), some (.int x)], [.int x, .ref av])) rfl hL (fun LS hL => ?_)
  refine va_tb hx hb hT hS1 hin (v := .int (chI tx x.toNatClampNeg)) rfl dJ4_charAt_8 ?_
  refine stp_sound hx hb dJ4_charAt_9 (q := (12, [some (.ref av), some (.int x)], [.int 255, .int (chI tx x.toNatClampNeg)])) rfl hL (fun LS hL => ?_)
  refine stp_sound hx hb dJ4_charAt_12 (q := (13, [some (.ref av), some (.int x)], [.int (chI tx x.toNatClampNeg)])) (by show some (_, _, [Value.int (chI tx x.toNatClampNeg &&& 255)]) = _; rw [b1]) hL (fun LS hL => ?_)
  refine lv_i2c hx hb dJ4_charAt_13 b2 ?_
  exact W.zret hx hb hrt (by show Value.int ((chI tx x.toNatClampNeg).toUInt32 % 65536).toInt32 = _; rw [b2]) (fun t ht hW => ⟨rfl, by rw [ht]; exact hP1, hS1.F ht⟩) hS1.2.2 dJ4_charAt_14 hlk
theorem c_at {x : Int32} (hi : sStr[i]? = some (idx, tx)) (hin : vp_in x tx.length) : Met l (yS "charAt" "(I)C") (ws_ (yS "charAt" "(I)C") cJ3_charAt 2 (some .char)) (rmS 4 0 0) (cPc D ac A zs [.ref (zs i), .int x] σ) (cQc D ac A (.inl (some (.int (chI tx x.toNatClampNeg))), σ)) 0 0 A := by
  have hmem := List.mem_of_getElem? hi
  have hlt : x.toNatClampNeg < tx.length := Nat.not_le.mp fun q => hin (Or.inr q)
  obtain ⟨b1, b2, b3, b4⟩ := (ch_ok _ hmem).2 _ hlt
  refine sMet (by decide) (by show 2 ≤ 2; decide) ?_
  intro p e s m below meth c F hrt hlk hP LS hL
  have F0' := F
  obtain ⟨hx, hb, hml, hown, hts, hN, hK, hZ⟩ := F
  have hS : va_S A s.heap s.heap [] := va_S.rf
  have hst := hZ.str hi
  obtain ⟨av, g1, g2, g3, g4⟩ := hZ.str hi
  refine stp_sound hx hb dJ3_charAt_0 (q := (1, [some (.ref (zs i)), some (.int x)], [.ref (zs i)])) rfl hL (fun LS hL => ?_)
  refine sCall (As := [.ref (zs i)]) (rest := []) F0' hP hS (COK.V (n := 0) (lw_g (lw_at lw_m3 164 rfl) rfl) (lw_g (lw_at lw_m3 165 rfl) rfl) (lw_g (lw_at lw_m3 166 rfl) rfl) qS_i (lw_g (lw_at lw_m3 167 rfl) rfl) rfl ⟨by decide, by decide, by decide +kernel⟩) (c_isL1 hi) (by decide) (by decide) (hst.rc hS) rfl hL.2.1 (by decide) dJ3_charAt_1 (fun H1 locs1 hP1 hS1 => ?_)
  refine stp_sound hx hb dJ3_charAt_4 (q := (7, [some (.ref (zs i)), some (.int x)], [])) rfl hL (fun LS hL => ?_)
  refine stp_sound hx hb dJ3_charAt_7 (q := (8, [some (.ref (zs i)), some (.int x)], [.ref (zs i)])) rfl hL (fun LS hL => ?_)
  refine vk_getf hx hb g3 hS1 hown (hts _ (lw_g (lw_at lw_m12 116 rfl) rfl)) (fun x hx => hx) dJ3_charAt_8 ?_
  refine stp_sound hx hb dJ3_charAt_11 (q := (12, [some (.ref (zs i)), some (.int x)], [.int x, .ref av])) rfl hL (fun LS hL => ?_)
  refine tCall (As := [.ref av, .int x]) (rest := []) F0' hP1 g4 hS1 (COK.S (n := 2) (lw_g (lw_at lw_m4 16 rfl) rfl) (lw_g (lw_at lw_m4 17 rfl) rfl) qL_i (lw_g (lw_at lw_m4 18 rfl) rfl) ⟨by decide, by decide, by decide +kernel⟩) (c_l1At hi hin) (by decide) (by decide) rfl hL.2.1 (by decide) dJ3_charAt_12 (fun H2 locs2 hP2 hS2 => ?_)
  exact W.zret hx hb hrt (by show Value.int ((chI tx x.toNatClampNeg).toUInt32 % 65536).toInt32 = _; rw [b2]) (fun t ht hW => ⟨rfl, by rw [ht]; exact hP2, hS2.F ht⟩) hS2.2.2 dJ3_charAt_15 hlk
end
