set_option maxRecDepth 100000
/-! THE MODEL's CONSTRUCTOR -/
def M00 : MM := (fun _ _ => 0, fun _ _ => 0)
/-- the object's fields when k arrays are there -/
def fskv (mb k j : Nat) : Value := match fvk j with
  | 0 => .int 0
  | 1 => .int 0
  | 2 => .long 0
  | n + 3 => if n < k then .ref (mb + (n + 1)) else .null
def fsk (mb k : Nat) : List Value := (List.range 63).map (fskv mb k)
def wk (mb : Nat) (cs : McT) (k : Nat) : va_W := (mb, .inr (0, fsk mb k)) :: (List.range k).map (fun n => (mb + (n + 1), mce mb cs M00 (n + 1)))
theorem fvk_in : ∀ a, a < 63 → ∀ b, b < 63 → fvk a = fvk b → 3 ≤ fvk a → a = b := by decide +kernel
theorem fvk_le : ∀ a, a < 63 → fvk a ≤ 48 := by decide +kernel
theorem fsk_at {mb k i : Nat} (h : i < 63) : (fsk mb k)[i]? = some (fskv mb k i) := by
  unfold fsk
  rw [List.getElem?_map, List.getElem?_range h]
  rfl
theorem fsk_set {mb k j : Nat} (hj : j < 63) (hv : fvk j = k + 3) : (fsk mb k).set j (.ref (mb + (k + 1))) = fsk mb (k + 1) := by
  apply List.ext_getElem?
  intro i
  by_cases hi : i < 63
  · rw [fsk_at hi]
    by_cases hij : i = j
    · subst hij
      rw [List.getElem?_set_self (by simpa [fsk] using hi)]
      unfold fskv
      rw [hv]
      show _ = some (if k < k + 1 then _ else _)
      rw [if_pos (by omega)]
    · rw [List.getElem?_set_ne (Ne.symm hij), fsk_at hi]
      unfold fskv
      split
      · rfl
      · rfl
      · rfl
      · rename_i n hn
        have : n ≠ k := fun z => hij (fvk_in i hi j hj (by rw [hn, hv, z]) (by omega))
        by_cases h1 : n < k
        · rw [if_pos h1, if_pos (by omega)]
        · rw [if_neg h1, if_neg (by omega)]
  · have h1 : (fsk mb (k + 1)).length ≤ i := by simp [fsk]; omega
    have h2 : ((fsk mb k).set j (.ref (mb + (k + 1)))).length ≤ i := by simp [fsk]; omega
    rw [List.getElem?_eq_none h1, List.getElem?_eq_none h2]
theorem fsk_46 {mb : Nat} : fsk mb 46 = mfs mb M00 := by
  unfold fsk mfs
  refine List.map_congr_left (fun j hj => ?_)
  have hj := List.mem_range.mp hj
  have hl := fvk_le j hj
  unfold fskv mfv
  split
  · rfl
  · rfl
  · rfl
  · rename_i n hn
    rw [hn] at hl
    rw [if_pos (by omega)]
theorem wk_46 {mb : Nat} {cs : McT} : wk mb cs 46 = mws mb cs M00 := by
  unfold wk mws
  rw [List.range_succ_eq_map, List.map_cons, List.map_map, fsk_46]
  rfl
theorem wk_next {mb k j : Nat} {cs : McT} (hj : j < 63) (hv : fvk j = k + 3) : (wk mb cs k ++ [(mb + (k + 1), mce mb cs M00 (k + 1))]).set 0 (mb, .inr (0, (fsk mb k).set j (.ref (mb + (k + 1))))) = wk mb cs (k + 1) := by
  rw [fsk_set hj hv]
  unfold wk
  rw [List.range_succ, List.map_append]
  rfl
theorem wk_ad {mb k i : Nat} {cs : McT} {x : Nat × va_E} (h : (wk mb cs k)[i]? = some x) : i ≤ k ∧ x.1 = mb + i := by
  cases i with
  | zero => cases h; exact ⟨Nat.zero_le _, rfl⟩
  | succ i =>
    have h : ((List.range k).map (fun n => (mb + (n + 1), mce mb cs M00 (n + 1))))[i]? = some x := h
    have hi : i < k := by
      have := (List.getElem?_eq_some_iff.mp h).1
      simpa using this
    rw [List.getElem?_map, List.getElem?_range hi] at h
    cases h
    exact ⟨hi, rfl⟩
theorem wk_last {mb k : Nat} {cs : McT} : ∃ x, (wk mb cs k)[k]? = some x := by
  have hl : k < (wk mb cs k).length := by simp [wk]
  exact ⟨_, List.getElem?_eq_getElem hl⟩
section
variable {p : Program} {l : Launch} {e : Env} {R : Room} {s : State} {m : MethodId} {args : Array Value} {below : List Frame} {meth : Method} {c : Code} {H : Heap} {locs : List Loc} {cells slots : Nat} {Q : State → Prop} {DM : va_G} {cs : McT} {mb : Nat} {LS : Array Slot} {rest : List Value}
/-- the heap is no greater than what was made -/
theorem w_sz {g : JFrame} (kk : H.size ≤ s.heap.size + cells → W p l e R s m args below meth c H locs cells slots Q g) : W p l e R s m args below meth c H locs cells slots Q g := fun T hT X => kk (by rw [← hT]; exact X.heapSize) T hT X
theorem mk_arr {aty : ArrayType} {ty : FieldType} {cA0 : ClassId} {a0 : vp_A} {k N pc idx j : Nat} (hx : p.tables.exec = Jvm.exec) (hb : c.code = cX19_init) (hts : ∀ w ∈ lw_all, w.before args s = true) (hown : s.vm.findClass RX19 = some m.cls) (hin2 : meth.name = "<init>") (hK : va_K DM mCl (mtys cs) s) (hP : va_P DM mCl (wk mb cs k) H) (hS : va_S (fun q => mb ≤ q) s.heap H locs) (hsz : s.heap.size = mb + 1)
    (d1 : decode cX19_init pc = .ok (.newarray aty, 2)) (hty : newarray.typeOf aty = ty) (harr : Cond.arrayClass ty ∈ lw_all) (hcl : vp_cell cA0 a0 = arrV cA0 N (fun _ => defaultValue ty)) (hRA : s.vm.findClass ("[" ++ ty.toString) = some cA0) (hm : mce mb cs M00 (k + 1) = .inl (cA0, a0)) (hN : N ≤ 7000) (hby : componentBytes ty ≤ 8)
    (d2 : decode cX19_init (pc + 2) = .ok (.putfield idx, 3)) (hf : fcp idx = some j) (hv : fvk j = k + 3) (hfin : (TX19 j).2.2.2 = true) (hdcl : (TX19 j).1 = RX19) (hdesc : parseFieldDescriptor (TX19 j).2.2.1 = some (.array ty))
    (hc : k + 1 ≤ R.cells) (hs : slots + N ≤ R.slots)
    (kk : ∀ (H1 : Heap) (locs1 : List Loc), va_P DM mCl (wk mb cs (k + 1)) H1 → va_S (fun q => mb ≤ q) s.heap H1 locs1 → W p l e R s m args below meth c H1 locs1 (k + 1) (slots + N) Q (F0 m (pc + 5) LS rest)) : W p l e R s m args below meth c H locs k slots Q (F0 m pc LS (.int (nI N) :: .ref mb :: rest)) := by
  refine w_sz (fun hle => ?_)
  have hsz1 : H.size = mb + (k + 1) := by
    obtain ⟨x, hx'⟩ := wk_last (mb := mb) (k := k) (cs := cs)
    have h1 := (hP k x hx').lt
    rw [(wk_ad hx').2] at h1
    omega
  have hok := fTab_ok _ (lookup_mem hf)
  have hj : j < 63 := hok.2
  refine va_newaK hx hb (by rw [hty]; exact hts _ harr) rfl d1 (n := nI N) (N := N) rfl (Int32.not_lt.mpr (nI_le (a := 0) (by omega) (by omega))) (nI_clamp (by omega)) (by rw [hty]; exact Nat.le_trans (Nat.mul_le_mul hN hby) (by decide)) hc hs hsz1 (fun H1 cA e1 z1 o1 hAr hNm => ?_)
  rw [hty] at e1 hNm
  have hcA : cA = cA0 := Option.some.inj (hNm.symm.trans hRA)
  subst hcA
  have hP1 : va_P DM mCl (wk mb cs k ++ [(mb + (k + 1), mce mb cs M00 (k + 1))]) H1 := va_P.app (hP.kept (fun i x hx' => o1 x.1 (by rw [← hsz1]; exact (hP i x hx').lt))) (one_at (by
    rw [hm]
    show H1[mb + (k + 1)]? = some (vp_cell _ _)
    rw [hcl]
    exact e1))
  have hS1 : va_S (fun q => mb ≤ q) s.heap H1 locs := ⟨by omega, fun q h1 h2 => (o1 q (by omega)).trans (hS.2.1 q h1 h2), hS.2.2⟩
  have had : ∀ (i : Nat) (x : Nat × va_E), (wk mb cs k ++ [(mb + (k + 1), mce mb cs M00 (k + 1))])[i]? = some x → x.1 = mb + i := fun i x hx' => by
    by_cases hi : i < (wk mb cs k).length
    · rw [List.getElem?_append_left hi] at hx'
      exact (wk_ad hx').2
    · rw [List.getElem?_append_right (by omega)] at hx'
      have hlen : (wk mb cs k).length = k + 1 := by simp [wk]
      have hz : i - (wk mb cs k).length < 1 := (List.getElem?_eq_some_iff.mp hx').1
      rw [show i - (wk mb cs k).length = 0 by omega] at hx'
      cases hx'
      show mb + (k + 1) = mb + i
      omega
  have hD1 : va_D (fun q => mb ≤ q) (wk mb cs k ++ [(mb + (k + 1), mce mb cs M00 (k + 1))]) := ⟨fun i i' x y h1 h2 h3 => by have := had i x h1; have := had i' y h2; omega, fun i x h1 => by have := had i x h1; show mb ≤ x.1; omega⟩
  have hlen : j < (fsk mb k).length := by simp [fsk]; exact hj
  refine va_putF (ref := RX19) hx hb hts in_X19 tyX19 tyX19_ok nmX19 hown hK hP1 hD1 hS1 0 rfl rfl j hj (hts _ hok.1) (fun x hx' => by rw [← hdcl]; exact hx') hfin hin2 hdcl hdesc rfl rfl hlen d2 (fun H2 locs2 hP2 hD2 hS2 => ?_)
  rw [wk_next hj hv] at hP2
  exact kk H2 locs2 hP2 hS2
end
section
variable {mb e : Nat} {P : MR → Prop}
theorem m_plain0 : ∃ M1 : MM, EM mb 3 cX19_plain none 0 (lent [.ref mb, .int 0] 3) [] M00 (fun q => q = (none, M1)) ∧ MIa M1 a00 := by
  have key : EM mb 3 cX19_plain none 0 [some (.ref mb), some (.int (nI 0)), none] [] M00 (fun q => q.1 = none ∧ MIa q.2 a00) := by
    simp (disch := omega) only [em_iconst (v := nI 0) dX19_plain_0 rfl, em_istore_n (i := 2) dX19_plain_1 rfl, em_iload_n (i := 2) dX19_plain_2 rfl, em_iconst (v := nI 4) dX19_plain_3 rfl, em_icmp_ge (t := 25) dX19_plain_4 rfl, em_aload_n (i := 0) dX19_plain_7 rfl, em_getA (n := 2) dX19_plain_8 fcp_13 rfl rfl, em_bipush (v := nI 6) dX19_plain_11 rfl, em_iload_n (i := 1) dX19_plain_13 rfl, em_imul dX19_plain_14, em_iload_n (i := 2) dX19_plain_15 rfl, em_iadd dX19_plain_16, em_iconst (v := nI 0) dX19_plain_17 rfl, em_iast_ (n := 2) dX19_plain_18 rfl, em_iinc (v := nI 1) dX19_plain_19 rfl, em_goto (t := 2) dX19_plain_22 rfl, em_aload_n (i := 0) dX19_plain_25 rfl, em_getA (n := 2) dX19_plain_26 fcp_13 rfl rfl, em_bipush (v := nI 6) dX19_plain_29 rfl, em_iload_n (i := 1) dX19_plain_31 rfl, em_imul dX19_plain_32, em_iconst (v := nI 4) dX19_plain_33 rfl, em_iadd dX19_plain_34, em_iconst (v := (-1)) dX19_plain_35 rfl, em_iast_ (n := 2) dX19_plain_36 rfl, em_aload_n (i := 0) dX19_plain_37 rfl, em_getA (n := 2) dX19_plain_38 fcp_13 rfl rfl, em_bipush (v := nI 6) dX19_plain_41 rfl, em_iload_n (i := 1) dX19_plain_43 rfl, em_imul dX19_plain_44, em_iconst (v := nI 5) dX19_plain_45 rfl, em_iadd dX19_plain_46, em_iconst (v := (-1)) dX19_plain_47 rfl, em_iast_ (n := 2) dX19_plain_48 rfl, em_iconst (v := nI 0) dX19_plain_49 rfl, em_istore_n (i := 2) dX19_plain_50 rfl, em_iload_n (i := 2) dX19_plain_51 rfl, em_iconst (v := nI 2) dX19_plain_52 rfl, em_icmp_ge (t := 92) dX19_plain_53 rfl, em_aload_n (i := 0) dX19_plain_56 rfl, em_getA (n := 13) dX19_plain_57 fcp_47 rfl rfl, em_iconst (v := nI 2) dX19_plain_60 rfl, em_iload_n (i := 1) dX19_plain_61 rfl, em_imul dX19_plain_62, em_iload_n (i := 2) dX19_plain_63 rfl, em_iadd dX19_plain_64, em_sipush (v := nI 1000) dX19_plain_65 rfl, em_iload_n (i := 1) dX19_plain_68 rfl, em_imul dX19_plain_69, em_iast_ (n := 13) dX19_plain_70 rfl, em_aload_n (i := 0) dX19_plain_71 rfl, em_getA (n := 14) dX19_plain_72 fcp_50 rfl rfl, em_iconst (v := nI 2) dX19_plain_75 rfl, em_iload_n (i := 1) dX19_plain_76 rfl, em_imul dX19_plain_77, em_iload_n (i := 2) dX19_plain_78 rfl, em_iadd dX19_plain_79, em_sipush (v := nI 1000) dX19_plain_80 rfl, em_iload_n (i := 1) dX19_plain_83 rfl, em_imul dX19_plain_84, em_iast_ (n := 14) dX19_plain_85 rfl, em_iinc (v := nI 1) dX19_plain_86 rfl, em_goto (t := 51) dX19_plain_89 rfl, em_vret dX19_plain_92, cat1_i, cat1_r, catB_n, catB_i, catB_r, catB_l, lg_0, lg_s, ldEI_i, ldEL_l, ldEA_r, lin_0, lin_s, ls1_0, ls1_1, ls1_s, ls2_0, ls2_1, ls2_s, lcl_i, lcl_r, lcl_l, lcl_n, lent_i, lent_r, lent_l, lent_0, lent_s, Option.toList_some, Option.toList_none, List.cons_append, List.nil_append, Nat.reduceAdd, true_and, mI_, mLg_, mV_, mInc_, mK_, nI_add, nI_mul, nI_subI, nI_clampI, inb_t, nI_lt0, nI_0le, nI_m1, nI_m1', nI_ofNat, bI_01, b01_0, b01_1, bI_eq0, bI_eq1, bb_01, true_or, or_true, false_or, or_false, eq_self, al_1, al_2, al_3, al_4, al_5, al_6, al_7, al_8, al_9, al_10, al_11, al_12, al_13, al_14, al_15, al_16, al_17, al_18, al_19, al_20, al_21, al_22, al_23, al_24, al_25, al_26, al_27, al_28, al_29, al_30, al_31, al_32, al_33, al_34, al_35, al_36, al_37, al_38, al_39, al_40, al_41, al_42, al_43, al_44, al_45, al_46, Nat.reduceAdd, Nat.reduceMul, Nat.reduceSub, Nat.reduceLT, Nat.reduceLeDiff, Nat.reduceEqDiff, ↓reduceIte, and_true, true_and, and_self, Nat.add_zero, Nat.zero_add, not_false_eq_true, not_true_eq_false, rI_we, rI_wn, faV_n, faV_s, m1_lt0, m1_0le, m1_eq0, m1_le, le_m1, m1_lt, lt_m1, rI_wo', rL_wI, rI_wL, nI_lt_t, nI_lt_f, nI_le_t, nI_le_f, nI_eq_t, nI_eq_f, nI_eq0_t, nI_eq0_f, nI_0lt_t, nI_0lt_f, nI_le0_t, nI_le0_f, nI_eq1_t, nI_eq1_f]
    have z : ∀ k i, rI M00 k i = 0 := fun _ _ => rfl
    refine ⟨rfl, ⟨QR_P (fun j hj => ?_) (fun j hj => ?_), fun j hj => ?_, ⟨⟨?_, ?_, ?_⟩, by show 0 ≤ 36; omega, fun k hk => absurd hk (Nat.not_lt_zero k)⟩⟩, ⟨?_, by show 0 ≤ 16; omega, fun i hi => absurd hi (Nat.not_lt_zero i)⟩, fun i hi => ⟨?_, fun q s L h => by cases h⟩, ⟨?_, fun j hj => absurd hj (Nat.not_lt_zero j)⟩⟩
    · have hc : j = 0 ∨ j = 1 ∨ j = 2 ∨ j = 3 ∨ j = 4 ∨ j = 5 := by omega
      rcases hc with rfl | rfl | rfl | rfl | rfl | rfl <;> simp (disch := omega) only [rI_we, rI_wn, rI_wo', Nat.reduceAdd, Nat.reduceMul, Nat.reduceLT, ↓reduceIte] <;> rfl
    · have hc : j = 0 ∨ j = 1 := by omega
      rcases hc with rfl | rfl <;> simp (disch := omega) only [rI_we, rI_wn, rI_wo', Nat.reduceAdd, Nat.reduceMul]
    · have e0 : fhS qP j = 0 := by unfold fhS; rw [if_neg (fun h => absurd h.1 (Nat.not_lt_zero j))]
      show rI _ 32 j = nI (fhS qP j)
      rw [e0]
      simp (disch := omega) only [rI_wo']
      exact z _ _
    all_goals (simp (disch := omega) only [rI_wo']; exact z _ _)
  obtain ⟨⟨r, M1⟩, X, h1, h2⟩ := key
  dsimp only at h1
  subst h1
  exact ⟨M1, ⟨_, X, rfl⟩, h2⟩
end
def rmI : Room := { frames := 8, cells := 46, slots := 19597, locals := 600 }
def miPc (mb : Nat) (DM : va_G) (cs : McT) : Array Value → State → Prop := va_Pc [.ref mb] (fun U => va_P DM mCl (wk mb cs 0) U.heap ∧ va_K DM mCl (mtys cs) U ∧ U.heap.size = mb + 1)
def miQc (mb : Nat) (DM : va_G) (cs : McT) (M1 : MM) : Array Value → State → Outcome → State → Prop := fun _ st oc t => oc = .returned none ∧ va_P DM mCl (mws mb cs M1) t.heap ∧ va_F (fun q => mb ≤ q) st t
section
variable {l : Launch} {DM : va_G} {cs : McT} {mb : Nat} {M1 : MM}
theorem miPc_blind : FrameBlind (miPc mb DM cs) := by
  intro a U g mk q
  obtain ⟨q0, qP, qK, qz⟩ := q
  exact ⟨q0, qP, va_K.moved (u := U) (U := U.calling g mk a) (Vm.Alike.refl U.vm) qK, qz⟩
set_option maxHeartbeats 1000000 in
theorem m_init (hE : EM mb 3 cX19_plain none 0 (lent [.ref mb, .int 0] 3) [] M00 (fun q => q = (none, M1))) : Met l ⟨RX19, "<init>", "()V"⟩ (ws_ ⟨RX19, "<init>", "()V"⟩ cX19_init 1 none) rmI (miPc mb DM cs) (miQc mb DM cs M1) 46 19597 (fun q => mb ≤ q) := by
  refine Met.ofW (cc := cX19_init) (maxL := 1) (ret := none) (by decide) rfl ?_
  intro p e s m args below meth c s₁ B hml hv
  obtain ⟨rfl, hP, hK, hsz⟩ := hv
  have hts0 := atoms_spec (ws := ws_ ⟨RX19, "<init>", "()V"⟩ cX19_init 1 none) B.pre
  have hts : ∀ w ∈ lw_all, w.before _ s = true := fun w h => hts0 w (List.mem_cons_of_mem _ h)
  have hown : s.vm.findClass RX19 = some m.cls := findClass_of_methodNamed B.named
  have hin2 : meth.name = "<init>" := (name_of_methodNamed B.named B.method).1
  have hx := B.exec
  have hb := B.bytes
  have hS : va_S (fun q => mb ≤ q) s.heap s.heap [] := va_S.rf
  have rI_ : s.vm.findClass ("[" ++ FieldType.int.toString) = some cs.1 := (hK.2 0 _ rfl).2
  have rB_ : s.vm.findClass ("[" ++ FieldType.boolean.toString) = some cs.2.1 := (hK.2 1 _ rfl).2
  have rL_ : s.vm.findClass ("[" ++ FieldType.long.toString) = some cs.2.2 := (hK.2 2 _ rfl).2
  rw [lg_entry_eq]
  have hL := LH.entry (vs := [.ref mb]) (n := 1) (by show 1 ≤ 1; decide)
  generalize ((lg_sl [Value.ref mb] ++ List.replicate (1 - (lg_sl [Value.ref mb]).length) Slot.unset).toArray) = LS at hL ⊢
  refine lv_aload_n hx hb dX19_init_0 rfl (hL.at rfl) ?_
  refine W.objInit hx hb hown (hts _ (lw_g (lw_at lw_m9 92 rfl) rfl)) (hts _ qj_oi) (hts _ qj_oc) (g := F0 m 1 LS [.ref mb]) rfl (by rw [hml]; exact hL.2.1) rfl dX19_init_1 (by show 1 ≤ 8; decide) (by show 2 * 0 + 0 + 12 ≤ 600; decide) ?_
  refine lv_aload_n hx hb dX19_init_4 rfl (hL.at rfl) ?_
  refine lv_sipush (v := nI 1000) hx hb dX19_init_5 rfl ?_
  refine mk_arr (k := 0) (N := 1000) (j := 2) (cA0 := cs.1) (a0 := (1000, .inl (fun _ => 0))) hx hb hts hown hin2 hK hP hS hsz dX19_init_8 rfl (lw_g (lw_at lw_m1 164 rfl) rfl) (by rfl) rI_ rfl (by decide) (by decide) dX19_init_10 rfl rfl rfl rfl (by decide +kernel) (by decide) (by decide) (fun H1 locs1 hP1 hS1 => ?_)
  refine lv_aload_n hx hb dX19_init_13 rfl (hL.at rfl) ?_
  refine lv_bipush (v := nI 36) hx hb dX19_init_14 rfl ?_
  refine mk_arr (k := 1) (N := 36) (j := 10) (cA0 := cs.1) (a0 := (36, .inl (fun _ => 0))) hx hb hts hown hin2 hK hP1 hS1 hsz dX19_init_16 rfl (lw_g (lw_at lw_m1 164 rfl) rfl) (by rfl) rI_ rfl (by decide) (by decide) dX19_init_18 rfl rfl rfl rfl (by decide +kernel) (by decide) (by decide) (fun H2 locs2 hP2 hS2 => ?_)
  refine lv_aload_n hx hb dX19_init_21 rfl (hL.at rfl) ?_
  refine lv_bipush (v := nI 42) hx hb dX19_init_22 rfl ?_
  refine mk_arr (k := 2) (N := 42) (j := 11) (cA0 := cs.2.2) (a0 := (42, .inr (.inl (fun _ => 0)))) hx hb hts hown hin2 hK hP2 hS2 hsz dX19_init_24 rfl (lw_g (lw_at lw_m1 165 rfl) rfl) (by rfl) rL_ rfl (by decide) (by decide) dX19_init_26 rfl rfl rfl rfl (by decide +kernel) (by decide) (by decide) (fun H3 locs3 hP3 hS3 => ?_)
  refine lv_aload_n hx hb dX19_init_29 rfl (hL.at rfl) ?_
  refine lv_bipush (v := nI 30) hx hb dX19_init_30 rfl ?_
  refine mk_arr (k := 3) (N := 30) (j := 12) (cA0 := cs.2.2) (a0 := (30, .inr (.inl (fun _ => 0)))) hx hb hts hown hin2 hK hP3 hS3 hsz dX19_init_32 rfl (lw_g (lw_at lw_m1 165 rfl) rfl) (by rfl) rL_ rfl (by decide) (by decide) dX19_init_34 rfl rfl rfl rfl (by decide +kernel) (by decide) (by decide) (fun H4 locs4 hP4 hS4 => ?_)
  refine lv_aload_n hx hb dX19_init_37 rfl (hL.at rfl) ?_
  refine lv_sipush (v := nI 168) hx hb dX19_init_38 rfl ?_
  refine mk_arr (k := 4) (N := 168) (j := 13) (cA0 := cs.1) (a0 := (168, .inl (fun _ => 0))) hx hb hts hown hin2 hK hP4 hS4 hsz dX19_init_41 rfl (lw_g (lw_at lw_m1 164 rfl) rfl) (by rfl) rI_ rfl (by decide) (by decide) dX19_init_43 rfl rfl rfl rfl (by decide +kernel) (by decide) (by decide) (fun H5 locs5 hP5 hS5 => ?_)
  refine lv_aload_n hx hb dX19_init_46 rfl (hL.at rfl) ?_
  refine lv_bipush (v := nI 42) hx hb dX19_init_47 rfl ?_
  refine mk_arr (k := 5) (N := 42) (j := 14) (cA0 := cs.1) (a0 := (42, .inl (fun _ => 0))) hx hb hts hown hin2 hK hP5 hS5 hsz dX19_init_49 rfl (lw_g (lw_at lw_m1 164 rfl) rfl) (by rfl) rI_ rfl (by decide) (by decide) dX19_init_51 rfl rfl rfl rfl (by decide +kernel) (by decide) (by decide) (fun H6 locs6 hP6 hS6 => ?_)
  refine lv_aload_n hx hb dX19_init_54 rfl (hL.at rfl) ?_
  refine lv_bipush (v := nI 42) hx hb dX19_init_55 rfl ?_
  refine mk_arr (k := 6) (N := 42) (j := 15) (cA0 := cs.1) (a0 := (42, .inl (fun _ => 0))) hx hb hts hown hin2 hK hP6 hS6 hsz dX19_init_57 rfl (lw_g (lw_at lw_m1 164 rfl) rfl) (by rfl) rI_ rfl (by decide) (by decide) dX19_init_59 rfl rfl rfl rfl (by decide +kernel) (by decide) (by decide) (fun H7 locs7 hP7 hS7 => ?_)
  refine lv_aload_n hx hb dX19_init_62 rfl (hL.at rfl) ?_
  refine lv_bipush (v := nI 42) hx hb dX19_init_63 rfl ?_
  refine mk_arr (k := 7) (N := 42) (j := 16) (cA0 := cs.1) (a0 := (42, .inl (fun _ => 0))) hx hb hts hown hin2 hK hP7 hS7 hsz dX19_init_65 rfl (lw_g (lw_at lw_m1 164 rfl) rfl) (by rfl) rI_ rfl (by decide) (by decide) dX19_init_67 rfl rfl rfl rfl (by decide +kernel) (by decide) (by decide) (fun H8 locs8 hP8 hS8 => ?_)
  refine lv_aload_n hx hb dX19_init_70 rfl (hL.at rfl) ?_
  refine lv_bipush (v := nI 30) hx hb dX19_init_71 rfl ?_
  refine mk_arr (k := 8) (N := 30) (j := 17) (cA0 := cs.1) (a0 := (30, .inl (fun _ => 0))) hx hb hts hown hin2 hK hP8 hS8 hsz dX19_init_73 rfl (lw_g (lw_at lw_m1 164 rfl) rfl) (by rfl) rI_ rfl (by decide) (by decide) dX19_init_75 rfl rfl rfl rfl (by decide +kernel) (by decide) (by decide) (fun H9 locs9 hP9 hS9 => ?_)
  refine lv_aload_n hx hb dX19_init_78 rfl (hL.at rfl) ?_
  refine lv_bipush (v := nI 30) hx hb dX19_init_79 rfl ?_
  refine mk_arr (k := 9) (N := 30) (j := 18) (cA0 := cs.1) (a0 := (30, .inl (fun _ => 0))) hx hb hts hown hin2 hK hP9 hS9 hsz dX19_init_81 rfl (lw_g (lw_at lw_m1 164 rfl) rfl) (by rfl) rI_ rfl (by decide) (by decide) dX19_init_83 rfl rfl rfl rfl (by decide +kernel) (by decide) (by decide) (fun H10 locs10 hP10 hS10 => ?_)
  refine lv_aload_n hx hb dX19_init_86 rfl (hL.at rfl) ?_
  refine lv_bipush (v := nI 60) hx hb dX19_init_87 rfl ?_
  refine mk_arr (k := 10) (N := 60) (j := 19) (cA0 := cs.1) (a0 := (60, .inl (fun _ => 0))) hx hb hts hown hin2 hK hP10 hS10 hsz dX19_init_89 rfl (lw_g (lw_at lw_m1 164 rfl) rfl) (by rfl) rI_ rfl (by decide) (by decide) dX19_init_91 rfl rfl rfl rfl (by decide +kernel) (by decide) (by decide) (fun H11 locs11 hP11 hS11 => ?_)
  refine lv_aload_n hx hb dX19_init_94 rfl (hL.at rfl) ?_
  refine lv_bipush (v := nI 60) hx hb dX19_init_95 rfl ?_
  refine mk_arr (k := 11) (N := 60) (j := 20) (cA0 := cs.1) (a0 := (60, .inl (fun _ => 0))) hx hb hts hown hin2 hK hP11 hS11 hsz dX19_init_97 rfl (lw_g (lw_at lw_m1 164 rfl) rfl) (by rfl) rI_ rfl (by decide) (by decide) dX19_init_99 rfl rfl rfl rfl (by decide +kernel) (by decide) (by decide) (fun H12 locs12 hP12 hS12 => ?_)
  refine lv_aload_n hx hb dX19_init_102 rfl (hL.at rfl) ?_
  refine lv_bipush (v := nI 12) hx hb dX19_init_103 rfl ?_
  refine mk_arr (k := 12) (N := 12) (j := 21) (cA0 := cs.1) (a0 := (12, .inl (fun _ => 0))) hx hb hts hown hin2 hK hP12 hS12 hsz dX19_init_105 rfl (lw_g (lw_at lw_m1 164 rfl) rfl) (by rfl) rI_ rfl (by decide) (by decide) dX19_init_107 rfl rfl rfl rfl (by decide +kernel) (by decide) (by decide) (fun H13 locs13 hP13 hS13 => ?_)
  refine lv_aload_n hx hb dX19_init_110 rfl (hL.at rfl) ?_
  refine lv_bipush (v := nI 12) hx hb dX19_init_111 rfl ?_
  refine mk_arr (k := 13) (N := 12) (j := 22) (cA0 := cs.1) (a0 := (12, .inl (fun _ => 0))) hx hb hts hown hin2 hK hP13 hS13 hsz dX19_init_113 rfl (lw_g (lw_at lw_m1 164 rfl) rfl) (by rfl) rI_ rfl (by decide) (by decide) dX19_init_115 rfl rfl rfl rfl (by decide +kernel) (by decide) (by decide) (fun H14 locs14 hP14 hS14 => ?_)
  refine lv_aload_n hx hb dX19_init_118 rfl (hL.at rfl) ?_
  refine lv_sipush (v := nI 6000) hx hb dX19_init_119 rfl ?_
  refine mk_arr (k := 14) (N := 6000) (j := 23) (cA0 := cs.1) (a0 := (6000, .inl (fun _ => 0))) hx hb hts hown hin2 hK hP14 hS14 hsz dX19_init_122 rfl (lw_g (lw_at lw_m1 164 rfl) rfl) (by rfl) rI_ rfl (by decide) (by decide) dX19_init_124 rfl rfl rfl rfl (by decide +kernel) (by decide) (by decide) (fun H15 locs15 hP15 hS15 => ?_)
  refine lv_aload_n hx hb dX19_init_127 rfl (hL.at rfl) ?_
  refine lv_bipush (v := nI 18) hx hb dX19_init_128 rfl ?_
  refine mk_arr (k := 15) (N := 18) (j := 24) (cA0 := cs.1) (a0 := (18, .inl (fun _ => 0))) hx hb hts hown hin2 hK hP15 hS15 hsz dX19_init_130 rfl (lw_g (lw_at lw_m1 164 rfl) rfl) (by rfl) rI_ rfl (by decide) (by decide) dX19_init_132 rfl rfl rfl rfl (by decide +kernel) (by decide) (by decide) (fun H16 locs16 hP16 hS16 => ?_)
  refine lv_aload_n hx hb dX19_init_135 rfl (hL.at rfl) ?_
  refine lv_sipush (v := nI 216) hx hb dX19_init_136 rfl ?_
  refine mk_arr (k := 16) (N := 216) (j := 25) (cA0 := cs.1) (a0 := (216, .inl (fun _ => 0))) hx hb hts hown hin2 hK hP16 hS16 hsz dX19_init_139 rfl (lw_g (lw_at lw_m1 164 rfl) rfl) (by rfl) rI_ rfl (by decide) (by decide) dX19_init_141 rfl rfl rfl rfl (by decide +kernel) (by decide) (by decide) (fun H17 locs17 hP17 hS17 => ?_)
  refine lv_aload_n hx hb dX19_init_144 rfl (hL.at rfl) ?_
  refine lv_sipush (v := nI 216) hx hb dX19_init_145 rfl ?_
  refine mk_arr (k := 17) (N := 216) (j := 26) (cA0 := cs.1) (a0 := (216, .inl (fun _ => 0))) hx hb hts hown hin2 hK hP17 hS17 hsz dX19_init_148 rfl (lw_g (lw_at lw_m1 164 rfl) rfl) (by rfl) rI_ rfl (by decide) (by decide) dX19_init_150 rfl rfl rfl rfl (by decide +kernel) (by decide) (by decide) (fun H18 locs18 hP18 hS18 => ?_)
  refine lv_aload_n hx hb dX19_init_153 rfl (hL.at rfl) ?_
  refine lv_sipush (v := nI 216) hx hb dX19_init_154 rfl ?_
  refine mk_arr (k := 18) (N := 216) (j := 27) (cA0 := cs.1) (a0 := (216, .inl (fun _ => 0))) hx hb hts hown hin2 hK hP18 hS18 hsz dX19_init_157 rfl (lw_g (lw_at lw_m1 164 rfl) rfl) (by rfl) rI_ rfl (by decide) (by decide) dX19_init_159 rfl rfl rfl rfl (by decide +kernel) (by decide) (by decide) (fun H19 locs19 hP19 hS19 => ?_)
  refine lv_aload_n hx hb dX19_init_162 rfl (hL.at rfl) ?_
  refine lv_bipush (v := nI 7) hx hb dX19_init_163 rfl ?_
  refine mk_arr (k := 19) (N := 7) (j := 31) (cA0 := cs.1) (a0 := (7, .inl (fun _ => 0))) hx hb hts hown hin2 hK hP19 hS19 hsz dX19_init_165 rfl (lw_g (lw_at lw_m1 164 rfl) rfl) (by rfl) rI_ rfl (by decide) (by decide) dX19_init_167 rfl rfl rfl rfl (by decide +kernel) (by decide) (by decide) (fun H20 locs20 hP20 hS20 => ?_)
  refine lv_aload_n hx hb dX19_init_170 rfl (hL.at rfl) ?_
  refine lv_bipush (v := nI 7) hx hb dX19_init_171 rfl ?_
  refine mk_arr (k := 20) (N := 7) (j := 32) (cA0 := cs.2.1) (a0 := (7, .inl (fun _ => 0))) hx hb hts hown hin2 hK hP20 hS20 hsz dX19_init_173 rfl (lw_g (lw_at lw_m1 208 rfl) rfl) (by rfl) rB_ rfl (by decide) (by decide) dX19_init_175 rfl rfl rfl rfl (by decide +kernel) (by decide) (by decide) (fun H21 locs21 hP21 hS21 => ?_)
  refine lv_aload_n hx hb dX19_init_178 rfl (hL.at rfl) ?_
  refine lv_bipush (v := nI 7) hx hb dX19_init_179 rfl ?_
  refine mk_arr (k := 21) (N := 7) (j := 33) (cA0 := cs.1) (a0 := (7, .inl (fun _ => 0))) hx hb hts hown hin2 hK hP21 hS21 hsz dX19_init_181 rfl (lw_g (lw_at lw_m1 164 rfl) rfl) (by rfl) rI_ rfl (by decide) (by decide) dX19_init_183 rfl rfl rfl rfl (by decide +kernel) (by decide) (by decide) (fun H22 locs22 hP22 hS22 => ?_)
  refine lv_aload_n hx hb dX19_init_186 rfl (hL.at rfl) ?_
  refine lv_bipush (v := nI 7) hx hb dX19_init_187 rfl ?_
  refine mk_arr (k := 22) (N := 7) (j := 34) (cA0 := cs.1) (a0 := (7, .inl (fun _ => 0))) hx hb hts hown hin2 hK hP22 hS22 hsz dX19_init_189 rfl (lw_g (lw_at lw_m1 164 rfl) rfl) (by rfl) rI_ rfl (by decide) (by decide) dX19_init_191 rfl rfl rfl rfl (by decide +kernel) (by decide) (by decide) (fun H23 locs23 hP23 hS23 => ?_)
  refine lv_aload_n hx hb dX19_init_194 rfl (hL.at rfl) ?_
  refine lv_bipush (v := nI 7) hx hb dX19_init_195 rfl ?_
  refine mk_arr (k := 23) (N := 7) (j := 35) (cA0 := cs.1) (a0 := (7, .inl (fun _ => 0))) hx hb hts hown hin2 hK hP23 hS23 hsz dX19_init_197 rfl (lw_g (lw_at lw_m1 164 rfl) rfl) (by rfl) rI_ rfl (by decide) (by decide) dX19_init_199 rfl rfl rfl rfl (by decide +kernel) (by decide) (by decide) (fun H24 locs24 hP24 hS24 => ?_)
  refine lv_aload_n hx hb dX19_init_202 rfl (hL.at rfl) ?_
  refine lv_bipush (v := nI 7) hx hb dX19_init_203 rfl ?_
  refine mk_arr (k := 24) (N := 7) (j := 36) (cA0 := cs.1) (a0 := (7, .inl (fun _ => 0))) hx hb hts hown hin2 hK hP24 hS24 hsz dX19_init_205 rfl (lw_g (lw_at lw_m1 164 rfl) rfl) (by rfl) rI_ rfl (by decide) (by decide) dX19_init_207 rfl rfl rfl rfl (by decide +kernel) (by decide) (by decide) (fun H25 locs25 hP25 hS25 => ?_)
  refine lv_aload_n hx hb dX19_init_210 rfl (hL.at rfl) ?_
  refine lv_bipush (v := nI 7) hx hb dX19_init_211 rfl ?_
  refine mk_arr (k := 25) (N := 7) (j := 37) (cA0 := cs.1) (a0 := (7, .inl (fun _ => 0))) hx hb hts hown hin2 hK hP25 hS25 hsz dX19_init_213 rfl (lw_g (lw_at lw_m1 164 rfl) rfl) (by rfl) rI_ rfl (by decide) (by decide) dX19_init_215 rfl rfl rfl rfl (by decide +kernel) (by decide) (by decide) (fun H26 locs26 hP26 hS26 => ?_)
  refine lv_aload_n hx hb dX19_init_218 rfl (hL.at rfl) ?_
  refine lv_bipush (v := nI 7) hx hb dX19_init_219 rfl ?_
  refine mk_arr (k := 26) (N := 7) (j := 38) (cA0 := cs.1) (a0 := (7, .inl (fun _ => 0))) hx hb hts hown hin2 hK hP26 hS26 hsz dX19_init_221 rfl (lw_g (lw_at lw_m1 164 rfl) rfl) (by rfl) rI_ rfl (by decide) (by decide) dX19_init_223 rfl rfl rfl rfl (by decide +kernel) (by decide) (by decide) (fun H27 locs27 hP27 hS27 => ?_)
  refine lv_aload_n hx hb dX19_init_226 rfl (hL.at rfl) ?_
  refine lv_bipush (v := nI 7) hx hb dX19_init_227 rfl ?_
  refine mk_arr (k := 27) (N := 7) (j := 39) (cA0 := cs.1) (a0 := (7, .inl (fun _ => 0))) hx hb hts hown hin2 hK hP27 hS27 hsz dX19_init_229 rfl (lw_g (lw_at lw_m1 164 rfl) rfl) (by rfl) rI_ rfl (by decide) (by decide) dX19_init_231 rfl rfl rfl rfl (by decide +kernel) (by decide) (by decide) (fun H28 locs28 hP28 hS28 => ?_)
  refine lv_aload_n hx hb dX19_init_234 rfl (hL.at rfl) ?_
  refine lv_bipush (v := nI 7) hx hb dX19_init_235 rfl ?_
  refine mk_arr (k := 28) (N := 7) (j := 40) (cA0 := cs.1) (a0 := (7, .inl (fun _ => 0))) hx hb hts hown hin2 hK hP28 hS28 hsz dX19_init_237 rfl (lw_g (lw_at lw_m1 164 rfl) rfl) (by rfl) rI_ rfl (by decide) (by decide) dX19_init_239 rfl rfl rfl rfl (by decide +kernel) (by decide) (by decide) (fun H29 locs29 hP29 hS29 => ?_)
  refine lv_aload_n hx hb dX19_init_242 rfl (hL.at rfl) ?_
  refine lv_bipush (v := nI 7) hx hb dX19_init_243 rfl ?_
  refine mk_arr (k := 29) (N := 7) (j := 41) (cA0 := cs.1) (a0 := (7, .inl (fun _ => 0))) hx hb hts hown hin2 hK hP29 hS29 hsz dX19_init_245 rfl (lw_g (lw_at lw_m1 164 rfl) rfl) (by rfl) rI_ rfl (by decide) (by decide) dX19_init_247 rfl rfl rfl rfl (by decide +kernel) (by decide) (by decide) (fun H30 locs30 hP30 hS30 => ?_)
  refine lv_aload_n hx hb dX19_init_250 rfl (hL.at rfl) ?_
  refine lv_bipush (v := nI 20) hx hb dX19_init_251 rfl ?_
  refine mk_arr (k := 30) (N := 20) (j := 42) (cA0 := cs.1) (a0 := (20, .inl (fun _ => 0))) hx hb hts hown hin2 hK hP30 hS30 hsz dX19_init_253 rfl (lw_g (lw_at lw_m1 164 rfl) rfl) (by rfl) rI_ rfl (by decide) (by decide) dX19_init_255 rfl rfl rfl rfl (by decide +kernel) (by decide) (by decide) (fun H31 locs31 hP31 hS31 => ?_)
  refine lv_aload_n hx hb dX19_init_258 rfl (hL.at rfl) ?_
  refine lv_sipush (v := nI 402) hx hb dX19_init_259 rfl ?_
  refine mk_arr (k := 31) (N := 402) (j := 44) (cA0 := cs.1) (a0 := (402, .inl (fun _ => 0))) hx hb hts hown hin2 hK hP31 hS31 hsz dX19_init_262 rfl (lw_g (lw_at lw_m1 164 rfl) rfl) (by rfl) rI_ rfl (by decide) (by decide) dX19_init_264 rfl rfl rfl rfl (by decide +kernel) (by decide) (by decide) (fun H32 locs32 hP32 hS32 => ?_)
  refine lv_aload_n hx hb dX19_init_267 rfl (hL.at rfl) ?_
  refine lv_sipush (v := nI 2412) hx hb dX19_init_268 rfl ?_
  refine mk_arr (k := 32) (N := 2412) (j := 45) (cA0 := cs.1) (a0 := (2412, .inl (fun _ => 0))) hx hb hts hown hin2 hK hP32 hS32 hsz dX19_init_271 rfl (lw_g (lw_at lw_m1 164 rfl) rfl) (by rfl) rI_ rfl (by decide) (by decide) dX19_init_273 rfl rfl rfl rfl (by decide +kernel) (by decide) (by decide) (fun H33 locs33 hP33 hS33 => ?_)
  refine lv_aload_n hx hb dX19_init_276 rfl (hL.at rfl) ?_
  refine lv_sipush (v := nI 1608) hx hb dX19_init_277 rfl ?_
  refine mk_arr (k := 33) (N := 1608) (j := 46) (cA0 := cs.1) (a0 := (1608, .inl (fun _ => 0))) hx hb hts hown hin2 hK hP33 hS33 hsz dX19_init_280 rfl (lw_g (lw_at lw_m1 164 rfl) rfl) (by rfl) rI_ rfl (by decide) (by decide) dX19_init_282 rfl rfl rfl rfl (by decide +kernel) (by decide) (by decide) (fun H34 locs34 hP34 hS34 => ?_)
  refine lv_aload_n hx hb dX19_init_285 rfl (hL.at rfl) ?_
  refine lv_sipush (v := nI 6432) hx hb dX19_init_286 rfl ?_
  refine mk_arr (k := 34) (N := 6432) (j := 47) (cA0 := cs.1) (a0 := (6432, .inl (fun _ => 0))) hx hb hts hown hin2 hK hP34 hS34 hsz dX19_init_289 rfl (lw_g (lw_at lw_m1 164 rfl) rfl) (by rfl) rI_ rfl (by decide) (by decide) dX19_init_291 rfl rfl rfl rfl (by decide +kernel) (by decide) (by decide) (fun H35 locs35 hP35 hS35 => ?_)
  refine lv_aload_n hx hb dX19_init_294 rfl (hL.at rfl) ?_
  refine lv_iconst (v := nI 4) hx hb dX19_init_295 rfl ?_
  refine mk_arr (k := 35) (N := 4) (j := 49) (cA0 := cs.1) (a0 := (4, .inl (fun _ => 0))) hx hb hts hown hin2 hK hP35 hS35 hsz dX19_init_296 rfl (lw_g (lw_at lw_m1 164 rfl) rfl) (by rfl) rI_ rfl (by decide) (by decide) dX19_init_298 rfl rfl rfl rfl (by decide +kernel) (by decide) (by decide) (fun H36 locs36 hP36 hS36 => ?_)
  refine lv_aload_n hx hb dX19_init_301 rfl (hL.at rfl) ?_
  refine lv_iconst (v := nI 4) hx hb dX19_init_302 rfl ?_
  refine mk_arr (k := 36) (N := 4) (j := 50) (cA0 := cs.1) (a0 := (4, .inl (fun _ => 0))) hx hb hts hown hin2 hK hP36 hS36 hsz dX19_init_303 rfl (lw_g (lw_at lw_m1 164 rfl) rfl) (by rfl) rI_ rfl (by decide) (by decide) dX19_init_305 rfl rfl rfl rfl (by decide +kernel) (by decide) (by decide) (fun H37 locs37 hP37 hS37 => ?_)
  refine lv_aload_n hx hb dX19_init_308 rfl (hL.at rfl) ?_
  refine lv_bipush (v := nI 20) hx hb dX19_init_309 rfl ?_
  refine mk_arr (k := 37) (N := 20) (j := 51) (cA0 := cs.1) (a0 := (20, .inl (fun _ => 0))) hx hb hts hown hin2 hK hP37 hS37 hsz dX19_init_311 rfl (lw_g (lw_at lw_m1 164 rfl) rfl) (by rfl) rI_ rfl (by decide) (by decide) dX19_init_313 rfl rfl rfl rfl (by decide +kernel) (by decide) (by decide) (fun H38 locs38 hP38 hS38 => ?_)
  refine lv_aload_n hx hb dX19_init_316 rfl (hL.at rfl) ?_
  refine lv_iconst (v := nI 5) hx hb dX19_init_317 rfl ?_
  refine mk_arr (k := 38) (N := 5) (j := 52) (cA0 := cs.2.1) (a0 := (5, .inl (fun _ => 0))) hx hb hts hown hin2 hK hP38 hS38 hsz dX19_init_318 rfl (lw_g (lw_at lw_m1 208 rfl) rfl) (by rfl) rB_ rfl (by decide) (by decide) dX19_init_320 rfl rfl rfl rfl (by decide +kernel) (by decide) (by decide) (fun H39 locs39 hP39 hS39 => ?_)
  refine lv_aload_n hx hb dX19_init_323 rfl (hL.at rfl) ?_
  refine lv_iconst (v := nI 4) hx hb dX19_init_324 rfl ?_
  refine mk_arr (k := 39) (N := 4) (j := 53) (cA0 := cs.1) (a0 := (4, .inl (fun _ => 0))) hx hb hts hown hin2 hK hP39 hS39 hsz dX19_init_325 rfl (lw_g (lw_at lw_m1 164 rfl) rfl) (by rfl) rI_ rfl (by decide) (by decide) dX19_init_327 rfl rfl rfl rfl (by decide +kernel) (by decide) (by decide) (fun H40 locs40 hP40 hS40 => ?_)
  refine lv_aload_n hx hb dX19_init_330 rfl (hL.at rfl) ?_
  refine lv_bipush (v := nI 100) hx hb dX19_init_331 rfl ?_
  refine mk_arr (k := 40) (N := 100) (j := 54) (cA0 := cs.1) (a0 := (100, .inl (fun _ => 0))) hx hb hts hown hin2 hK hP40 hS40 hsz dX19_init_333 rfl (lw_g (lw_at lw_m1 164 rfl) rfl) (by rfl) rI_ rfl (by decide) (by decide) dX19_init_335 rfl rfl rfl rfl (by decide +kernel) (by decide) (by decide) (fun H41 locs41 hP41 hS41 => ?_)
  refine lv_aload_n hx hb dX19_init_338 rfl (hL.at rfl) ?_
  refine lv_bipush (v := nI 100) hx hb dX19_init_339 rfl ?_
  refine mk_arr (k := 41) (N := 100) (j := 56) (cA0 := cs.1) (a0 := (100, .inl (fun _ => 0))) hx hb hts hown hin2 hK hP41 hS41 hsz dX19_init_341 rfl (lw_g (lw_at lw_m1 164 rfl) rfl) (by rfl) rI_ rfl (by decide) (by decide) dX19_init_343 rfl rfl rfl rfl (by decide +kernel) (by decide) (by decide) (fun H42 locs42 hP42 hS42 => ?_)
  refine lv_aload_n hx hb dX19_init_346 rfl (hL.at rfl) ?_
  refine lv_bipush (v := nI 7) hx hb dX19_init_347 rfl ?_
  refine mk_arr (k := 42) (N := 7) (j := 58) (cA0 := cs.1) (a0 := (7, .inl (fun _ => 0))) hx hb hts hown hin2 hK hP42 hS42 hsz dX19_init_349 rfl (lw_g (lw_at lw_m1 164 rfl) rfl) (by rfl) rI_ rfl (by decide) (by decide) dX19_init_351 rfl rfl rfl rfl (by decide +kernel) (by decide) (by decide) (fun H43 locs43 hP43 hS43 => ?_)
  refine lv_aload_n hx hb dX19_init_354 rfl (hL.at rfl) ?_
  refine lv_bipush (v := nI 63) hx hb dX19_init_355 rfl ?_
  refine mk_arr (k := 43) (N := 63) (j := 59) (cA0 := cs.1) (a0 := (63, .inl (fun _ => 0))) hx hb hts hown hin2 hK hP43 hS43 hsz dX19_init_357 rfl (lw_g (lw_at lw_m1 164 rfl) rfl) (by rfl) rI_ rfl (by decide) (by decide) dX19_init_359 rfl rfl rfl rfl (by decide +kernel) (by decide) (by decide) (fun H44 locs44 hP44 hS44 => ?_)
  refine lv_aload_n hx hb dX19_init_362 rfl (hL.at rfl) ?_
  refine lv_bipush (v := nI 63) hx hb dX19_init_363 rfl ?_
  refine mk_arr (k := 44) (N := 63) (j := 60) (cA0 := cs.1) (a0 := (63, .inl (fun _ => 0))) hx hb hts hown hin2 hK hP44 hS44 hsz dX19_init_365 rfl (lw_g (lw_at lw_m1 164 rfl) rfl) (by rfl) rI_ rfl (by decide) (by decide) dX19_init_367 rfl rfl rfl rfl (by decide +kernel) (by decide) (by decide) (fun H45 locs45 hP45 hS45 => ?_)
  refine lv_aload_n hx hb dX19_init_370 rfl (hL.at rfl) ?_
  refine lv_iconst (v := nI 4) hx hb dX19_init_371 rfl ?_
  refine mk_arr (k := 45) (N := 4) (j := 62) (cA0 := cs.2.1) (a0 := (4, .inl (fun _ => 0))) hx hb hts hown hin2 hK hP45 hS45 hsz dX19_init_372 rfl (lw_g (lw_at lw_m1 208 rfl) rfl) (by rfl) rB_ rfl (by decide) (by decide) dX19_init_374 rfl rfl rfl rfl (by decide +kernel) (by decide) (by decide) (fun H46 locs46 hP46 hS46 => ?_)
  refine lv_aload_n hx hb dX19_init_377 rfl (hL.at rfl) ?_
  refine lv_iconst (v := 0) hx hb dX19_init_378 rfl ?_
  rw [wk_46] at hP46
  obtain ⟨q, hX, rfl⟩ := hE
  have hM := m_contract (l := l) (D := DM) (cs := cs) (y := ⟨RX19, "plain", "(I)V"⟩) hX rfl (by decide)
  have hrun := va_runV (C := RX19) (p := p) (e := e) (below := below) (meth := meth) (H := H46) (locs := locs46) (cells := 46) (slots := 19597) (R := rmI) (own := RX19) (cc := cX19_init) (nL := 1) (Ts := lw_all) (n := 1) (b := mb) (As := [.int 0]) (rest := []) (g := F0 m 379 LS [.int 0, .ref mb]) ⟨hx, hb, hml, hown, hts⟩ hM (cwV 1 hts (lw_V (lw_g (lw_at lw_m9 93 rfl) rfl) (lw_g (lw_at lw_m9 95 rfl) rfl) qs55 (lw_g (lw_at lw_m1 22 rfl) rfl) (lw_g (lw_at lw_m9 96 rfl) rfl)) rfl rfl rfl ⟨rfl, by decide, by decide, by decide +kernel⟩ ⟨by show 3 + 1 + 1 ≤ 8; omega, by show 8 + (3 + 11) + 64 * (3 + 1) ≤ 600; omega⟩) ⟨mPc_blind, va_recv hK hP46 (ci := 0) (q0 := 0) rfl mce_obj, fun U hU hW => ⟨rfl, by rw [hU]; exact hP46, va_K.moved hW.alike hK⟩⟩ rfl rfl hL.2.1 rfl (lv_room (show catS [] ≤ 8 by decide)) dX19_init_379 ⟨by show 46 + 0 ≤ 46; omega, by show 19597 + 0 ≤ 19597; omega⟩
  intro T hT X
  obtain ⟨v, st₀, t, T', L', h0, X', hLf, e1, e2, ⟨hv, hp, hz, hk⟩, st⟩ := hrun T hT X
  cases hv
  rw [h0] at hz hk
  have hSz : va_S (fun q => mb ≤ q) s.heap T'.heap (locs46 ++ L') := ⟨Nat.le_trans hS46.1 (by rw [e1]; exact hz), fun q h1 h2 => by rw [e1, hk q (Nat.lt_of_lt_of_le h1 hS46.1) (fun z => h2 z.1)]; exact hS46.2.1 q h1 h2, fun q hq => by
    rcases List.mem_append.mp hq with h | h
    · exact hS46.2.2 q h
    · exact (hLf q h).1⟩
  have kgo : W p l e rmI s m _ below meth c T'.heap (locs46 ++ L') (46 + 0) (19597 + 0) (MQ below (miQc mb DM cs M1) _ s 46 19597 (fun q => mb ≤ q)) (F0 m (379 + 3) LS []) := W.vret hx hb B.returns (fun t2 ht2 hW => ⟨rfl, by rw [ht2, e1]; exact hp, hSz.F ht2⟩) hSz.2.2 dX19_init_382 B.notSynchronized
  obtain ⟨t2, a1, b1⟩ := kgo T' rfl X'
  exact ⟨t2, st t2 a1, b1⟩
end
