set_option maxRecDepth 100000
/-! THE LAW: years -/
section
variable {zs : Nat → Nat} {x0 mb : Nat} {σ : CM} {G : Gh} {M : MM} {a : Ab} {B e : Nat} {P : MR → Prop}
theorem m_thrown : EM mb e cX19_thrown (some .int) 0 [some (.ref mb)] [] M P ↔ P (some (.int (rI M 0 0)), M) := by
  simp (disch := omega) only [em_aload_n (i := 0) dX19_thrown_0 rfl, em_getI dX19_thrown_1 fcp_154 (Or.inl rfl), em_iret dX19_thrown_4, em_zret dX19_thrown_4, cat1_i, cat1_r, catB_n, catB_i, catB_r, catB_l, lg_0, lg_s, ldEI_i, ldEL_l, ldEA_r, lin_0, lin_s, ls1_0, ls1_1, ls1_s, ls2_0, ls2_1, ls2_s, lcl_i, lcl_r, lcl_l, lcl_n, lent_i, lent_r, lent_l, lent_0, lent_s, Option.toList_some, Option.toList_none, List.cons_append, List.nil_append, Nat.reduceAdd, true_and, mI_, mLg_, mV_, mInc_, mK_, nI_add, nI_mul, nI_subI, nI_clampI, inb_t, nI_lt0, nI_0le, nI_m1, nI_m1', nI_ofNat, bI_01, b01_0, b01_1, bI_eq0, bI_eq1, bb_01, true_or, or_true, false_or, or_false, eq_self, al_1, al_2, al_3, al_4, al_5, al_6, al_7, al_8, al_9, al_10, al_11, al_12, al_13, al_14, al_15, al_16, al_17, al_18, al_19, al_20, al_21, al_22, al_23, al_24, al_25, al_26, al_27, al_28, al_29, al_30, al_31, al_32, al_33, al_34, al_35, al_36, al_37, al_38, al_39, al_40, al_41, al_42, al_43, al_44, al_45, al_46, Nat.reduceAdd, Nat.reduceMul, Nat.reduceSub, Nat.reduceLT, Nat.reduceLeDiff, Nat.reduceEqDiff, ↓reduceIte, and_true, true_and, and_self, Nat.add_zero, Nat.zero_add, not_false_eq_true, not_true_eq_false, rI_we, rI_wn, faV_n, faV_s, m1_lt0, m1_0le, m1_eq0, m1_le, le_m1, m1_lt, lt_m1, rI_wo', rL_wI, rI_wL, nI_lt_t, nI_lt_f, nI_le_t, nI_le_f, nI_eq_t, nI_eq_f, nI_eq0_t, nI_eq0_f, nI_0lt_t, nI_0lt_f, nI_le0_t, nI_le0_f, nI_eq1_t, nI_eq1_f]
/-- years on both sides -/
theorem pr_years {y b c : Int32} (hI : LI zs x0 σ G M a B) (hB : B + 68040 ≤ 4400000) : ∃ (v : Int32) (σ' : CM) (G' : Gh) (M' : MM), EM mb 20 cX19_years (some .int) 0 (lent [.ref mb, .int y, .int b, .int c] 13) [] M (fun q => q = (some (.int v), M')) ∧ rI M' 0 0 = bI (!vYr a.q y b c) ∧ LI zs x0 σ' G' M' a (B + 68040) ∧ Gr σ G a σ' G' a ∧ ((vYr a.q y b c = true ∧ EC zs (Jc zs) 200 cX1_years (some .int) 0 0 0 (lent [.ref x0, .int y, .int b, .int c] 11) [] σ (fun q => q = (.inl (some (.int v)), σ'))) ∨ (vYr a.q y b c = false ∧ (∃ fs, gC σ' σ.1 = some (.inl (38, fs))) ∧ EC zs (Jc zs) 200 cX1_years (some .int) 0 0 0 (lent [.ref x0, .int y, .int b, .int c] 11) [] σ (fun q => q = (.inr σ.1, σ')))) := by
  obtain ⟨hI, hM, hA⟩ := hI
  have hm : EM mb (13 + 7) cX19_years (some .int) 0 (lent [.ref mb, .int y, .int b, .int c] 13) [] M (fun q => q.1 = some (.int (spYears a.q a.s y b c)) ∧ rI q.2 0 0 = bI (!vYr a.q y b c) ∧ MIa q.2 a) := mi_years hM hA (fun _ h1 h2 => ⟨rfl, h2, h1⟩)
  obtain ⟨⟨r2, M'⟩, X2, h2, h3, hM'⟩ := hm
  dsimp only at h2
  subst h2
  cases hv : vYr a.q y b c with
  | true =>
    have hc : EC zs (Jc zs) (72 + 128) cX1_years (some .int) 0 0 0 (lent [.ref x0, .int y, .int b, .int c] 11) [] σ (fun q => q.1 = .inl (some (.int (spYears a.q a.s y b c))) ∧ CO zs x0 σ G a a q.2) := ci_years hI hA hv (fun _ h => ⟨rfl, h⟩)
    obtain ⟨⟨r1, σ'⟩, X1, h1, G', hI', hG⟩ := hc
    dsimp only at h1
    subst h1
    rw [hv] at h3
    exact ⟨_, σ', G', M', ⟨_, X2, rfl⟩, h3, ⟨hI', hM', hA.up hB⟩, hG, Or.inl ⟨rfl, ⟨_, X1, rfl⟩⟩⟩
  | false =>
    have hc : EC zs (Jc zs) (72 + 128) cX1_years (some .int) 0 0 0 (lent [.ref x0, .int y, .int b, .int c] 11) [] σ (fun q => q.1 = .inr σ.1 ∧ CO zs x0 σ G a a q.2 ∧ ∃ fs, gC q.2 σ.1 = some (.inl (38, fs))) := ci_yearsT hI hA hv (fun _ fs h hf => ⟨rfl, h, fs, hf⟩)
    obtain ⟨⟨r1, σ'⟩, X1, h1, ⟨G', hI', hG⟩, hf⟩ := hc
    dsimp only at h1
    subst h1
    rw [hv] at h3
    exact ⟨_, σ', G', M', ⟨_, X2, rfl⟩, h3, ⟨hI', hM', hA.up hB⟩, hG, Or.inr ⟨rfl, hf, ⟨_, X1, rfl⟩⟩⟩
end
/-! the law's own method that catches -/
def yLY : MethodName := ⟨"KnowLocksLaw", "years", "(LKnowLocks;III[J)I"⟩
def lyB (D : va_G) (ac : Nat → ClassId) (DM : va_G) (cs : McT) (A : Nat → Prop) (zs : Nat → Nat) (o : Nat) (w : Nat → Int64) (σ : CM) : State → Prop := fun U => (HP D ac A σ U.heap ∧ va_K D cCl (cTys ac) U ∧ NW U ∧ ZW zs A U U.heap) ∧ va_P DM mCl [(o, .inl (cs.2.2, 1, .inr (.inl w)))] U.heap ∧ va_K DM mCl (mtys cs) U
def lyPc (D : va_G) (ac : Nat → ClassId) (DM : va_G) (cs : McT) (A : Nat → Prop) (zs : Nat → Nat) (o : Nat) (w : Nat → Int64) (av : List Value) (σ : CM) : Array Value → State → Prop := va_Pc av (lyB D ac DM cs A zs o w σ)
def lyQc (D : va_G) (ac : Nat → ClassId) (DM : va_G) (cs : McT) (A : Nat → Prop) (o : Nat) (w : Nat → Int64) (σ' : CM) (r : Int32) : Array Value → State → Outcome → State → Prop := fun _ st oc t => oc = .returned (some (.int r)) ∧ HP D ac A σ' t.heap ∧ va_P DM mCl [(o, .inl (cs.2.2, 1, .inr (.inl w)))] t.heap ∧ va_F (fun q => A q ∨ q = o) st t
def rmY (nc ns : Nat) : Room := { frames := 220, cells := nc, slots := ns, locals := 64 * 220 }
section
variable {D : va_G} {ac : Nat → ClassId} {DM : va_G} {cs : McT} {A : Nat → Prop} {zs : Nat → Nat} {l : Launch} {o x0 : Nat} {w : Nat → Int64} {σ σ' : CM} {y b c : Int32}
theorem lyPc_blind {av : List Value} : FrameBlind (lyPc D ac DM cs A zs o w av σ) := by
  intro a U g mk q
  obtain ⟨q0, q1, q2, q3⟩ := q
  obtain ⟨h0, h1, h2, h3, h4⟩ := cPc_blind (D := D) (ac := ac) (A := A) (zs := zs) (As := av) (σ := σ) a U g mk ⟨q0, q1⟩
  exact ⟨q0, ⟨h1, h2, h3, h4⟩, q2, va_K.moved (u := U) (U := U.calling g mk a) (Vm.Alike.refl U.vm) q3⟩
theorem one_at {a : Nat} {x : va_E} {H : Heap} (h : va_at DM mCl (a, x) H) : va_P DM mCl [(a, x)] H := by
  intro k q hk
  have hz : k < 1 := (List.getElem?_eq_some_iff.mp hk).1
  rw [show k = 0 by omega] at hk
  cases hk
  exact h
theorem qy_link : Cond.methodLink "KnowLocksLaw" 7 ⟨"KnowLocks", "years", "(III)I"⟩ ∈ lw_all := (lw_g (lw_at lw_m9 50 rfl) rfl)
theorem qy_good : GoodIn lw_all (wsV "KnowLocksLaw" 7 "KnowLocks" ⟨"KnowLocks", "years", "(III)I"⟩ (ws_ ⟨"KnowLocks", "years", "(III)I"⟩ cX1_years 11 (some .int))) := lw_V qy_link (lw_g (lw_at lw_m9 51 rfl) rfl) (lw_g (lw_at lw_m9 52 rfl) rfl) (lw_g (lw_at lw_m1 1 rfl) rfl) (lw_g (lw_at lw_m9 53 rfl) rfl)
theorem qy_nse : Cond.classLink "KnowLocksLaw" 13 "java/util/NoSuchElementException" ∈ lw_all := (lw_g (lw_at lw_m9 49 rfl) rfl)
/-- what is the same in both ways of years -/
theorem ly_met (hl0 : l.stackTraces = false) {rg : Option Value ⊕ Nat} (hE : EC zs (Jc zs) 200 cX1_years (some .int) 0 0 0 (lent [.ref x0, .int y, .int b, .int c] 11) [] σ (fun q => q = (rg, σ'))) {fs : List Value} (hg : gC σ x0 = some (.inl (0, fs))) (hoA : ¬ A o) (hfree : gC σ' o = none)
    (hres : (∃ v : Int32, rg = .inl (some (.int v))) ∨ (rg = .inr σ.1 ∧ ∃ fs, gC σ' σ.1 = some (.inl (38, fs)))) :
    leM σ σ' ∧ Met l yLY (wsW_ yLY cX0_years 6 (some .int) [(0, 12, 15, 13)]) (rmY (σ'.1 - σ.1) (σ'.2.1 - σ.2.1)) (lyPc D ac DM cs A zs o w [.ref x0, .int y, .int b, .int c, .ref o] σ) (lyQc D ac DM cs A o (match rg with | .inl (some (.int v)) => vp_updL w 0 v.toInt64 | _ => w) σ' (match rg with | .inl _ => 0 | .inr _ => 1)) (σ'.1 - σ.1) (σ'.2.1 - σ.2.1) (fun q => A q ∨ q = o) := by
  have hJ : JOK l D ac A zs (Jc zs) := Jc_ok hl0
  obtain ⟨hm, hM⟩ := c_contract hJ (y := ⟨"KnowLocks", "years", "(III)I"⟩) (r := (rg, σ')) hE rfl (by decide) rfl (fun z => by cases z) (by show 4 ≤ 11; decide)
  refine ⟨hm, ?_⟩
  refine va_MetW (cc := cX0_years) (maxL := 6) (ret := some .int) (hh := [(0, 12, 15, 13)]) (by decide) rfl ?_
  intro p e s m args below meth cd s₁ B hml hv
  obtain ⟨rfl, ⟨hP, hK, hN, hZ⟩, hO, hKM⟩ := hv
  have hts0 := atoms_spec (ws := wsW_ yLY cX0_years 6 (some .int) [(0, 12, 15, 13)]) B.pre
  have hts : ∀ w ∈ lw_all, w.before _ s = true := fun w h => hts0 w (List.mem_cons_of_mem _ h)
  have hex := body_tab B (hts0 _ List.mem_cons_self)
  have hown : s.vm.findClass "KnowLocksLaw" = some m.cls := findClass_of_methodNamed B.named
  have hx := B.exec
  have hb := B.bytes
  rw [lg_entry_eq]
  have hL := LH.entry (vs := [.ref x0, .int y, .int b, .int c, .ref o]) (n := 6) (by show 5 ≤ 6; decide)
  generalize ((lg_sl [Value.ref x0, .int y, .int b, .int c, .ref o] ++ List.replicate (6 - (lg_sl [Value.ref x0, .int y, .int b, .int c, .ref o]).length) Slot.unset).toArray) = LS at hL ⊢
  refine lv_aload hx hb dX0_years_0 (hL.at rfl) ?_
  refine lv_iconst (v := 0) hx hb dX0_years_2 rfl ?_
  refine lv_aload_n hx hb dX0_years_3 rfl (hL.at rfl) ?_
  refine lv_iload_n hx hb dX0_years_4 rfl (hL.at rfl) ?_
  refine lv_iload_n hx hb dX0_years_5 rfl (hL.at rfl) ?_
  refine lv_iload_n hx hb dX0_years_6 rfl (hL.at rfl) ?_
  have S : CallFix p m cd cX0_years 6 s _ lw_all "KnowLocksLaw" := ⟨hx, hb, hml, hown, hts⟩
  have hr : ∃ cellB : Cell, s.heap[x0]? = some cellB ∧ cellB.vm.isStatics = false ∧ s.vm.findClass "KnowLocks" = some cellB.cls := va_recv hK (hP.one hg) (ci := 0) (q0 := 0) (q := cCl.getD 0 ("", (fun _ => ("", "", "", false)), 0)) rfl rfl
  have hp : PreV s s.heap "KnowLocks" x0 (cPc D ac A zs [.ref x0, .int y, .int b, .int c] σ) [.int y, .int b, .int c] := ⟨cPc_blind, hr, fun U hU hW => ⟨rfl, by rw [hU]; exact hP, va_K.moved hW.alike hK, hN.warm hW, hZ.go hW va_S.rf hU⟩⟩
  have hcw := cwV (C := "KnowLocks") (R := rmY (σ'.1 - σ.1) (σ'.2.1 - σ.2.1)) (rm := rmC 200 (σ'.1 - σ.1) (σ'.2.1 - σ.2.1)) (mc := σ'.1 - σ.1) (ms := σ'.2.1 - σ.2.1) 3 hts qy_good rfl rfl rfl ⟨rfl, by decide, by decide, by decide +kernel⟩ ⟨by show 200 + 8 + 1 ≤ 220; omega, by show 8 + (11 + 11) + 64 * (200 + 8) ≤ 64 * 220; omega⟩
  have ho : s.heap[o]? = some (vp_cell cs.2.2 (1, .inr (.inl w))) := hO 0 _ rfl
  have hol : o < s.heap.size := (Array.getElem?_eq_some_iff.mp ho).1
  rcases hres with ⟨v, rfl⟩ | ⟨rfl, fs', hfs'⟩
  · have hM : Met l ⟨"KnowLocks", "years", "(III)I"⟩ _ _ (cPc D ac A zs [.ref x0, .int y, .int b, .int c] σ) (cQc D ac A (.inl (some (.int v)), σ')) _ _ A := hM
    have hrun := va_runV (C := "KnowLocks") (p := p) (e := e) (below := below) (meth := meth) (locs := []) (cells := 0) (slots := 0) (As := [.int y, .int b, .int c]) (rest := [.int 0, .ref o]) (g := F0 m 7 LS [.int c, .int b, .int y, .ref x0, .int 0, .ref o]) S hM hcw hp rfl rfl hL.2.1 rfl (lv_room (show catS [.int 0, .ref o] ≤ 8 from (by show 2 ≤ 8; decide))) dX0_years_7 ⟨by show 0 + (σ'.1 - σ.1) ≤ σ'.1 - σ.1; omega, by show 0 + (σ'.2.1 - σ.2.1) ≤ σ'.2.1 - σ.2.1; omega⟩
    refine c_callG hrun va_S.rf (fun H1 locs1 hP1 hS1 => ?_)
    rw [Nat.zero_add, Nat.zero_add]
    have ho1 : H1[o]? = some (vp_cell cs.2.2 (1, .inr (.inl w))) := by rw [hS1.2.1 o hol hoA]; exact ho
    refine lv_i2l hx hb dX0_years_10 rfl ?_
    refine W.last hx hb ho1 ((hKM.2 2 _ rfl).1 1 (fun j => .long (w j))) (fun q => by cases q) (by show ¬ ((0 : Int32) < 0 ∨ (arrV _ _ _).slots.size ≤ _); rw [arrV_size]; show ¬ ((0 : Int32) < 0 ∨ 1 ≤ 0); decide) rfl rfl dX0_years_11 fun H2 e1 z oq => ?_
    refine lv_goto hx hb dX0_years_12 (tgt := 19) (by show ((12 : Nat) : Int) + 7 = ((19 : Nat) : Int); decide) ?_
    refine lv_iconst (v := 0) hx hb dX0_years_19 rfl ?_
    have hS2 : va_S (fun q => A q ∨ q = o) s.heap H2 (locs1 ++ [⟨o, (0 : Int32).toNatClampNeg⟩]) := ⟨by rw [z]; exact hS1.1, fun q h1 h2 => by rw [oq q (fun h => h2 (Or.inr h))]; exact hS1.2.1 q h1 (fun h => h2 (Or.inl h)), fun q hq => by
      rcases List.mem_append.mp hq with h | h
      · exact Or.inl (hS1.2.2 q h)
      · rw [List.mem_singleton.mp h]; exact Or.inr rfl⟩
    refine W.iret hx hb B.returns (fun t ht hW => ⟨rfl, ?_, ?_, hS2.F ht⟩) hS2.2.2 dX0_years_20 B.notSynchronized
    · rw [ht]
      refine ⟨by rw [z]; exact hP1.1, fun q cl hq => cAt.or (hP1.2.1 q cl hq) (oq q (fun h => ?_)), hP1.2.2⟩
      rw [h, hfree] at hq
      cases hq
    · rw [ht]
      refine one_at ?_
      show H2[o]? = some (vp_cell _ _)
      rw [e1, vp_cell_l, vp_cell_l, arrV_store]
      congr 2
      funext q
      by_cases hq : q = (0 : Int32).toNatClampNeg
      · subst hq
        simp [updV, vp_updL]
      · have hq0 : ¬ q = 0 := hq
        simp [updV, vp_updL, hq, hq0]
  · have hM : MetT l ⟨"KnowLocks", "years", "(III)I"⟩ _ _ (cPc D ac A zs [.ref x0, .int y, .int b, .int c] σ) (cQc D ac A (.inr σ.1, σ')) _ _ A := hM
    refine WT.call (C := "KnowLocks") (As := [.int y, .int b, .int c]) (rest := [.int 0, .ref o]) S hM hcw hp rfl hL.2.1 (by show 2 ≤ 8; decide) dX0_years_7 ⟨by show 0 + (σ'.1 - σ.1) ≤ σ'.1 - σ.1; omega, by show 0 + (σ'.2.1 - σ.2.1) ≤ σ'.2.1 - σ.2.1; omega⟩ (fun x st₀ t H' L' h0 ht hal hfr hQ => ?_)
    obtain ⟨hx', hp', hz', hk'⟩ := hQ
    have hx' : Outcome.threw x = .threw σ.1 := hx'
    cases hx'
    rw [h0] at hz' hk'
    rw [ht] at hp' hz' hk'
    obtain ⟨cellB, h1, h2, h3⟩ := va_recv hK (hp'.one hfs') (ci := 38) (q0 := 0) (q := cCl.getD 38 ("", (fun _ => ("", "", "", false)), 0)) rfl rfl
    obtain ⟨ks, hks⟩ := Vm.classAt_of_findClass h3
    refine WT.catch hown (hts _ qy_nse) hex (by decide) (by decide) h1 (fun z hz => VmData.ne_statics_of h2 z hz) hks h3 (Vm.assignable_self _ _) ?_
    rw [Nat.zero_add, Nat.zero_add]
    refine stp_sound hx hb dX0_years_15 (q := (17, [some (.ref x0), some (.int y), some (.int b), some (.int c), some (.ref o), some (.ref σ.1)], [])) rfl hL (fun LS2 hL2 => ?_)
    refine lv_iconst (v := 1) hx hb dX0_years_17 rfl ?_
    have hS2 : va_S (fun q => A q ∨ q = o) s.heap H' ([] ++ L') := ⟨hz', fun q g1 g2 => hk' q g1 (fun h => g2 (Or.inl h)), fun q hq => Or.inl (hfr q (by simpa using hq))⟩
    refine W.iret hx hb B.returns (fun t2 ht2 hW => ⟨rfl, by rw [ht2]; exact hp', ?_, hS2.F ht2⟩) hS2.2.2 dX0_years_18 B.notSynchronized
    rw [ht2]
    refine one_at ?_
    show H'[o]? = some (vp_cell _ _)
    rw [hk' o hol hoA]
    exact ho
end
