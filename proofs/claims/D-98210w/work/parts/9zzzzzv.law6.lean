set_option maxRecDepth 100000
/-! THE LAW: its loop -/
def lw_P (b : Addr) (xs : List Int32) (args : Array Value) (s : State) : Prop := args = #[.ref b] ∧ s.IntsAt b xs ∧ xs.length ≤ 448 ∧ (Jvm.Cond.and given_1 narrow_1).before args s = true
def lw_Q (_ : Array Value) (s : State) (o : Outcome) (t : State) : Prop := o = .returned (some (.int 1)) ∧ Framed s o t [] 631120 7202743
def lw_Z (below : List Frame) (a : Array Value) (s : State) : State → Prop := fun t => ∃ o, t.status = .running ∧ Ended t below o ∧ lw_Q a s o t
/-- the law's own end, with 1 on the stack, nothing written that was there before, its room as the claim has it -/
theorem lw_ret {p : Program} {l : Launch} {e : Env} {s : State} {m : MethodId} {below : List Frame} {meth : Method} {c : Code} {b : Nat} (hx : p.tables.exec = Jvm.exec) (hb : c.code = code) (hr : meth.sig.returnType = ret) (hlocks : meth.locks = false) {pc : Nat} {H : Heap} {ls : Array Slot} (hdg : decode code pc = .ok (.ireturn, 1)) : W p l e room_1 s m #[Value.ref b] below meth c H [] 631120 7202743 (lw_Z below #[Value.ref b] s) (F0 m pc ls [.int 1]) := by
  intro T hT X
  obtain ⟨fs, hret, hrun, hended, hW, hframe⟩ := X.leave (v := some (.int 1)) (hlocks := hlocks) (fun h => by rw [hr] at h; cases h)
  have hmeth' : T.vm.method? m = some meth := X.method'
  refine ⟨T.setFrames fs, ?_, .returned (some (.int 1)), hrun, hended, rfl, ⟨_, rfl⟩, hW, hframe⟩
  jvm_step X.here [X.here.top, hx, hb, hdg, hmeth', hr, ret, narrow_b1]
  (try refine ⟨rfl, ?_⟩); (try refine ⟨rfl, ?_⟩)
  first | (intro acts; rw [hret _ acts rfl rfl rfl]) | rw [hret _ _ rfl rfl rfl]
  exact Steps.refl _
theorem and31 (x : Int32) : ∃ k, k < 32 ∧ x &&& 31 = nI k := by
  refine ⟨x.toBitVec.toNat % 32, Nat.mod_lt _ (by decide), ?_⟩
  apply Int32.toBitVec_inj.mp
  apply BitVec.eq_of_toNat_eq
  have h1 : (x &&& 31).toBitVec = x.toBitVec &&& 31#32 := rfl
  have h2 : (nI (x.toBitVec.toNat % 32)).toBitVec = BitVec.ofNat 32 (x.toBitVec.toNat % 32) := rfl
  rw [h1, h2, BitVec.toNat_and, BitVec.toNat_ofNat, BitVec.toNat_ofNat]
  have h3 : x.toBitVec.toNat &&& (31 % 2 ^ 32) = x.toBitVec.toNat % 32 := Nat.and_two_pow_sub_one_eq_mod _ 5
  rw [h3]
  have h4 : x.toBitVec.toNat % 32 < 32 := Nat.mod_lt _ (by decide)
  exact (Nat.mod_eq_of_lt (by omega)).symm
theorem lw_cmp {i L : Nat} (hL : L ≤ 448) (hi : i ≤ L + 7) : (Int32.ofNat L - nI 7 < nI i) ↔ ¬ (i + 7 ≤ L) := by
  by_cases h7 : 7 ≤ L
  · rw [show Int32.ofNat L - nI 7 = nI (L - 7) from nI_subI h7, nI_ltI (by omega) (by omega)]
    omega
  · have h0 : Int32.ofNat L - nI 7 < 0 := by
      have : L = 0 ∨ L = 1 ∨ L = 2 ∨ L = 3 ∨ L = 4 ∨ L = 5 ∨ L = 6 := by omega
      rcases this with rfl | rfl | rfl | rfl | rfl | rfl | rfl <;> decide
    exact ⟨fun _ => by omega, fun _ => Int32.lt_of_lt_of_le h0 (nI_le (a := 0) (by omega) (by omega))⟩
section
variable {D : va_G} {ac : Nat → ClassId} {DM : va_G} {cs : McT} {zs : Nat → Nat} {b L : Nat} {xs : Nat → Int32} {x0 mb : Nat} {p : Program} {l : Launch} {e : Env} {s : State} {m : MethodId} {below : List Frame} {meth : Method} {c : Code}
theorem lw_loop (F : LFx D ac DM cs zs b L xs x0 mb p l s m #[Value.ref b] c) (hr : meth.sig.returnType = ret) (hlocks : meth.locks = false) : ∀ (n i : Nat), L < i + 7 * (n + 1) → i ≤ L + 7 → ∀ (σ : CM) (G : Gh) (M : MM) (a : Ab) (B : Nat) (w : Nat → Int64) (LS : Array Slot) (u v : Option Value) (H : Heap) (locs : List Loc), LI zs x0 σ G M a B → B + 68040 * n ≤ 4400000 → σ.1 + 3 * G.m0 + 8 * a.T.1 + 400 * n ≤ s.heap.size + 631120 → σ.2.1 + 49 * G.m0 + 2100 * a.T.1 + 56000 * n ≤ 7202743 → LSt D ac DM cs s mb σ M w H locs → LH LS 7 (lwL b x0 mb i u v) → W p l e room_1 s m #[Value.ref b] below meth c H locs (σ.1 - s.heap.size) σ.2.1 (lw_Z below #[Value.ref b] s) (F0 m 23 LS []) := by
  have hx := F.1.1
  have hb := F.1.2.1
  obtain ⟨hX, hbl, hL448⟩ := F.2.2.2.1
  intro n
  induction n with
  | zero =>
    intro i hn hi7 σ G M a B w LS u v H locs hI hB hr1 hr2 h hL
    refine lv_iload hx hb dL_law_23 (hL.at rfl) ?_
    refine lv_aload_n hx hb dL_law_25 rfl (hL.at rfl) ?_
    refine va_slen (A := fun q => s.heap.size ≤ q) hx hb hX hbl (Nat.not_le.mpr hbl) h.2.2.2.1 dL_law_26 ?_
    refine lv_bipush (v := nI 7) hx hb dL_law_27 rfl ?_
    refine lv_isub hx hb dL_law_29 ?_
    refine lv_icmp_gt (tgt := 1432) hx hb dL_law_30 (by decide) (fun z => ?_) (fun z => absurd ((lw_cmp hL448 hi7).mpr (by omega)) z)
    refine va_forget h.2.2.2.1.2.2 ?_
    refine W.widen (k := 631120) (n := 7202743) (by omega) (by omega) ?_
    refine lv_iconst (v := 1) hx hb dL_law_1432 rfl ?_
    exact lw_ret hx hb hr hlocks dL_law_1433
  | succ n ih =>
    intro i hn hi7 σ G M a B w LS u v H locs hI hB hr1 hr2 h hL
    refine lv_iload hx hb dL_law_23 (hL.at rfl) ?_
    refine lv_aload_n hx hb dL_law_25 rfl (hL.at rfl) ?_
    refine va_slen (A := fun q => s.heap.size ≤ q) hx hb hX hbl (Nat.not_le.mpr hbl) h.2.2.2.1 dL_law_26 ?_
    refine lv_bipush (v := nI 7) hx hb dL_law_27 rfl ?_
    refine lv_isub hx hb dL_law_29 ?_
    refine lv_icmp_gt (tgt := 1432) hx hb dL_law_30 (by decide) (fun z => ?_) (fun z => ?_)
    · refine va_forget h.2.2.2.1.2.2 ?_
      refine W.widen (k := 631120) (n := 7202743) (by omega) (by omega) ?_
      refine lv_iconst (v := 1) hx hb dL_law_1432 rfl ?_
      exact lw_ret hx hb hr hlocks dL_law_1433
    · have hi : i + 7 ≤ L := Classical.byContradiction (fun z2 => z ((lw_cmp hL448 hi7).mpr z2))
      have hz : s.heap.size + (σ.1 - s.heap.size) = σ.1 := by
        have h1 := h.2.2.2.2.1
        have h2 := F.2.2.2.2
        omega
      have kk : ∀ (σ' : CM) (G' : Gh) (M' : MM) (a' : Ab) (w' : Nat → Int64) (LS' : Array Slot) (u' v' : Option Value) (H1 : Heap) (locs1 : List Loc), LI zs x0 σ' G' M' a' (B + 68040) → Gr σ G a σ' G' a' → LSt D ac DM cs s mb σ' M' w' H1 locs1 → LH LS' 7 (lwL b x0 mb i u' v') → W p l e room_1 s m #[Value.ref b] below meth c H1 locs1 (σ'.1 - s.heap.size) σ'.2.1 (lw_Z below #[Value.ref b] s) (F0 m 1426 LS' []) := by
        intro σ' G' M' a' w' LS' u' v' H1 locs1 hI' hG S' hL'
        have g2 := hG.1.2
        have g4 := hG.2.2
        have e7 : stp (.iinc 4 7) 3 1426 (lwL b x0 mb i u' v') [] = some (1429, lwL b x0 mb (i + 7) u' v', []) := by
          show some (1429, [some (.ref b), some (.ref x0), some (.ref mb), some (.ref (mb + 47)), some (.int (nI i + Int32.ofInt 7)), u', v'], []) = _
          rw [show nI i + Int32.ofInt 7 = nI (i + 7) from nI_add i 7]
          rfl
        refine stp_sound hx hb dL_law_1426 (q := (1429, lwL b x0 mb (i + 7) u' v', [])) e7 hL' (fun LS2 hL2 => ?_)
        refine lv_goto (tgt := 23) hx hb dL_law_1429 (by rfl) ?_
        exact ih (i + 7) (by omega) (by omega) σ' G' M' a' (B + 68040) w' LS2 u' v' H1 locs1 hI' (by omega) (by omega) (by omega) S' hL2
      refine lv_aload_n hx hb dL_law_33 rfl (hL.at rfl) ?_
      refine lv_iload hx hb dL_law_34 (hL.at rfl) ?_
      have e1 : (nI i).toNatClampNeg = i := nI_clamp (by omega)
      refine va_sld (A := fun q => s.heap.size ≤ q) hx hb hX hbl (Nat.not_le.mpr hbl) h.2.2.2.1 (i := nI i) (fun z => ?_) dL_law_36 ?_
      · rcases z with z | z
        · exact absurd z (Int32.not_lt.mpr (nI_le (a := 0) (by omega) (by omega)))
        · rw [e1] at z; omega
      refine lv_bipush (v := 31) hx hb dL_law_37 rfl ?_
      refine lv_iand hx hb dL_law_39 ?_
      obtain ⟨k, hk, ek⟩ := and31 (xs (nI i).toNatClampNeg)
      rw [ek]
      have hB1 : B + 68040 ≤ 4400000 := Nat.le_trans (Nat.add_le_add_left (Nat.le_mul_of_pos_right 68040 (Nat.succ_pos n)) B) hB
      have hq1 : σ.1 + 3 * G.m0 + 8 * a.T.1 + 400 ≤ s.heap.size + 631120 := Nat.le_trans (Nat.add_le_add_left (Nat.le_mul_of_pos_right 400 (Nat.succ_pos n)) _) hr1
      have hq2 : σ.2.1 + 49 * G.m0 + 2100 * a.T.1 + 56000 ≤ 7202743 := Nat.le_trans (Nat.add_le_add_left (Nat.le_mul_of_pos_right 56000 (Nat.succ_pos n)) _) hr2
      have hk32 : k = 0 ∨ k = 1 ∨ k = 2 ∨ k = 3 ∨ k = 4 ∨ k = 5 ∨ k = 6 ∨ k = 7 ∨ k = 8 ∨ k = 9 ∨ k = 10 ∨ k = 11 ∨ k = 12 ∨ k = 13 ∨ k = 14 ∨ k = 15 ∨ k = 16 ∨ k = 17 ∨ k = 18 ∨ k = 19 ∨ k = 20 ∨ k = 21 ∨ k = 22 ∨ k = 23 ∨ k = 24 ∨ k = 25 ∨ k = 26 ∨ k = 27 ∨ k = 28 ∨ k = 29 ∨ k = 30 ∨ k = 31 := by clear kk ek; omega
      rcases hk32 with rfl | rfl | rfl | rfl | rfl | rfl | rfl | rfl | rfl | rfl | rfl | rfl | rfl | rfl | rfl | rfl | rfl | rfl | rfl | rfl | rfl | rfl | rfl | rfl | rfl | rfl | rfl | rfl | rfl | rfl | rfl | rfl
      · refine lv_tableIn (off := 132) (tgt := 172) hx hb dL_law_40 (by decide) (by decide) (by rfl) (by decide) ?_
        exact cs_feed D ac DM cs zs b L xs x0 mb p l e s m #[Value.ref b] below meth c H locs _ _ _ σ M w LS i u v G a B F h hz rfl hL hi hI hB1 hq1 hq2 kk
      · refine lv_tableIn (off := 279) (tgt := 319) hx hb dL_law_40 (by decide) (by decide) (by rfl) (by decide) ?_
        exact cs_quarter D ac DM cs zs b L xs x0 mb p l e s m #[Value.ref b] below meth c H locs _ _ _ σ M w LS i u v G a B F h hz rfl hL hi hI hB1 hq1 hq2 kk
      · refine lv_tableIn (off := 292) (tgt := 332) hx hb dL_law_40 (by decide) (by decide) (by rfl) (by decide) ?_
        exact cs_history D ac DM cs zs b L xs x0 mb p l e s m #[Value.ref b] below meth c H locs _ _ _ σ M w LS i u v G a B F h hz rfl hL hi hI hB1 hq1 hq2 kk
      · refine lv_tableIn (off := 305) (tgt := 345) hx hb dL_law_40 (by decide) (by decide) (by rfl) (by decide) ?_
        exact cs_hand D ac DM cs zs b L xs x0 mb p l e s m #[Value.ref b] below meth c H locs _ _ _ σ M w LS i u v G a B F h hz rfl hL hi hI hB1 hq1 hq2 kk
      · refine lv_tableIn (off := 342) (tgt := 382) hx hb dL_law_40 (by decide) (by decide) (by rfl) (by decide) ?_
        exact cs_door D ac DM cs zs b L xs x0 mb p l e s m #[Value.ref b] below meth c H locs _ _ _ σ M w LS i u v G a B F h hz rfl hL hi hI hB1 hq1 hq2 kk
      · refine lv_tableIn (off := 379) (tgt := 419) hx hb dL_law_40 (by decide) (by decide) (by rfl) (by decide) ?_
        exact cs_knows D ac DM cs zs b L xs x0 mb p l e s m #[Value.ref b] below meth c H locs _ _ _ σ M w LS i u v G a B F h hz rfl hL hi hI hB1 hq1 hq2 kk
      · refine lv_tableIn (off := 416) (tgt := 456) hx hb dL_law_40 (by decide) (by decide) (by rfl) (by decide) ?_
        exact cs_far D ac DM cs zs b L xs x0 mb p l e s m #[Value.ref b] below meth c H locs _ _ _ σ M w LS i u v G a B F h hz rfl hL hi hI hB1 hq1 hq2 kk
      · refine lv_tableIn (off := 453) (tgt := 493) hx hb dL_law_40 (by decide) (by decide) (by rfl) (by decide) ?_
        exact cs_opens D ac DM cs zs b L xs x0 mb p l e s m #[Value.ref b] below meth c H locs _ _ _ σ M w LS i u v G a B F h hz rfl hL hi hI hB1 hq1 hq2 kk
      · refine lv_tableIn (off := 502) (tgt := 542) hx hb dL_law_40 (by decide) (by decide) (by rfl) (by decide) ?_
        exact cs_knock D ac DM cs zs b L xs x0 mb p l e s m #[Value.ref b] below meth c H locs _ _ _ σ M w LS i u v G a B F h hz rfl hL hi hI hB1 hq1 hq2 kk
      · refine lv_tableIn (off := 551) (tgt := 591) hx hb dL_law_40 (by decide) (by decide) (by rfl) (by decide) ?_
        exact cs_near D ac DM cs zs b L xs x0 mb p l e s m #[Value.ref b] below meth c H locs _ _ _ σ M w LS i u v G a B F h hz rfl hL hi hI hB1 hq1 hq2 kk
      · refine lv_tableIn (off := 588) (tgt := 628) hx hb dL_law_40 (by decide) (by decide) (by rfl) (by decide) ?_
        exact cs_undo D ac DM cs zs b L xs x0 mb p l e s m #[Value.ref b] below meth c H locs _ _ _ σ M w LS i u v G a B F h hz rfl hL hi hI hB1 hq1 hq2 kk
      · refine lv_tableIn (off := 601) (tgt := 641) hx hb dL_law_40 (by decide) (by decide) (by rfl) (by decide) ?_
        exact cs_hours D ac DM cs zs b L xs x0 mb p l e s m #[Value.ref b] below meth c H locs _ _ _ σ M w LS i u v G a B F h hz rfl hL hi hI hB1 hq1 hq2 kk
      · refine lv_tableIn (off := 626) (tgt := 666) hx hb dL_law_40 (by decide) (by decide) (by rfl) (by decide) ?_
        exact cs_patience D ac DM cs zs b L xs x0 mb p l e s m #[Value.ref b] below meth c H locs _ _ _ σ M w LS i u v G a B F h hz rfl hL hi hI hB1 hq1 hq2 kk
      · refine lv_tableIn (off := 663) (tgt := 703) hx hb dL_law_40 (by decide) (by decide) (by rfl) (by decide) ?_
        exact cs_unseen D ac DM cs zs b L xs x0 mb p l e s m #[Value.ref b] below meth c H locs _ _ _ σ M w LS i u v G a B F h hz rfl hL hi hI hB1 hq1 hq2 kk
      · refine lv_tableIn (off := 700) (tgt := 740) hx hb dL_law_40 (by decide) (by decide) (by rfl) (by decide) ?_
        exact cs_breaks D ac DM cs zs b L xs x0 mb p l e s m #[Value.ref b] below meth c H locs _ _ _ σ M w LS i u v G a B F h hz rfl hL hi hI hB1 hq1 hq2 kk
      · refine lv_tableIn (off := 749) (tgt := 789) hx hb dL_law_40 (by decide) (by decide) (by rfl) (by decide) ?_
        exact cs_defence D ac DM cs zs b L xs x0 mb p l e s m #[Value.ref b] below meth c H locs _ _ _ σ M w LS i u v G a B F h hz rfl hL hi hI hB1 hq1 hq2 kk
      · refine lv_tableIn (off := 798) (tgt := 838) hx hb dL_law_40 (by decide) (by decide) (by rfl) (by decide) ?_
        exact cs_chance D ac DM cs zs b L xs x0 mb p l e s m #[Value.ref b] below meth c H locs _ _ _ σ M w LS i u v G a B F h hz rfl hL hi hI hB1 hq1 hq2 kk
      · refine lv_tableIn (off := 847) (tgt := 887) hx hb dL_law_40 (by decide) (by decide) (by rfl) (by decide) ?_
        exact cs_best D ac DM cs zs b L xs x0 mb p l e s m #[Value.ref b] below meth c H locs _ _ _ σ M w LS i u v G a B F h hz rfl hL hi hI hB1 hq1 hq2 kk
      · refine lv_tableIn (off := 908) (tgt := 948) hx hb dL_law_40 (by decide) (by decide) (by rfl) (by decide) ?_
        exact cs_street D ac DM cs zs b L xs x0 mb p l e s m #[Value.ref b] below meth c H locs _ _ _ σ M w LS i u v G a B F h hz rfl hL hi hI hB1 hq1 hq2 kk
      · refine lv_tableIn (off := 957) (tgt := 997) hx hb dL_law_40 (by decide) (by decide) (by rfl) (by decide) ?_
        exact cs_judged D ac DM cs zs b L xs x0 mb p l e s m #[Value.ref b] below meth c H locs _ _ _ σ M w LS i u v G a B F h hz rfl hL hi hI hB1 hq1 hq2 kk
      · refine lv_tableIn (off := 970) (tgt := 1010) hx hb dL_law_40 (by decide) (by decide) (by rfl) (by decide) ?_
        exact cs_fits D ac DM cs zs b L xs x0 mb p l e s m #[Value.ref b] below meth c H locs _ _ _ σ M w LS i u v G a B F h hz rfl hL hi hI hB1 hq1 hq2 kk
      · refine lv_tableIn (off := 1019) (tgt := 1059) hx hb dL_law_40 (by decide) (by decide) (by rfl) (by decide) ?_
        exact cs_tells D ac DM cs zs b L xs x0 mb p l e s m #[Value.ref b] below meth c H locs _ _ _ σ M w LS i u v G a B F h hz rfl hL hi hI hB1 hq1 hq2 kk
      · refine lv_tableIn (off := 1044) (tgt := 1084) hx hb dL_law_40 (by decide) (by decide) (by rfl) (by decide) ?_
        exact cs_taken D ac DM cs zs b L xs x0 mb p l e s m #[Value.ref b] below meth c H locs _ _ _ σ M w LS i u v G a B F h hz rfl hL hi hI hB1 hq1 hq2 kk
      · refine lv_tableIn (off := 1081) (tgt := 1121) hx hb dL_law_40 (by decide) (by decide) (by rfl) (by decide) ?_
        exact cs_apart D ac DM cs zs b L xs x0 mb p l e s m #[Value.ref b] below meth c H locs _ _ _ σ M w LS i u v G a B F h hz rfl hL hi hI hB1 hq1 hq2 kk
      · refine lv_tableIn (off := 1130) (tgt := 1170) hx hb dL_law_40 (by decide) (by decide) (by rfl) (by decide) ?_
        exact cs_trained D ac DM cs zs b L xs x0 mb p l e s m #[Value.ref b] below meth c H locs _ _ _ σ M w LS i u v G a B F h hz rfl hL hi hI hB1 hq1 hq2 kk
      · refine lv_tableIn (off := 1191) (tgt := 1231) hx hb dL_law_40 (by decide) (by decide) (by rfl) (by decide) ?_
        exact cs_rests D ac DM cs zs b L xs x0 mb p l e s m #[Value.ref b] below meth c H locs _ _ _ σ M w LS i u v G a B F h hz rfl hL hi hI hB1 hq1 hq2 kk
      · refine lv_tableIn (off := 1228) (tgt := 1268) hx hb dL_law_40 (by decide) (by decide) (by rfl) (by decide) ?_
        exact cs_years D ac DM cs zs b L xs x0 mb p l e s m #[Value.ref b] below meth c H locs _ _ _ σ M w LS i u v G a B F h hz rfl hL hi hI hB1 hq1 hq2 kk
      · refine lv_tableIn (off := 1308) (tgt := 1348) hx hb dL_law_40 (by decide) (by decide) (by rfl) (by decide) ?_
        exact cs_mark D ac DM cs zs b L xs x0 mb p l e s m #[Value.ref b] below meth c H locs _ _ _ σ M w LS i u v G a B F h hz rfl hL hi hI hB1 hq1 hq2 kk
      · refine lv_tableIn (off := 1361) (tgt := 1401) hx hb dL_law_40 (by decide) (by decide) (by rfl) (by decide) ?_
        exact cs_count D ac DM cs zs b L xs x0 mb p l e s m #[Value.ref b] below meth c H locs _ _ _ σ M w LS i u v G a B F h hz rfl hL hi hI hB1 hq1 hq2 kk
      · refine lv_tableOut (tgt := 1426) hx hb dL_law_40 (Or.inr (by decide)) (by decide) ?_
        exact kk σ G M a w LS u v H locs ⟨hI.1, hI.2.1, hI.2.2.up hB1⟩ ⟨⟨Nat.le_refl _, Nat.le_add_right _ _⟩, Nat.le_refl _, Nat.le_add_right _ _⟩ h hL
      · refine lv_tableOut (tgt := 1426) hx hb dL_law_40 (Or.inr (by decide)) (by decide) ?_
        exact kk σ G M a w LS u v H locs ⟨hI.1, hI.2.1, hI.2.2.up hB1⟩ ⟨⟨Nat.le_refl _, Nat.le_add_right _ _⟩, Nat.le_refl _, Nat.le_add_right _ _⟩ h hL
      · refine lv_tableOut (tgt := 1426) hx hb dL_law_40 (Or.inr (by decide)) (by decide) ?_
        exact kk σ G M a w LS u v H locs ⟨hI.1, hI.2.1, hI.2.2.up hB1⟩ ⟨⟨Nat.le_refl _, Nat.le_add_right _ _⟩, Nat.le_refl _, Nat.le_add_right _ _⟩ h hL
end
