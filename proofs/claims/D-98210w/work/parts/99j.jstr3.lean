/-! CALLS THAT ARE TAKEN AS ONE STEP: indexOf; all of them -/
set_option maxRecDepth 100000
def txL (tx : String) : List Nat := tx.toList.map Char.toNat
theorem i2b_ok : ∀ c : Fin 256, (Int32.ofNat c.1).toInt8.toInt32 = Int32.ofNat c.1 ∨ (Int32.ofNat c.1).toInt8.toInt32 < 0 := by decide +kernel
theorem byt_of {x : Int32} (h0 : 0 ≤ x) (h1 : x ≤ 255) : x.toInt8.toInt32 = x ∨ x.toInt8.toInt32 < 0 := by
  have hn : ¬ x < 0 := Int32.not_lt.mpr h0
  have h3 := Int32.le_iff_toInt_le.mp h1
  have h4 : (255 : Int32).toInt = 255 := by decide
  have h5 := clampI hn
  have h6 : x = Int32.ofNat x.toNatClampNeg := by
    apply Int32.toInt_inj.mp
    rw [Int32.toInt_ofNat_of_lt (by omega), h5]
  have := i2b_ok ⟨x.toNatClampNeg, by omega⟩
  dsimp only at this
  rw [← h6] at this
  exact this
section
variable {l : Launch} {D : va_G} {ac : Nat → ClassId} {A : Nat → Prop} {zs : Nat → Nat}
variable {i idx : Nat} {tx : String} {σ : CM}
theorem c_enc {x : Int32} (h0 : 0 ≤ x) (h1 : x ≤ 255) : Met l (yL "canEncode" "(I)Z") (ws_ (yL "canEncode" "(I)Z") cJ4_canEncode 1 (some .boolean)) (rmS 1 0 0) (cPc D ac A zs [.int x] σ) (cQc D ac A (.inl (some (.int 1)), σ)) 0 0 A := by
  refine sMet (by decide) (by show 1 ≤ 1; decide) ?_
  intro p e s m below meth c F hrt hlk hP LS hL
  obtain ⟨hx, hb, hml, hown, hts, hN, hK, hZ⟩ := F
  have hS : va_S A s.heap s.heap [] := va_S.rf
  refine stp_sound hx hb dJ4_canEncode_0 (q := (1, [some (.int x)], [.int x])) rfl hL (fun LS hL => ?_)
  refine stp_sound hx hb dJ4_canEncode_1 (q := (4, [some (.int x)], [])) (by simp [stp, sF1, jmp, Int32.not_lt.mpr h0]) hL (fun LS hL => ?_)
  refine stp_sound hx hb dJ4_canEncode_4 (q := (5, [some (.int x)], [.int x])) rfl hL (fun LS hL => ?_)
  refine stp_sound hx hb dJ4_canEncode_5 (q := (8, [some (.int x)], [.int 255, .int x])) rfl hL (fun LS hL => ?_)
  refine stp_sound hx hb dJ4_canEncode_8 (q := (11, [some (.int x)], [])) (by simp [stp, sF2, jmp, Int32.not_lt.mpr h1]) hL (fun LS hL => ?_)
  refine stp_sound hx hb dJ4_canEncode_11 (q := (12, [some (.int x)], [.int 1])) rfl hL (fun LS hL => ?_)
  refine stp_sound hx hb dJ4_canEncode_12 (q := (16, [some (.int x)], [.int 1])) rfl hL (fun LS hL => ?_)
  exact W.zret hx hb hrt rfl (fun t ht hW => ⟨rfl, by rw [ht]; exact hP, hS.F ht⟩) hS.2.2 dJ4_canEncode_16 hlk
theorem ofN_succ (k : Nat) : Int32.ofNat k + 1 = Int32.ofNat (k + 1) := by rw [Int32.ofNat_add]; rfl
theorem ofN_le {a b : Nat} (ha : a < 1000) (hb : b < 1000) : Int32.ofNat a ≤ Int32.ofNat b ↔ a ≤ b := by
  rw [Int32.le_iff_toInt_le, Int32.toInt_ofNat_of_lt (by omega), Int32.toInt_ofNat_of_lt (by omega)]
  omega
theorem c_ixc {av : Nat} {x : Int32} (hi : sStr[i]? = some (idx, tx)) (h0 : 0 ≤ x) (h1 : x ≤ 255) : Met l (yL "indexOfChar" "([BIII)I") (ws_ (yL "indexOfChar" "([BIII)I") cJ4_indexOfChar 6 (some .int)) (rmS 1 0 0) (tPc D ac A zs [.ref av, .int x, .int 0, .int (Int32.ofNat tx.length)] σ av tx) (cQc D ac A (.inl (some (.int (ixOf (txL tx) x 0))), σ)) 0 0 A := by
  have hmem := List.mem_of_getElem? hi
  have hlen : tx.length < 100 := (ch_ok _ hmem).1
  have hll : (txL tx).length = tx.length := (ch_pos _ hmem).2
  refine tMet (by decide) (by show 4 ≤ 6; decide) ?_
  intro p e s m below meth c F hrt hlk hP hT LS hL
  obtain ⟨hx, hb, hml, hown, hts, hN, hK, hZ⟩ := F
  have hS : va_S A s.heap s.heap [] := va_S.rf
  have loop : ∀ (r k : Nat), k + r = tx.length → ixOf ((txL tx).drop k) x k = ixOf (txL tx) x 0 → ∀ LS, LH LS 6 [some (.ref av), some (.int x), some (.int 0), some (.int (Int32.ofNat tx.length)), some (.int x.toInt8.toInt32), some (.int (Int32.ofNat k))] → W p l e (rmS 1 0 0) s m #[Value.ref av, .int x, .int 0, .int (Int32.ofNat tx.length)] below meth c s.heap [] 0 0 (MQ below (cQc D ac A (.inl (some (.int (ixOf (txL tx) x 0))), σ)) #[Value.ref av, .int x, .int 0, .int (Int32.ofNat tx.length)] s 0 0 A) (F0 m 7 LS []) := by
    intro r
    induction r with
    | zero =>
      intro k hk hres LS hL
      have hk : k = tx.length := by omega
      subst hk
      refine stp_sound hx hb dJ4_indexOfChar_7 (q := (9, [some (.ref av), some (.int x), some (.int 0), some (.int (Int32.ofNat tx.length)), some (.int x.toInt8.toInt32), some (.int (Int32.ofNat tx.length))], [.int (Int32.ofNat tx.length)])) rfl hL (fun LS hL => ?_)
      refine stp_sound hx hb dJ4_indexOfChar_9 (q := (10, [some (.ref av), some (.int x), some (.int 0), some (.int (Int32.ofNat tx.length)), some (.int x.toInt8.toInt32), some (.int (Int32.ofNat tx.length))], [.int (Int32.ofNat tx.length), .int (Int32.ofNat tx.length)])) rfl hL (fun LS hL => ?_)
      refine stp_sound hx hb dJ4_indexOfChar_10 (q := (31, [some (.ref av), some (.int x), some (.int 0), some (.int (Int32.ofNat tx.length)), some (.int x.toInt8.toInt32), some (.int (Int32.ofNat tx.length))], [])) (by simp [stp, sF2, jmp]) hL (fun LS hL => ?_)
      refine stp_sound hx hb dJ4_indexOfChar_31 (q := (32, [some (.ref av), some (.int x), some (.int 0), some (.int (Int32.ofNat tx.length)), some (.int x.toInt8.toInt32), some (.int (Int32.ofNat tx.length))], [.int (-1)])) rfl hL (fun LS hL => ?_)
      rw [List.drop_eq_nil_of_le (by omega)] at hres
      have hres : (-1 : Int32) = ixOf (txL tx) x 0 := hres
      rw [hres]
      exact W.iret hx hb hrt (fun t ht hW => ⟨rfl, by rw [ht]; exact hP, hS.F ht⟩) hS.2.2 dJ4_indexOfChar_32 hlk
    | succ r ih =>
      intro k hk hres LS hL
      have hkl : k < tx.length := by omega
      obtain ⟨b1, b2, b3, b4⟩ := (ch_ok _ hmem).2 k hkl
      have hin : vp_in (Int32.ofNat k) tx.length := by
        rintro (h | h)
        · rw [Int32.lt_iff_toInt_lt, Int32.toInt_ofNat_of_lt (by omega)] at h
          have : (0 : Int32).toInt = 0 := by decide
          omega
        · rw [Int32.toNatClampNeg_ofNat_of_lt (by omega)] at h
          omega
      have hcl : (Int32.ofNat k).toNatClampNeg = k := Int32.toNatClampNeg_ofNat_of_lt (by omega)
      have hdrop : (txL tx).drop k = (txL tx)[k]'(by omega) :: (txL tx).drop (k + 1) := List.drop_eq_getElem_cons (by omega)
      have hch : chI tx k = Int32.ofNat ((txL tx)[k]'(by omega)) := by
        show Int32.ofNat ((txL tx).getD k 0) = _
        rw [List.getD_eq_getElem?_getD, List.getElem?_eq_getElem (by omega)]
        rfl
      rw [hdrop, ixOf, ← hch] at hres
      have hiff : chI tx k = x.toInt8.toInt32 ↔ chI tx k = x := by
        constructor
        · intro h
          rcases byt_of h0 h1 with h2 | h2
          · rw [h2] at h; exact h
          · rw [← h] at h2; exact absurd h2 b4
        · intro h
          rw [← h, b3]
      have hno : ¬ Int32.ofNat tx.length ≤ Int32.ofNat k := fun z => absurd ((ofN_le (by omega) (by omega)).mp z) (by omega)
      refine stp_sound hx hb dJ4_indexOfChar_7 (q := (9, [some (.ref av), some (.int x), some (.int 0), some (.int (Int32.ofNat tx.length)), some (.int x.toInt8.toInt32), some (.int (Int32.ofNat k))], [.int (Int32.ofNat k)])) rfl hL (fun LS hL => ?_)
      refine stp_sound hx hb dJ4_indexOfChar_9 (q := (10, [some (.ref av), some (.int x), some (.int 0), some (.int (Int32.ofNat tx.length)), some (.int x.toInt8.toInt32), some (.int (Int32.ofNat k))], [.int (Int32.ofNat tx.length), .int (Int32.ofNat k)])) rfl hL (fun LS hL => ?_)
      refine stp_sound hx hb dJ4_indexOfChar_10 (q := (13, [some (.ref av), some (.int x), some (.int 0), some (.int (Int32.ofNat tx.length)), some (.int x.toInt8.toInt32), some (.int (Int32.ofNat k))], [])) (by simp [stp, sF2, jmp, hno]) hL (fun LS hL => ?_)
      refine stp_sound hx hb dJ4_indexOfChar_13 (q := (14, [some (.ref av), some (.int x), some (.int 0), some (.int (Int32.ofNat tx.length)), some (.int x.toInt8.toInt32), some (.int (Int32.ofNat k))], [.ref av])) rfl hL (fun LS hL => ?_)
      refine stp_sound hx hb dJ4_indexOfChar_14 (q := (16, [some (.ref av), some (.int x), some (.int 0), some (.int (Int32.ofNat tx.length)), some (.int x.toInt8.toInt32), some (.int (Int32.ofNat k))], [.int (Int32.ofNat k), .ref av])) rfl hL (fun LS hL => ?_)
      refine va_tb hx hb hT hS hin (v := .int (chI tx k)) (by rw [hcl]) dJ4_indexOfChar_16 ?_
      refine stp_sound hx hb dJ4_indexOfChar_17 (q := (19, [some (.ref av), some (.int x), some (.int 0), some (.int (Int32.ofNat tx.length)), some (.int x.toInt8.toInt32), some (.int (Int32.ofNat k))], [.int x.toInt8.toInt32, .int (chI tx k)])) rfl hL (fun LS hL => ?_)
      by_cases heq : chI tx k = x
      · rw [if_pos heq] at hres
        refine stp_sound hx hb dJ4_indexOfChar_19 (q := (22, [some (.ref av), some (.int x), some (.int 0), some (.int (Int32.ofNat tx.length)), some (.int x.toInt8.toInt32), some (.int (Int32.ofNat k))], [])) (by simp [stp, sF2, jmp, hiff.mpr heq]) hL (fun LS hL => ?_)
        refine stp_sound hx hb dJ4_indexOfChar_22 (q := (24, [some (.ref av), some (.int x), some (.int 0), some (.int (Int32.ofNat tx.length)), some (.int x.toInt8.toInt32), some (.int (Int32.ofNat k))], [.int (Int32.ofNat k)])) rfl hL (fun LS hL => ?_)
        rw [hres]
        exact W.iret hx hb hrt (fun t ht hW => ⟨rfl, by rw [ht]; exact hP, hS.F ht⟩) hS.2.2 dJ4_indexOfChar_24 hlk
      · rw [if_neg heq] at hres
        have hne : ¬ chI tx k = x.toInt8.toInt32 := fun z => heq (hiff.mp z)
        refine stp_sound hx hb dJ4_indexOfChar_19 (q := (25, [some (.ref av), some (.int x), some (.int 0), some (.int (Int32.ofNat tx.length)), some (.int x.toInt8.toInt32), some (.int (Int32.ofNat k))], [])) (by simp [stp, sF2, jmp, hne]) hL (fun LS hL => ?_)
        refine stp_sound hx hb dJ4_indexOfChar_25 (q := (28, [some (.ref av), some (.int x), some (.int 0), some (.int (Int32.ofNat tx.length)), some (.int x.toInt8.toInt32), some (.int (Int32.ofNat k + 1))], [])) rfl hL (fun LS hL => ?_)
        rw [ofN_succ] at hL
        refine stp_sound hx hb dJ4_indexOfChar_28 (q := (7, [some (.ref av), some (.int x), some (.int 0), some (.int (Int32.ofNat tx.length)), some (.int x.toInt8.toInt32), some (.int (Int32.ofNat (k + 1)))], [])) rfl hL (fun LS hL => ?_)
        exact ih (k + 1) (by omega) hres LS hL
  refine stp_sound hx hb dJ4_indexOfChar_0 (q := (1, [some (.ref av), some (.int x), some (.int 0), some (.int (Int32.ofNat tx.length)), none, none], [.int x])) rfl hL (fun LS hL => ?_)
  refine lv_i2b hx hb dJ4_indexOfChar_1 rfl ?_
  refine stp_sound hx hb dJ4_indexOfChar_2 (q := (4, [some (.ref av), some (.int x), some (.int 0), some (.int (Int32.ofNat tx.length)), some (.int x.toInt8.toInt32), none], [])) rfl hL (fun LS hL => ?_)
  refine stp_sound hx hb dJ4_indexOfChar_4 (q := (5, [some (.ref av), some (.int x), some (.int 0), some (.int (Int32.ofNat tx.length)), some (.int x.toInt8.toInt32), none], [.int 0])) rfl hL (fun LS hL => ?_)
  refine stp_sound hx hb dJ4_indexOfChar_5 (q := (7, [some (.ref av), some (.int x), some (.int 0), some (.int (Int32.ofNat tx.length)), some (.int x.toInt8.toInt32), some (.int (Int32.ofNat 0))], [])) rfl hL (fun LS hL => ?_)
  exact loop tx.length 0 (by omega) rfl LS hL
theorem c_l1ix {av : Nat} {x : Int32} (hi : sStr[i]? = some (idx, tx)) (h0 : 0 ≤ x) (h1 : x ≤ 255) : Met l (yL "indexOf" "([BIII)I") (ws_ (yL "indexOf" "([BIII)I") cJ4_indexOf 4 (some .int)) (rmS 2 0 0) (tPc D ac A zs [.ref av, .int x, .int 0, .int (Int32.ofNat tx.length)] σ av tx) (cQc D ac A (.inl (some (.int (ixOf (txL tx) x 0))), σ)) 0 0 A := by
  have hmem := List.mem_of_getElem? hi
  have hlen : tx.length < 100 := (ch_ok _ hmem).1
  have hpos : 0 < tx.length := (ch_pos _ hmem).1
  have hlt0 : (0 : Int32) < Int32.ofNat tx.length := by
    rw [Int32.lt_iff_toInt_lt, Int32.toInt_ofNat_of_lt (by omega)]
    show (0 : Int) < tx.length
    omega
  refine tMet (by decide) (by show 4 ≤ 4; decide) ?_
  intro p e s m below meth c F hrt hlk hP hT LS hL
  have F0' := F
  obtain ⟨hx, hb, hml, hown, hts, hN, hK, hZ⟩ := F
  have hS : va_S A s.heap s.heap [] := va_S.rf
  refine stp_sound hx hb dJ4_indexOf_0 (q := (1, [some (.ref av), some (.int x), some (.int 0), some (.int (Int32.ofNat tx.length))], [.int x])) rfl hL (fun LS hL => ?_)
  refine sCall (As := [.int x]) (rest := []) F0' hP hS (COK.S (n := 1) (lw_g (lw_at lw_m3 181 rfl) rfl) (lw_g (lw_at lw_m3 182 rfl) rfl) qL_i (lw_g (lw_at lw_m3 183 rfl) rfl) ⟨by decide, by decide, by decide +kernel⟩) (c_enc h0 h1) (by decide) (by decide) (fun h => by cases h) rfl hL.2.1 (by decide) dJ4_indexOf_1 (fun H1 locs1 hP1 hS1 => ?_)
  refine stp_sound hx hb dJ4_indexOf_4 (q := (9, [some (.ref av), some (.int x), some (.int 0), some (.int (Int32.ofNat tx.length))], [])) rfl hL (fun LS hL => ?_)
  refine stp_sound hx hb dJ4_indexOf_9 (q := (10, [some (.ref av), some (.int x), some (.int 0), some (.int (Int32.ofNat tx.length))], [.int 0])) rfl hL (fun LS hL => ?_)
  refine stp_sound hx hb dJ4_indexOf_10 (q := (11, [some (.ref av), some (.int x), some (.int 0), some (.int (Int32.ofNat tx.length))], [.int 0, .int 0])) rfl hL (fun LS hL => ?_)
  refine va_mmax (rest := []) hx hb (by rw [hml]; exact hL.2.1.symm) hown (hts _ (lw_g (lw_at lw_m3 184 rfl) rfl)) (hts _ qj_xs) (hts _ qj_mi) (hts _ qj_xc) (by show 1 ≤ 2; decide) (by show 0 + 13 ≤ 128; decide) (Nat.le_refl _) (Nat.le_refl _) dJ4_indexOf_11 ?_
  refine stp_sound hx hb dJ4_indexOf_14 (q := (15, [some (.ref av), some (.int x), some (.int 0), some (.int (Int32.ofNat tx.length))], [])) rfl hL (fun LS hL => ?_)
  refine stp_sound hx hb dJ4_indexOf_15 (q := (16, [some (.ref av), some (.int x), some (.int 0), some (.int (Int32.ofNat tx.length))], [.int (Int32.ofNat tx.length)])) rfl hL (fun LS hL => ?_)
  refine stp_sound hx hb dJ4_indexOf_16 (q := (17, [some (.ref av), some (.int x), some (.int 0), some (.int (Int32.ofNat tx.length))], [.ref av, .int (Int32.ofNat tx.length)])) rfl hL (fun LS hL => ?_)
  refine va_tlen hx hb hT hS1 (v := Int32.ofNat tx.length) rfl dJ4_indexOf_17 ?_
  refine va_mmin (rest := []) hx hb (by rw [hml]; exact hL.2.1.symm) hown (hts _ (lw_g (lw_at lw_m3 187 rfl) rfl)) (hts _ qj_ns) (hts _ qj_mi) (hts _ qj_nc) (by show 1 ≤ 2; decide) (by show 0 + 13 ≤ 128; decide) (Nat.le_refl _) (Nat.le_refl _) dJ4_indexOf_18 ?_
  rw [ite_self]
  refine stp_sound hx hb dJ4_indexOf_21 (q := (22, [some (.ref av), some (.int x), some (.int 0), some (.int (Int32.ofNat tx.length))], [])) rfl hL (fun LS hL => ?_)
  refine stp_sound hx hb dJ4_indexOf_22 (q := (23, [some (.ref av), some (.int x), some (.int 0), some (.int (Int32.ofNat tx.length))], [.int 0])) rfl hL (fun LS hL => ?_)
  refine stp_sound hx hb dJ4_indexOf_23 (q := (24, [some (.ref av), some (.int x), some (.int 0), some (.int (Int32.ofNat tx.length))], [.int (Int32.ofNat tx.length), .int 0])) rfl hL (fun LS hL => ?_)
  refine stp_sound hx hb dJ4_indexOf_24 (q := (29, [some (.ref av), some (.int x), some (.int 0), some (.int (Int32.ofNat tx.length))], [])) (by simp [stp, sF2, jmp, hlt0]) hL (fun LS hL => ?_)
  refine stp_sound hx hb dJ4_indexOf_29 (q := (30, [some (.ref av), some (.int x), some (.int 0), some (.int (Int32.ofNat tx.length))], [.ref av])) rfl hL (fun LS hL => ?_)
  refine stp_sound hx hb dJ4_indexOf_30 (q := (31, [some (.ref av), some (.int x), some (.int 0), some (.int (Int32.ofNat tx.length))], [.int x, .ref av])) rfl hL (fun LS hL => ?_)
  refine stp_sound hx hb dJ4_indexOf_31 (q := (32, [some (.ref av), some (.int x), some (.int 0), some (.int (Int32.ofNat tx.length))], [.int 0, .int x, .ref av])) rfl hL (fun LS hL => ?_)
  refine stp_sound hx hb dJ4_indexOf_32 (q := (33, [some (.ref av), some (.int x), some (.int 0), some (.int (Int32.ofNat tx.length))], [.int (Int32.ofNat tx.length), .int 0, .int x, .ref av])) rfl hL (fun LS hL => ?_)
  refine tCall (As := [.ref av, .int x, .int 0, .int (Int32.ofNat tx.length)]) (rest := []) F0' hP1 hT hS1 (COK.S (n := 4) (lw_g (lw_at lw_m3 190 rfl) rfl) (lw_g (lw_at lw_m3 191 rfl) rfl) qL_i (lw_g (lw_at lw_m3 192 rfl) rfl) ⟨by decide, by decide, by decide +kernel⟩) (c_ixc hi h0 h1) (by decide) (by decide) rfl hL.2.1 (by decide) dJ4_indexOf_33 (fun H2 locs2 hP2 hS2 => ?_)
  exact W.iret hx hb hrt (fun t ht hW => ⟨rfl, by rw [ht]; exact hP2, hS2.F ht⟩) hS2.2.2 dJ4_indexOf_36 hlk
theorem c_ix2 {x : Int32} (hi : sStr[i]? = some (idx, tx)) (h0 : 0 ≤ x) (h1 : x ≤ 255) : Met l (yS "indexOf" "(II)I") (ws_ (yS "indexOf" "(II)I") cJ3_indexOf_2 3 (some .int)) (rmS 3 0 0) (cPc D ac A zs [.ref (zs i), .int x, .int 0] σ) (cQc D ac A (.inl (some (.int (ixOf (txL tx) x 0))), σ)) 0 0 A := by
  refine sMet (by decide) (by show 3 ≤ 3; decide) ?_
  intro p e s m below meth c F hrt hlk hP LS hL
  have F0' := F
  obtain ⟨hx, hb, hml, hown, hts, hN, hK, hZ⟩ := F
  have hS : va_S A s.heap s.heap [] := va_S.rf
  have hst := hZ.str hi
  obtain ⟨av, g1, g2, g3, g4⟩ := hZ.str hi
  refine stp_sound hx hb dJ3_indexOf_2_0 (q := (1, [some (.ref (zs i)), some (.int x), some (.int 0)], [.ref (zs i)])) rfl hL (fun LS hL => ?_)
  refine sCall (As := [.ref (zs i)]) (rest := []) F0' hP hS (COK.V (n := 0) (lw_g (lw_at lw_m3 164 rfl) rfl) (lw_g (lw_at lw_m3 165 rfl) rfl) (lw_g (lw_at lw_m3 166 rfl) rfl) qS_i (lw_g (lw_at lw_m3 167 rfl) rfl) rfl ⟨by decide, by decide, by decide +kernel⟩) (c_isL1 hi) (by decide) (by decide) (hst.rc hS) rfl hL.2.1 (by decide) dJ3_indexOf_2_1 (fun H1 locs1 hP1 hS1 => ?_)
  refine stp_sound hx hb dJ3_indexOf_2_4 (q := (7, [some (.ref (zs i)), some (.int x), some (.int 0)], [])) rfl hL (fun LS hL => ?_)
  refine stp_sound hx hb dJ3_indexOf_2_7 (q := (8, [some (.ref (zs i)), some (.int x), some (.int 0)], [.ref (zs i)])) rfl hL (fun LS hL => ?_)
  refine vk_getf hx hb g3 hS1 hown (hts _ (lw_g (lw_at lw_m12 116 rfl) rfl)) (fun x hx => hx) dJ3_indexOf_2_8 ?_
  refine stp_sound hx hb dJ3_indexOf_2_11 (q := (12, [some (.ref (zs i)), some (.int x), some (.int 0)], [.int x, .ref av])) rfl hL (fun LS hL => ?_)
  refine stp_sound hx hb dJ3_indexOf_2_12 (q := (13, [some (.ref (zs i)), some (.int x), some (.int 0)], [.int 0, .int x, .ref av])) rfl hL (fun LS hL => ?_)
  refine stp_sound hx hb dJ3_indexOf_2_13 (q := (14, [some (.ref (zs i)), some (.int x), some (.int 0)], [.ref (zs i), .int 0, .int x, .ref av])) rfl hL (fun LS hL => ?_)
  refine sCall (As := [.ref (zs i)]) (rest := [.int 0, .int x, .ref av]) F0' hP1 hS1 (COK.V (n := 0) (lw_g (lw_at lw_m3 170 rfl) rfl) (lw_g (lw_at lw_m3 171 rfl) rfl) (lw_g (lw_at lw_m3 172 rfl) rfl) qS_i (lw_g (lw_at lw_m3 173 rfl) rfl) rfl ⟨by decide, by decide, by decide +kernel⟩) (c_len hi) (by decide) (by decide) (hst.rc hS1) rfl hL.2.1 (by show 3 ≤ 8; decide) dJ3_indexOf_2_14 (fun H2 locs2 hP2 hS2 => ?_)
  refine tCall (As := [.ref av, .int x, .int 0, .int (Int32.ofNat tx.length)]) (rest := []) F0' hP2 g4 hS2 (COK.S (n := 4) (lw_g (lw_at lw_m3 178 rfl) rfl) (lw_g (lw_at lw_m3 179 rfl) rfl) qL_i (lw_g (lw_at lw_m3 180 rfl) rfl) ⟨by decide, by decide, by decide +kernel⟩) (c_l1ix hi h0 h1) (by decide) (by decide) rfl hL.2.1 (by decide) dJ3_indexOf_2_17 (fun H3 locs3 hP3 hS3 => ?_)
  refine stp_sound hx hb dJ3_indexOf_2_20 (q := (36, [some (.ref (zs i)), some (.int x), some (.int 0)], [.int (ixOf (txL tx) x 0)])) rfl hL (fun LS hL => ?_)
  exact W.iret hx hb hrt (fun t ht hW => ⟨rfl, by rw [ht]; exact hP3, hS3.F ht⟩) hS3.2.2 dJ3_indexOf_2_36 hlk
theorem c_ix {x : Int32} (hi : sStr[i]? = some (idx, tx)) (h0 : 0 ≤ x) (h1 : x ≤ 255) : Met l (yS "indexOf" "(I)I") (ws_ (yS "indexOf" "(I)I") cJ3_indexOf 2 (some .int)) (rmS 4 0 0) (cPc D ac A zs [.ref (zs i), .int x] σ) (cQc D ac A (.inl (some (.int (ixOf (txL tx) x 0))), σ)) 0 0 A := by
  refine sMet (by decide) (by show 2 ≤ 2; decide) ?_
  intro p e s m below meth c F hrt hlk hP LS hL
  have F0' := F
  obtain ⟨hx, hb, hml, hown, hts, hN, hK, hZ⟩ := F
  have hS : va_S A s.heap s.heap [] := va_S.rf
  have hst := hZ.str hi
  refine stp_sound hx hb dJ3_indexOf_0 (q := (1, [some (.ref (zs i)), some (.int x)], [.ref (zs i)])) rfl hL (fun LS hL => ?_)
  refine stp_sound hx hb dJ3_indexOf_1 (q := (2, [some (.ref (zs i)), some (.int x)], [.int x, .ref (zs i)])) rfl hL (fun LS hL => ?_)
  refine stp_sound hx hb dJ3_indexOf_2 (q := (3, [some (.ref (zs i)), some (.int x)], [.int 0, .int x, .ref (zs i)])) rfl hL (fun LS hL => ?_)
  refine sCall (As := [.ref (zs i), .int x, .int 0]) (rest := []) F0' hP hS (COK.V (n := 2) (lw_g (lw_at lw_m3 160 rfl) rfl) (lw_g (lw_at lw_m3 161 rfl) rfl) (lw_g (lw_at lw_m3 162 rfl) rfl) qS_i (lw_g (lw_at lw_m3 163 rfl) rfl) rfl ⟨by decide, by decide, by decide +kernel⟩) (c_ix2 hi h0 h1) (by decide) (by decide) (hst.rc hS) rfl hL.2.1 (by decide) dJ3_indexOf_3 (fun H1 locs1 hP1 hS1 => ?_)
  exact W.iret hx hb hrt (fun t ht hW => ⟨rfl, by rw [ht]; exact hP1, hS1.F ht⟩) hS1.2.2 dJ3_indexOf_6 hlk
/-- the String constant that lies there -/
theorem strOf_sp {a : Nat} {t : String} (h : strOf zs a = some t) : ∃ i idx, sStr[i]? = some (idx, t) ∧ zs i = a := by
  unfold strOf at h
  obtain ⟨x, hx, rfl⟩ := Option.map_eq_some_iff.mp h
  have h1 := List.find?_some hx
  have h2 := List.mem_of_find?_eq_some hx
  obtain ⟨y, i⟩ := x
  obtain ⟨idx, t⟩ := y
  exact ⟨i, idx, List.mem_zipIdx_iff_getElem?.mp h2, by simpa using h1⟩
theorem Jc_8 {r : Option Value × CM} {As : List Value} (h : Jc zs 8 As σ = some r) : ∃ a t, As = [.ref a] ∧ strOf zs a = some t ∧ r = (some (.int (Int32.ofNat t.length)), σ) := by
  rcases As with _ | ⟨a, _ | ⟨b, t⟩⟩
  · cases h
  · cases a <;> try (cases h; done)
    obtain ⟨t, ht, hr⟩ := Option.map_eq_some_iff.mp (show (strOf zs _).map _ = some r from h)
    exact ⟨_, t, rfl, ht, hr.symm⟩
  · cases a <;> cases h
theorem Jc_9 {r : Option Value × CM} {As : List Value} (h : Jc zs 9 As σ = some r) : ∃ a t x, As = [.ref a, .int x] ∧ strOf zs a = some t ∧ inb x t.length = true ∧ r = (some (.int (chI t x.toNatClampNeg)), σ) := by
  rcases As with _ | ⟨a, _ | ⟨b, _ | ⟨c, t⟩⟩⟩
  · cases h
  · cases a <;> cases h
  · cases a <;> cases b <;> try (cases h; done)
    obtain ⟨t, ht, hr⟩ := Option.bind_eq_some_iff.mp (show (strOf zs _).bind _ = some r from h)
    split at hr
    · rename_i hc
      exact ⟨_, t, _, rfl, ht, hc, (Option.some.inj hr).symm⟩
    · cases hr
  · cases a <;> cases b <;> cases h
theorem Jc_10 {r : Option Value × CM} {As : List Value} (h : Jc zs 10 As σ = some r) : ∃ a t x, As = [.ref a, .int x] ∧ strOf zs a = some t ∧ 0 ≤ x ∧ x ≤ 255 ∧ r = (some (.int (ixOf (txL t) x 0)), σ) := by
  rcases As with _ | ⟨a, _ | ⟨b, _ | ⟨c, t⟩⟩⟩
  · cases h
  · cases a <;> cases h
  · cases a <;> cases b <;> try (cases h; done)
    obtain ⟨t, ht, hr⟩ := Option.bind_eq_some_iff.mp (show (strOf zs _).bind _ = some r from h)
    split at hr
    · rename_i hc
      exact ⟨_, t, _, rfl, ht, hc.1, hc.2, (Option.some.inj hr).symm⟩
    · cases hr
  · cases a <;> cases b <;> cases h
theorem J_str {kk0 : Nat} (hkk0 : kk0 ≤ 4) {o idx' : Nat} {y : MethodName} {b : ByteArray} {rt : Option FieldType} {nL na a i : Nat} {As' : List Value} {v : Option Value} {t : String} (hi : sStr[i]? = some (idx, t)) (ha : zs i = a) (hcok : COK (.invokevirtual idx') (oN o) true (some "java/lang/String") y b rt nL na) (hna : (Value.ref a :: As').length = na) (hnL : nL ≤ 40) (hM : Met l y (ws_ y b nL rt) (rmS kk0 0 0) (cPc D ac A zs (.ref a :: As') σ) (cQc D ac A (.inl v, σ)) 0 0 A) : JGo l D ac A zs (.ref a :: As') σ v σ o idx' 0 := by
  intro p e d nc ns s m args below meth c cc H locs cells slots Q pc LS rest hx hb hml hown hts hN hK hZ hP hS hcat hc1 hc2 hd kk
  have hst := hZ.str hi
  rw [ha] at hst
  have hrun := hcok p l e (rmC d nc ns) s m args below meth c cc LS.size H locs cells slots (rmS kk0 0 0) (cPc D ac A zs (.ref a :: As') σ) _ 0 0 A (.ref a :: As') rest pc LS ⟨hx, hb, hml, hown, hts⟩ hN hM rfl rfl (by show kk0 + 1 ≤ d + 8; omega) (by show 8 + (nL + 11) + 64 * kk0 ≤ 64 * (d + 8); omega) ⟨cPc_blind, fun U hU hW => ⟨rfl, by rw [hU]; exact hP, va_K.moved hW.alike hK, hN.warm hW, hZ.go hW hS hU⟩⟩ (hst.rc hS) hna rfl hcat hd (by show cells + 0 ≤ nc; omega) (by show slots + 0 ≤ ns; omega)
  refine c_callG hrun hS (fun H1 locs1 hP1 hS1 => ?_)
  have k9 := kk H1 locs1 hP1 hS1
  rw [Nat.sub_self, Nat.sub_self] at k9
  exact k9
theorem J8 : JK l D ac A zs (Jc zs) 8 := by
  intro As σ v σ' h
  obtain ⟨a, t, rfl, ht, hr⟩ := Jc_8 h
  cases hr
  obtain ⟨i, idx, hi, ha⟩ := strOf_sp ht
  refine ⟨Nat.le_refl _, Nat.le_refl _, fun o idx' tag n hit hn => ?_⟩
  obtain ⟨hl, hs⟩ := il_ok hit
  cases hs
  refine J_str (kk0 := 2) (by decide) (na := 1) hi ha (COK.V (n := 0) hl (lw_g (lw_at lw_m3 171 rfl) rfl) (lw_g (lw_at lw_m3 172 rfl) rfl) qS_i (lw_g (lw_at lw_m3 173 rfl) rfl) rfl ⟨by decide, by decide, by decide +kernel⟩) rfl (by decide) ?_
  rw [← ha]
  exact c_len hi
theorem J9 : JK l D ac A zs (Jc zs) 9 := by
  intro As σ v σ' h
  obtain ⟨a, t, x, rfl, ht, hin, hr⟩ := Jc_9 h
  cases hr
  obtain ⟨i, idx, hi, ha⟩ := strOf_sp ht
  refine ⟨Nat.le_refl _, Nat.le_refl _, fun o idx' tag n hit hn => ?_⟩
  obtain ⟨hl, hs⟩ := il_ok hit
  cases hs
  refine J_str (kk0 := 4) (by decide) (na := 2) hi ha (COK.V (n := 1) hl (lw_g (lw_at lw_m4 13 rfl) rfl) (lw_g (lw_at lw_m4 14 rfl) rfl) qS_i (lw_g (lw_at lw_m4 15 rfl) rfl) rfl ⟨by decide, by decide, by decide +kernel⟩) rfl (by decide) ?_
  rw [← ha]
  exact c_at hi (inb_in.mp hin)
theorem J10 : JK l D ac A zs (Jc zs) 10 := by
  intro As σ v σ' h
  obtain ⟨a, t, x, rfl, ht, h0, h1, hr⟩ := Jc_10 h
  cases hr
  obtain ⟨i, idx, hi, ha⟩ := strOf_sp ht
  refine ⟨Nat.le_refl _, Nat.le_refl _, fun o idx' tag n hit hn => ?_⟩
  obtain ⟨hl, hs⟩ := il_ok hit
  cases hs
  refine J_str (kk0 := 4) (by decide) (na := 2) hi ha (COK.V (n := 1) hl (lw_g (lw_at lw_m3 157 rfl) rfl) (lw_g (lw_at lw_m3 158 rfl) rfl) qS_i (lw_g (lw_at lw_m3 159 rfl) rfl) rfl ⟨by decide, by decide, by decide +kernel⟩) rfl (by decide) ?_
  rw [← ha]
  exact c_ix hi h0 h1
/-- ALL CALLS THAT ARE TAKEN AS ONE STEP -/
theorem Jc_none {kind : Nat} (hk : kind = 0 ∨ 13 < kind) {As : List Value} : Jc zs kind As σ = none := by
  unfold Jc
  split <;> first | rfl | omega
theorem Jc_ok (hl : l.stackTraces = false) : JOK l D ac A zs (Jc zs) := by
  refine JOK.of (fun kind => ?_)
  by_cases hk : kind = 0 ∨ 13 < kind
  · intro As σ v σ' h
    rw [Jc_none hk] at h
    cases h
  · match kind, hk with
    | 0, hk => exact absurd (Or.inl rfl) hk
    | 1, _ => exact J1
    | 2, _ => exact J2
    | 3, _ => exact J3
    | 4, _ => exact J4
    | 5, _ => exact J5
    | 6, _ => exact J6
    | 7, _ => exact J7
    | 8, _ => exact J8
    | 9, _ => exact J9
    | 10, _ => exact J10
    | 11, _ => exact J11 hl
    | 12, _ => exact J12 hl
    | 13, _ => exact J13
    | k + 14, hk => exact absurd (Or.inr (by omega)) hk
end
