/-! CALLS THAT ARE TAKEN AS ONE STEP: Arrays.copyOf -/
set_option maxRecDepth 100000
def yCopy3 : MethodName := ⟨"java/util/Arrays", "copyOf", "([Ljava/lang/Object;ILjava/lang/Class;)[Ljava/lang/Object;"⟩
def yCopy2 : MethodName := ⟨"java/util/Arrays", "copyOf", "([Ljava/lang/Object;I)[Ljava/lang/Object;"⟩
theorem qj_ai : Cond.initialized "java/util/Arrays" ∈ lw_all := (lw_g (lw_at lw_m1 40 rfl) rfl)
theorem aC_pC {σ : CM} {k : Nat} {c c2 : Cl} : pC (aC σ k c) σ.1 c2 = aC σ k c2 := by
  unfold pC aC
  refine Prod.ext rfl (Prod.ext rfl ?_)
  funext b
  by_cases h : b = σ.1 <;> simp [h]
/-- what the contract of the longer copyOf asks -/
def cpPc (D : va_G) (ac : Nat → ClassId) (A : Nat → Prop) (zs : Nat → Nat) (a : Nat) (n : Int32) (mi : Nat) (σ : CM) : Array Value → State → Prop := fun v U => cPc D ac A zs [.ref a, .int n, .ref mi] σ v U ∧ va_Mi "[Ljava/lang/Object;" mi U
theorem va_Mi.al {C : String} {mi : Nat} {u U : State} (hvm : u.vm.Alike U.vm) (h : va_Mi C mi u) : va_Mi C mi U := va_Mi.moved hvm h
theorem Z0.mi {zs : Nat → Nat} {A : Nat → Prop} {U : State} {H : Heap} (h : Z0 zs A U H) : ∃ mi, va_Mi "[Ljava/lang/Object;" mi U := by
  obtain ⟨s0, a0, h1, -, h3, -⟩ := h
  have hs := flat_of_before _ h1
  obtain ⟨mi, hm⟩ := va_Mi.of (hs (Cond.isRef (.mirror "[Ljava/lang/Object;")) (by decide +kernel))
  exact ⟨mi, va_Mi.moved h3.alike hm⟩
theorem stp_acne {a : Nat} {ls : LsT} {st : List Value} : stp (.if_acmp .ne 10) 3 3 ls (.ref a :: .ref a :: st) = some (6, ls, st) := by
  simp [stp, sA2, rfo, jmp]
section
variable {l : Launch} {D : va_G} {ac : Nat → ClassId} {A : Nat → Prop} {zs : Nat → Nat}
theorem Jgro_sp {σ : CM} {a : Nat} {n : Int32} {r : Option Value × CM} (h : Jgro σ a n = some r) : ∃ la f, gC σ a = some (.inr (4, la, .inr (.inr (.inr (.inr f))))) ∧ 0 ≤ n ∧ n ≤ 100000 ∧ la ≤ n.toNatClampNeg ∧ elB σ f 0 la = true ∧ 0 < la ∧ r = (some (.ref σ.1), aC σ n.toNatClampNeg (.inr (4, n.toNatClampNeg, .inr (.inr (.inr (.inr (fun k => if k < la then f k else none))))))) := by
  unfold Jgro at h
  split at h
  · rename_i la f hg
    split at h
    · rename_i hc
      exact ⟨la, f, hg, hc.1, hc.2.1, hc.2.2.1, hc.2.2.2.1, hc.2.2.2.2, (Option.some.inj h).symm⟩
    · cases h
  · cases h
theorem c_copy3 {d a mi la : Nat} {n : Int32} {σ : CM} {f : Nat → Option Nat} (ha : gC σ a = some (.inr (4, la, .inr (.inr (.inr (.inr f)))))) (h0 : 0 ≤ n) (h1 : n ≤ 100000) (h2 : la ≤ n.toNatClampNeg) (hel : elB σ f 0 la = true) (hla : 0 < la) :
    Met l yCopy3 (ws_ yCopy3 cJ13_copyOf_2 4 (some (.array (.object "java/lang/Object")))) { frames := d + 3, cells := 1, slots := n.toNatClampNeg, locals := 64 * (d + 3) } (cpPc D ac A zs a n mi σ) (cQc D ac A (.inl (some (.ref σ.1)), aC σ n.toNatClampNeg (.inr (4, n.toNatClampNeg, .inr (.inr (.inr (.inr (fun k => if k < la then f k else none)))))))) 1 n.toNatClampNeg A := by
  have hn0 : ¬ n < 0 := Int32.not_lt.mpr h0
  have hnn : n.toNatClampNeg ≤ 100000 := by
    have h3 := Int32.le_iff_toInt_le.mp h1
    have h4 : (100000 : Int32).toInt = 100000 := by decide
    have h5 := clampI hn0
    omega
  have hlai : (Int32.ofNat la).toNatClampNeg = la := by
    rw [Int32.toNatClampNeg_ofNat_of_lt (by omega)]
  have hlan : ¬ n < Int32.ofNat la := by
    rw [Int32.not_lt, Int32.le_iff_toInt_le, clampI hn0, Int32.toInt_ofNat_of_lt (by omega)]
    omega
  have hla0 : ¬ Int32.ofNat la < 0 := by
    rw [Int32.not_lt, Int32.le_iff_toInt_le, Int32.toInt_ofNat_of_lt (by omega)]
    show (0 : Int) ≤ la
    omega
  refine Met.ofW (cc := cJ13_copyOf_2) (maxL := 4) (ret := some (.array (.object "java/lang/Object"))) (by decide) rfl ?_
  intro p e s m args below meth c s₁ B hml hv
  obtain ⟨⟨rfl, hP, hK, hN, hZ⟩, hMi⟩ := hv
  have hts0 := atoms_spec (ws := ws_ yCopy3 cJ13_copyOf_2 4 (some (.array (.object "java/lang/Object")))) B.pre
  have hts : ∀ w ∈ lw_all, w.before _ s = true := fun w h => hts0 w (List.mem_cons_of_mem _ h)
  have hown : s.vm.findClass "java/util/Arrays" = some m.cls := findClass_of_methodNamed B.named
  have hx := B.exec
  have hb := B.bytes
  have hS : va_S A s.heap s.heap [] := va_S.rf
  rw [lg_entry_eq]
  have hL := LH.entry (vs := [.ref a, .int n, .ref mi]) (n := 4) (by show 3 ≤ 4; decide)
  generalize ((lg_sl [Value.ref a, .int n, .ref mi] ++ List.replicate (4 - (lg_sl [Value.ref a, .int n, .ref mi]).length) Slot.unset).toArray) = LS at hL ⊢
  refine stp_sound hx hb dJ13_copyOf_2_0 (q := (1, [some (.ref a), some (.int n), some (.ref mi), none], [.ref mi])) rfl hL (fun LS hL => ?_)
  refine va_ldcM hx hb hown (hts _ (lw_g (lw_at lw_m5 73 rfl) rfl)) hMi dJ13_copyOf_2_1 ?_
  refine stp_sound hx hb dJ13_copyOf_2_3 (q := (6, [some (.ref a), some (.int n), some (.ref mi), none], [])) stp_acne hL (fun LS hL => ?_)
  refine stp_sound hx hb dJ13_copyOf_2_6 (q := (7, [some (.ref a), some (.int n), some (.ref mi), none], [.int n])) rfl hL (fun LS hL => ?_)
  refine cr_anew (kd := 4) (N := n.toNatClampNeg) hx hb hts hN hown ((lw_g (lw_at lw_m5 74 rfl) rfl)) ((nw_mem (lw_at lw_m1 228 rfl) rfl)) hK hP hS (by decide) rfl hn0 rfl (by omega) (by show 0 + 1 ≤ 1; omega) (by show 0 + n.toNatClampNeg ≤ n.toNatClampNeg; omega) dJ13_copyOf_2_7 (fun H1 hP1 hS1 => ?_)
  refine stp_sound hx hb dJ13_copyOf_2_10 (q := (24, [some (.ref a), some (.int n), some (.ref mi), none], [.ref σ.1])) rfl hL (fun LS hL => ?_)
  refine stp_sound hx hb dJ13_copyOf_2_24 (q := (25, [some (.ref a), some (.int n), some (.ref mi), some (.ref σ.1)], [])) rfl hL (fun LS hL => ?_)
  refine stp_sound hx hb dJ13_copyOf_2_25 (q := (26, [some (.ref a), some (.int n), some (.ref mi), some (.ref σ.1)], [.ref a])) rfl hL (fun LS hL => ?_)
  refine stp_sound hx hb dJ13_copyOf_2_26 (q := (27, [some (.ref a), some (.int n), some (.ref mi), some (.ref σ.1)], [.int 0, .ref a])) rfl hL (fun LS hL => ?_)
  refine stp_sound hx hb dJ13_copyOf_2_27 (q := (28, [some (.ref a), some (.int n), some (.ref mi), some (.ref σ.1)], [.ref σ.1, .int 0, .ref a])) rfl hL (fun LS hL => ?_)
  refine stp_sound hx hb dJ13_copyOf_2_28 (q := (29, [some (.ref a), some (.int n), some (.ref mi), some (.ref σ.1)], [.int 0, .ref σ.1, .int 0, .ref a])) rfl hL (fun LS hL => ?_)
  refine stp_sound hx hb dJ13_copyOf_2_29 (q := (30, [some (.ref a), some (.int n), some (.ref mi), some (.ref σ.1)], [.ref a, .int 0, .ref σ.1, .int 0, .ref a])) rfl hL (fun LS hL => ?_)
  have hlt : a < σ.1 := hP.lt ha
  have ha1 : gC (aC σ n.toNatClampNeg (.inr (4, n.toNatClampNeg, .inr (.inr (.inr (.inr (fun _ => none))))))) a = some (.inr (4, la, .inr (.inr (.inr (.inr f))))) := by rw [gC_old (by omega)]; exact ha
  refine va_alen hx hb hK (hP1.one ha1 (nz_n (show la ≠ 0 by omega))) (q0 := 0) (t0 := 4) rfl (cTys_at (by decide)) (v := Int32.ofNat la) rfl dJ13_copyOf_2_30 ?_
  refine stp_sound hx hb dJ13_copyOf_2_31 (q := (32, [some (.ref a), some (.int n), some (.ref mi), some (.ref σ.1)], [.int n, .int (Int32.ofNat la), .int 0, .ref σ.1, .int 0, .ref a])) rfl hL (fun LS hL => ?_)
  refine va_mmin hx hb (by rw [hml]; exact hL.2.1.symm) hown (hts _ (lw_g (lw_at lw_m5 75 rfl) rfl)) (hts _ qj_ns) (hts _ qj_mi) (hts _ qj_nc) (by show 1 ≤ d + 3; omega) (by show 4 + 13 ≤ 64 * (d + 3); omega) (by show 0 + 1 ≤ 1; omega) (by show 0 + n.toNatClampNeg ≤ n.toNatClampNeg; omega) dJ13_copyOf_2_32 ?_
  rw [if_neg hlan]
  have hnew : gC (aC σ n.toNatClampNeg (.inr (4, n.toNatClampNeg, .inr (.inr (.inr (.inr (fun _ => none))))))) σ.1 = some (.inr (4, n.toNatClampNeg, .inr (.inr (.inr (.inr (fun _ => none)))))) := gC_new
  have hel1 : elB (aC σ n.toNatClampNeg (.inr (4, n.toNatClampNeg, .inr (.inr (.inr (.inr (fun _ => none))))))) f (0 : Int32).toNatClampNeg (Int32.ofNat la).toNatClampNeg = true := by
    rw [hlai]
    unfold elB at hel ⊢
    rw [List.all_eq_true] at hel ⊢
    intro j hj
    have h9 := hel j hj
    show (match f (0 + j) with | none => true | some y => _) = true
    cases hy : f (0 + j) with
    | none => rfl
    | some y =>
      rw [hy] at h9
      dsimp only at h9 ⊢
      cases hg : gC σ y with
      | none => rw [hg] at h9; cases h9
      | some cl =>
        have : y < σ.1 := hP.lt hg
        rw [gC_old (by omega), hg]
        rw [hg] at h9
        exact h9
  have hw : nativeFrameWords "java/lang/System" "arraycopy" 5 + 11 ≤ 30 := by decide
  refine cr_copyR hx hb (by rw [hml]; exact hL.2.1.symm) hown (hts _ (lw_g (lw_at lw_m5 76 rfl) rfl)) hts hN hK hP1 hS1 ha1 hnew (sp := 0) (dp := 0) (n := Int32.ofNat la) (by decide) (by decide) hla0 (by rw [hlai]; show 0 + la ≤ la; omega) (by rw [hlai]; show 0 + la ≤ _; omega) hel1 (by rw [hlai]; exact hla) (by show 1 ≤ d + 3; omega) (by show 0 + _ ≤ 64 * (d + 3); omega) dJ13_copyOf_2_35 (fun H2 locs2 hP2 hS2 => ?_)
  rw [aC_pC, hlai] at hP2
  have e1 : cpF f (fun _ => none) (0 : Int32).toNatClampNeg (0 : Int32).toNatClampNeg la = (fun k => if k < la then f k else none) := by
    funext k
    unfold cpF
    have e0 : (0 : Int32).toNatClampNeg = 0 := rfl
    rw [e0]
    by_cases hk : k < la
    · rw [if_pos (by omega), if_pos hk, show 0 + (k - 0) = k by omega]
    · rw [if_neg (by omega), if_neg hk]
  rw [e1] at hP2
  refine stp_sound hx hb dJ13_copyOf_2_38 (q := (39, [some (.ref a), some (.int n), some (.ref mi), some (.ref σ.1)], [.ref σ.1])) rfl hL (fun LS hL => ?_)
  have e2 : 0 + n.toNatClampNeg = n.toNatClampNeg := Nat.zero_add _
  rw [e2]
  exact W.aret hx hb B.returns (Or.inr ⟨_, rfl⟩) (Or.inr ⟨_, rfl⟩) (fun t ht hW => ⟨rfl, by rw [ht]; exact hP2, hS2.F ht⟩) hS2.2.2 dJ13_copyOf_2_39 B.notSynchronized
end
