/-! WHAT mstep SAYS, THE MACHINE DOES -/
def rmD (d : Nat) : Room := { frames := d + 1, cells := 0, slots := 0, locals := 64 * (d + 1) }
def mQc (mb : Nat) (D : va_G) (cs : McT) (r : MR) : Array Value → State → Outcome → State → Prop := fun _ st o t => o = .returned r.1 ∧ va_P D mCl (mws mb cs r.2) t.heap ∧ va_F (mA mb) st t
def mPc (mb : Nat) (D : va_G) (cs : McT) (av : List Value) (M : MM) : Array Value → State → Prop := va_Pc av (fun U => va_P D mCl (mws mb cs M) U.heap ∧ va_K D mCl (mtys cs) U)
theorem lookup_mem {β : Type} {k : Nat} {v : β} : ∀ {l : List (Nat × β)}, l.lookup k = some v → (k, v) ∈ l
  | [], h => by cases h
  | (a, b) :: l, h => by
    rw [List.lookup_cons] at h
    split at h
    · rename_i hk
      have hk : k = a := by simpa using hk
      cases h
      rw [hk]
      exact List.mem_cons_self
    · exact List.mem_cons_of_mem _ (lookup_mem h)
theorem mid_some {mb a n : Nat} (h : mid mb a = some n) : a = mb + n ∧ n ≠ 0 ∧ n < 47 := by
  unfold mid at h
  split at h
  · cases h; omega
  · cases h
theorem nar_bool {x : Int32} (h : x = 0 ∨ x = 1) : narrow .boolean (.int x) = .int x ∧ fits .boolean (.int x) = true ∧ vp_nar .boolean x = x := by
  rcases h with h | h <;> subst h <;> decide
theorem fvk_ty : ∀ k, k < 63 → (fvk k = 0 → tyX19 k = .int) ∧ (fvk k = 1 → tyX19 k = .boolean) ∧ (fvk k = 2 → tyX19 k = .long) ∧ (fvk k ≤ 2 → (TX19 k).2.2.2 = false) ∧ (TX19 k).1 = RX19 := by decide +kernel
theorem qm_min_i : Cond.initialized "java/lang/Math" ∈ lw_all := (lw_g (lw_at lw_m1 25 rfl) rfl)
theorem qm_min_s : Cond.static Lib.Math.min.name ∈ lw_all := (lw_g (lw_at lw_m3 188 rfl) rfl)
theorem qm_min_c : Cond.code Lib.Math.min.name Lib.Math.min.code 2 (some .int) ∈ lw_all := (lw_g (lw_at lw_m3 189 rfl) rfl)
theorem qm_443 : Cond.methodLink RX19 443 Lib.Math.min.name ∈ lw_all := (lw_g (lw_at lw_m11 115 rfl) rfl)
section
variable {p : Program} {l : Launch} {e : Env} {s : State} {m : MethodId} {args : Array Value} {below : List Frame} {meth : Method} {c : Code} {Q : State → Prop} {mb : Nat} {D : va_G} {cs : McT} {d nL : Nat}
theorem mce_arr {M : MM} {n : Nat} (h0 : n ≠ 0) (hn : n < 47) (ht : atyp n ≠ 2) : (mws mb cs M)[n]? = some (mb + n, .inl (if atyp n = 0 then cs.1 else cs.2.1, alen n, .inl (rI M n))) := by
  rw [mws_at hn]
  unfold mce
  rw [if_neg h0, if_neg ht]
theorem mce_arrL {M : MM} {n : Nat} (h0 : n ≠ 0) (hn : n < 47) (ht : atyp n = 2) : (mws mb cs M)[n]? = some (mb + n, .inl (cs.2.2, alen n, .inr (.inl (rL M n)))) := by
  rw [mws_at hn]
  unfold mce
  rw [if_neg h0, if_pos ht]
theorem mce_obj {M : MM} : (mws mb cs M)[0]? = some (mb, .inr (0, mfs mb M)) := by
  rw [mws_at (by decide)]
  rfl
theorem mald_inv {t : Nat} {st r : List Value} {M : MM} (h : mald mb t st M = some r) : ∃ i n r', st = .int i :: .ref (mb + n) :: r' ∧ n ≠ 0 ∧ n < 47 ∧ atyp n = t ∧ vp_in i (alen n) ∧ r = (if t = 2 then .long (rL M n i.toNatClampNeg) else .int (rI M n i.toNatClampNeg)) :: r' := by
  unfold mald at h
  split at h
  · split at h
    · rename_i hm
      obtain ⟨rfl, h0, hn⟩ := mid_some hm
      split at h
      · rename_i hc
        cases h
        exact ⟨_, _, _, rfl, h0, hn, hc.1, inb_in.mp hc.2, rfl⟩
      · cases h
    · cases h
  · cases h
theorem mast_inv {t : Nat} {st : List Value} {M : MM} {r : List Value × MM} (h : mast mb t st M = some r) :
    (∃ x i n r', st = .int x :: .int i :: .ref (mb + n) :: r' ∧ n ≠ 0 ∧ n < 47 ∧ t ≠ 2 ∧ atyp n = t ∧ vp_in i (alen n) ∧ (t = 1 → x = 0 ∨ x = 1) ∧ r = (r', wI M n i.toNatClampNeg x)) ∨
    (∃ x i n r', st = .long x :: .int i :: .ref (mb + n) :: r' ∧ n ≠ 0 ∧ n < 47 ∧ t = 2 ∧ atyp n = t ∧ vp_in i (alen n) ∧ r = (r', wL M n i.toNatClampNeg x)) := by
  unfold mast at h
  split at h
  · split at h
    · rename_i hm
      obtain ⟨rfl, h0, hn⟩ := mid_some hm
      split at h
      · rename_i hc
        cases h
        exact Or.inl ⟨_, _, _, _, rfl, h0, hn, hc.1, hc.2.1, inb_in.mp hc.2.2.1, hc.2.2.2, rfl⟩
      · cases h
    · cases h
  · split at h
    · rename_i hm
      obtain ⟨rfl, h0, hn⟩ := mid_some hm
      split at h
      · rename_i hc
        cases h
        exact Or.inr ⟨_, _, _, _, rfl, h0, hn, hc.1, hc.2.1, inb_in.mp hc.2.2, rfl⟩
      · cases h
    · cases h
  · cases h
theorem mcall_inv {k : MK} {pc : Nat} {ls : LsT} {st : List Value} {M : MM} {idx : Nat} {vi : Bool} {z} (h : mcall mb k pc ls st M idx vi = some z) : ∃ y cc rt nL' n, mcp idx = some (y, cc, rt, nL', n, !vi) ∧
    ∃ As rest, As.length = (if vi then n + 1 else n) ∧ st = As.reverse ++ rest ∧ catS rest ≤ 8 ∧ (vi = true → ∃ As', As = .ref mb :: As') ∧ (lg_sl As).length ≤ nL' ∧ z = .inr (.inr (((cc, rt), 0, lent As nL', [], M), fun q => (k, pc + 3, ls, q.1.toList ++ rest, q.2))) := by
  unfold mcall at h
  split at h
  · rename_i y cc rt nL' n isS hm
    split at h
    · cases h
    · rename_i hvi
      have hS : isS = !vi := by cases isS <;> cases vi <;> simp at hvi ⊢
      subst hS
      cases vi with
      | false =>
        simp only [Bool.not_false, if_true] at h
        split at h
        · rename_i hc
          cases h
          refine ⟨y, cc, rt, nL', n, hm, (st.take n).reverse, st.drop n, ?_, ?_, hc.2.1, fun hv => (by cases hv), hc.2.2.2, rfl⟩
          · rw [List.length_reverse, List.length_take, Nat.min_eq_left hc.1]
            rfl
          · rw [List.reverse_reverse, List.take_append_drop]
        · cases h
      | true =>
        simp only [Bool.not_true, Bool.false_eq_true, if_false] at h
        split at h
        · rename_i hc
          cases h
          refine ⟨y, cc, rt, nL', n, hm, (st.take (n + 1)).reverse, st.drop (n + 1), ?_, ?_, hc.2.1, fun _ => ?_, hc.2.2.2, rfl⟩
          · rw [List.length_reverse, List.length_take, Nat.min_eq_left hc.1]
            rfl
          · rw [List.reverse_reverse, List.take_append_drop]
          · have h1 := hc.2.2.1 trivial
            obtain ⟨w, hw⟩ : ∃ w, st.drop n = .ref mb :: w := by
              cases hq : st.drop n with
              | nil => rw [hq] at h1; cases h1
              | cons a b => rw [hq] at h1; cases h1; exact ⟨b, rfl⟩
            refine ⟨(st.take n).reverse, ?_⟩
            have : st.take (n + 1) = st.take n ++ [.ref mb] := by
              rw [List.take_succ_eq_append_getElem (by omega)]
              congr 2
              have h2 : (st.drop n)[0]? = some (.ref mb) := by rw [hw]; rfl
              rw [List.getElem?_drop] at h2
              have h3 := (List.getElem?_eq_some_iff.mp h2).2
              simpa using h3
            rw [this, List.reverse_append]
            rfl
        · cases h
  · cases h
/-- a step within the method -/
theorem mstep_next {k : MK} {pc : Nat} {ls : LsT} {st : List Value} {M : MM} {g : MF} (h : mstep mb (k, pc, ls, st, M) = some (.inr (.inl g))) (hx : p.tables.exec = Jvm.exec) (hb : c.code = k.1) (hml : c.maxLocals = nL) (hown : s.vm.findClass RX19 = some m.cls) (hts : ∀ w ∈ lw_all, w.before args s = true) (hK : va_K D mCl (mtys cs) s)
    {H : Heap} {locs : List Loc} {LS : Array Slot} (hP : va_P D mCl (mws mb cs M) H) (hS : va_S (mA mb) s.heap H locs) (hL : LH LS nL ls)
    (kk : g.1 = k → ∀ (H' : Heap) (locs' : List Loc) (LS' : Array Slot), va_P D mCl (mws mb cs g.2.2.2.2) H' → va_S (mA mb) s.heap H' locs' → LH LS' nL g.2.2.1 → W p l e (rmD d) s m args below meth c H' locs' 0 0 Q (F0 m g.2.1 LS' g.2.2.2.1)) :
    W p l e (rmD d) s m args below meth c H locs 0 0 Q (F0 m pc LS st) := by
  have hD := mws_D mb cs M
  have hsz : LS.size = nL := hL.2.1
  unfold mstep at h
  dsimp only at h
  split at h
  · cases h
  · rename_i i len hd
    split at h
    · rename_i idx
      obtain ⟨rfl, h9⟩ := iflen h; clear h; have h := h9; clear h9
      split at h
      · split at h
        · rename_i ha
          have ha := ha.symm
          subst ha
          obtain ⟨kf, hf, hg⟩ := Option.map_eq_some_iff.mp h
          cases hg
          obtain ⟨hl, hk⟩ := fTab_ok _ (lookup_mem hf)
          have h5 := (fvk_ty kf hk).2.2.2.2
          exact va_get hx hb hts in_X19 hown hK hP 0 mce_obj rfl kf hk (hts _ hl) (fun x hx => by rw [← h5]; exact hx) (mfs_at hk) hd (kk rfl _ _ _ hP hS hL)
        · cases h
      · cases h
    · rename_i idx
      obtain ⟨rfl, h9⟩ := iflen h; clear h; have h := h9; clear h9
      split at h
      · split at h
        · rename_i ha
          have ha := ha.symm
          subst ha
          obtain ⟨kf, hf, h9⟩ := Option.bind_eq_some_iff.mp h; clear h; have h := h9; clear h9
          obtain ⟨M', hM, hg⟩ := Option.map_eq_some_iff.mp h
          cases hg
          obtain ⟨hl, hk⟩ := fTab_ok _ (lookup_mem hf)
          obtain ⟨t0, t1, t2, t3, h5⟩ := fvk_ty kf hk
          have hty := tyX19_ok kf hk
          have hlen : kf < (mfs mb M).length := by unfold mfs; rw [List.length_map, List.length_range]; exact hk
          unfold mput at hM
          split at hM
          · rename_i hv
            cases hM
            rw [t0 hv] at hty
            refine va_put hx hb hts in_X19 tyX19 tyX19_ok nmX19 hown hK hP hD hS 0 mce_obj rfl kf hk (hts _ hl) (fun x hx => by rw [← h5]; exact hx) (t3 (by rw [hv]; decide)) hty rfl rfl hlen hd (fun H1 locs1 hP1 _ hS1 => ?_)
            rw [mws_fI hk (Or.inl hv)] at hP1
            exact kk rfl _ _ _ hP1 hS1 hL
          · rename_i hv
            split at hM
            · rename_i h01
              cases hM
              rw [t1 hv] at hty
              refine va_put hx hb hts in_X19 tyX19 tyX19_ok nmX19 hown hK hP hD hS 0 mce_obj rfl kf hk (hts _ hl) (fun x hx => by rw [← h5]; exact hx) (t3 (by rw [hv]; decide)) hty (nar_bool h01).1 (nar_bool h01).2.1 hlen hd (fun H1 locs1 hP1 _ hS1 => ?_)
              rw [mws_fI hk (Or.inr hv)] at hP1
              exact kk rfl _ _ _ hP1 hS1 hL
            · cases hM
          · rename_i hv
            cases hM
            rw [t2 hv] at hty
            refine va_put hx hb hts in_X19 tyX19 tyX19_ok nmX19 hown hK hP hD hS 0 mce_obj rfl kf hk (hts _ hl) (fun x hx => by rw [← h5]; exact hx) (t3 (by rw [hv]; decide)) hty rfl rfl hlen hd (fun H1 locs1 hP1 _ hS1 => ?_)
            rw [mws_fL hk hv] at hP1
            exact kk rfl _ _ _ hP1 hS1 hL
          · cases hM
        · cases h
      · cases h
    · obtain ⟨rfl, h9⟩ := iflen h; clear h; have h := h9; clear h9
      obtain ⟨r, h9, hg⟩ := Option.map_eq_some_iff.mp h; clear h; have h := h9; clear h9
      cases hg
      obtain ⟨i, n, r', rfl, h0, hn, ht, hi, rfl⟩ := mald_inv h
      refine va_iald hx hb hK hP n 0 (mce_arr h0 hn (by rw [ht]; decide)) (by rw [if_pos ht]; rfl) hi hd (kk rfl _ _ _ hP hS hL)
    · obtain ⟨rfl, h9⟩ := iflen h; clear h; have h := h9; clear h9
      obtain ⟨r, h9, hg⟩ := Option.map_eq_some_iff.mp h; clear h; have h := h9; clear h9
      cases hg
      obtain ⟨i, n, r', rfl, h0, hn, ht, hi, rfl⟩ := mald_inv h
      refine va_zald hx hb hK hP n 1 (mce_arr h0 hn (by rw [ht]; decide)) (by rw [if_neg (by rw [ht]; decide)]; rfl) hi hd (kk rfl _ _ _ hP hS hL)
    · obtain ⟨rfl, h9⟩ := iflen h; clear h; have h := h9; clear h9
      obtain ⟨r, h9, hg⟩ := Option.map_eq_some_iff.mp h; clear h; have h := h9; clear h9
      cases hg
      obtain ⟨i, n, r', rfl, h0, hn, ht, hi, rfl⟩ := mald_inv h
      refine va_lald hx hb hK hP n 2 (mce_arrL h0 hn ht) rfl hi hd (kk rfl _ _ _ hP hS hL)
    · obtain ⟨rfl, h9⟩ := iflen h; clear h; have h := h9; clear h9
      obtain ⟨r, h9, hg⟩ := Option.map_eq_some_iff.mp h; clear h; have h := h9; clear h9
      cases hg
      rcases mast_inv h with ⟨x, i, n, r', rfl, h0, hn, h2, ht, hi, hz, rfl⟩ | ⟨x, i, n, r', rfl, h0, hn, h2, ht, hi, rfl⟩
      · refine va_iast hx hb hK hP hD hS n 0 (mce_arr h0 hn (by rw [ht]; exact h2)) (by rw [if_pos ht]; rfl) hi hd (fun H1 locs1 hP1 _ hS1 => ?_)
        rw [mws_wI h0 hn (by rw [ht]; exact h2)] at hP1
        exact kk rfl _ _ _ hP1 hS1 hL
      · cases h2
    · obtain ⟨rfl, h9⟩ := iflen h; clear h; have h := h9; clear h9
      obtain ⟨r, h9, hg⟩ := Option.map_eq_some_iff.mp h; clear h; have h := h9; clear h9
      cases hg
      rcases mast_inv h with ⟨x, i, n, r', rfl, h0, hn, h2, ht, hi, hz, rfl⟩ | ⟨x, i, n, r', rfl, h0, hn, h2, ht, hi, rfl⟩
      · refine va_zast hx hb hK hP hD hS n 1 (mce_arr h0 hn (by rw [ht]; exact h2)) (by rw [if_neg (by rw [ht]; decide)]; rfl) hi hd (fun H1 locs1 hP1 _ hS1 => ?_)
        rw [(nar_bool (hz rfl)).2.2, mws_wI h0 hn (by rw [ht]; exact h2)] at hP1
        exact kk rfl _ _ _ hP1 hS1 hL
      · cases h2
    · obtain ⟨rfl, h9⟩ := iflen h; clear h; have h := h9; clear h9
      obtain ⟨r, h9, hg⟩ := Option.map_eq_some_iff.mp h; clear h; have h := h9; clear h9
      cases hg
      rcases mast_inv h with ⟨x, i, n, r', rfl, h0, hn, h2, ht, hi, hz, rfl⟩ | ⟨x, i, n, r', rfl, h0, hn, h2, ht, hi, rfl⟩
      · exact absurd rfl h2
      · refine va_last hx hb hK hP hD hS n 2 (mce_arrL h0 hn ht) rfl hi hd (fun H1 locs1 hP1 _ hS1 => ?_)
        rw [mws_wL h0 hn ht] at hP1
        exact kk rfl _ _ _ hP1 hS1 hL
    · obtain ⟨rfl, h9⟩ := iflen h; clear h; have h := h9; clear h9
      obtain ⟨v, h9, hg⟩ := Option.map_eq_some_iff.mp h; clear h; have h := h9; clear h9
      cases hg
      exact lv_ldc2 hx hb hown (hts _ (kTab_ok _ (lookup_mem h))) hd (kk rfl _ _ _ hP hS hL)
    · obtain ⟨rfl, h9⟩ := iflen h; clear h; have h := h9; clear h9
      obtain ⟨y, cc, rt, nL', n, -, As, rest, -, -, -, -, -, hz⟩ := mcall_inv h
      cases hz
    · rename_i idx
      obtain ⟨rfl, h9⟩ := iflen h; clear h; have h := h9; clear h9
      split at h
      · rename_i hidx
        subst hidx
        split at h
        · rename_i y x r
          split at h
          · rename_i hcat
            cases h
            exact va_mmin hx hb (hml.trans hsz.symm) hown (hts _ qm_443) (hts _ qm_min_s) (hts _ qm_min_i) (hts _ qm_min_c) (Nat.succ_le_succ (Nat.zero_le _)) (by unfold catS at hcat; show _ ≤ 64 * (d + 1); omega) (Nat.zero_le _) (Nat.zero_le _) hd (kk rfl _ _ _ hP hS hL)
          · cases h
        · cases h
      · obtain ⟨y, cc, rt, nL', n, -, As, rest, -, -, -, -, -, hz⟩ := mcall_inv h
        cases hz
    · obtain ⟨rfl, h9⟩ := iflen h; clear h; have h := h9; clear h9
      obtain ⟨v, h9, hg⟩ := Option.map_eq_some_iff.mp h; clear h; have h := h9; clear h9
      cases hg
    · obtain ⟨rfl, h9⟩ := iflen h; clear h; have h := h9; clear h9
      split at h
      · cases h
      · cases h
    · obtain ⟨q, h9, hg⟩ := Option.map_eq_some_iff.mp h; clear h; have h := h9; clear h9
      cases hg
      exact stp_sound hx hb hd h hL (fun LS' hL' => kk rfl _ _ _ hP hS hL')
end
