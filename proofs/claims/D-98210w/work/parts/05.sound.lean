/-! WHAT stp SAYS, THE MACHINE DOES -/
section
variable {p : Program} {l : Launch} {e : Env} {R : Room} {s : State} {m : MethodId} {args : Array Value} {below : List Frame} {meth : Method} {c : Code} {H : Heap} {locs : List Loc} {cells slots : Nat} {Q : State → Prop} {cc : ByteArray}
theorem rfo_rf {v : Value} {a : Option Nat} (h : rfo v = some a) : v = va_rf a := by
  cases v <;> simp [rfo] at h <;> subst h <;> rfl
theorem stp_sound (hx : p.tables.exec = Jvm.exec) (hb : c.code = cc) {i : Instr} {len pc nL : Nat} {ls : LsT} {st : List Value} {q : StT} (hd : decode cc pc = .ok (i, len)) (h : stp i len pc ls st = some q) {LS : Array Slot} (hL : LH LS nL ls)
    (k : ∀ LS' : Array Slot, LH LS' nL q.2.1 → W p l e R s m args below meth c H locs cells slots Q (F0 m q.1 LS' q.2.2)) : W p l e R s m args below meth c H locs cells slots Q (F0 m pc LS st) := by
  cases i with
  | iconst n =>
    obtain ⟨rfl, g⟩ := iflen h; clear h; have h := g; clear g
    cases h
    exact lv_iconst hx hb hd rfl (k _ hL)
  | bipush n =>
    obtain ⟨rfl, g⟩ := iflen h; clear h; have h := g; clear g
    cases h
    exact lv_bipush hx hb hd rfl (k _ hL)
  | sipush n =>
    obtain ⟨rfl, g⟩ := iflen h; clear h; have h := g; clear g
    cases h
    exact lv_sipush hx hb hd rfl (k _ hL)
  | lconst n =>
    obtain ⟨rfl, g⟩ := iflen h; clear h; have h := g; clear g
    cases h
    exact lv_lconst hx hb hd rfl (k _ hL)
  | aconst_null =>
    obtain ⟨rfl, g⟩ := iflen h; clear h; have h := g; clear g
    cases h
    exact lv_null hx hb hd (k _ hL)
  | iload_n j =>
    obtain ⟨rfl, g⟩ := iflen h; clear h; have h := g; clear g
    obtain ⟨x, h1, rfl⟩ := ldI_inv h
    exact lv_iload_n hx hb hd rfl (hL.at h1) (k _ hL)
  | iload j =>
    obtain ⟨rfl, g⟩ := iflen h; clear h; have h := g; clear g
    obtain ⟨x, h1, rfl⟩ := ldI_inv h
    exact lv_iload hx hb hd (hL.at h1) (k _ hL)
  | lload_n j =>
    obtain ⟨rfl, g⟩ := iflen h; clear h; have h := g; clear g
    obtain ⟨x, h1, rfl⟩ := ldL_inv h
    exact lv_lload_n hx hb hd rfl (hL.at h1) (k _ hL)
  | lload j =>
    obtain ⟨rfl, g⟩ := iflen h; clear h; have h := g; clear g
    obtain ⟨x, h1, rfl⟩ := ldL_inv h
    exact lv_lload hx hb hd (hL.at h1) (k _ hL)
  | aload_n j =>
    obtain ⟨rfl, g⟩ := iflen h; clear h; have h := g; clear g
    rcases ldA_inv h with ⟨x, h1, rfl⟩ | ⟨h1, rfl⟩
    · exact lv_aload_n hx hb hd rfl (hL.at h1) (k _ hL)
    · exact lv_aload_nN hx hb hd rfl (hL.at h1) (k _ hL)
  | aload j =>
    obtain ⟨rfl, g⟩ := iflen h; clear h; have h := g; clear g
    rcases ldA_inv h with ⟨x, h1, rfl⟩ | ⟨h1, rfl⟩
    · exact lv_aload hx hb hd (hL.at h1) (k _ hL)
    · exact lv_aloadN hx hb hd (hL.at h1) (k _ hL)
  | istore_n j =>
    obtain ⟨rfl, g⟩ := iflen h; clear h; have h := g; clear g
    obtain ⟨x, r, rfl, hi, rfl⟩ := svI_inv h
    exact lv_istore_n hx hb hd rfl hL.2 (by rw [← hL.1]; exact hi) rfl (fun LS' h' => k _ (LH.st1 hL.1 h'))
  | istore j =>
    obtain ⟨rfl, g⟩ := iflen h; clear h; have h := g; clear g
    obtain ⟨x, r, rfl, hi, rfl⟩ := svI_inv h
    exact lv_istore hx hb hd hL.2 (by rw [← hL.1]; exact hi) rfl (fun LS' h' => k _ (LH.st1 hL.1 h'))
  | lstore_n j =>
    obtain ⟨rfl, g⟩ := iflen h; clear h; have h := g; clear g
    obtain ⟨x, r, rfl, hi, rfl⟩ := svL_inv h
    exact lv_lstore_n hx hb hd rfl hL.2 (by rw [← hL.1]; exact hi) rfl (fun LS' h' => k _ (LH.st2 hL.1 h'))
  | lstore j =>
    obtain ⟨rfl, g⟩ := iflen h; clear h; have h := g; clear g
    obtain ⟨x, r, rfl, hi, rfl⟩ := svL_inv h
    exact lv_lstore hx hb hd hL.2 (by rw [← hL.1]; exact hi) rfl (fun LS' h' => k _ (LH.st2 hL.1 h'))
  | astore_n j =>
    obtain ⟨rfl, g⟩ := iflen h; clear h; have h := g; clear g
    obtain ⟨hi, ⟨x, r, rfl, rfl⟩ | ⟨r, rfl, rfl⟩⟩ := svA_inv h
    · exact lv_astore_n hx hb hd rfl hL.2 (by rw [← hL.1]; exact hi) rfl (fun LS' h' => k _ (LH.st1 hL.1 h'))
    · exact lv_astore_nN hx hb hd rfl hL.2 (by rw [← hL.1]; exact hi) rfl (fun LS' h' => k _ (LH.st1 hL.1 h'))
  | astore j =>
    obtain ⟨rfl, g⟩ := iflen h; clear h; have h := g; clear g
    obtain ⟨hi, ⟨x, r, rfl, rfl⟩ | ⟨r, rfl, rfl⟩⟩ := svA_inv h
    · exact lv_astore hx hb hd hL.2 (by rw [← hL.1]; exact hi) rfl (fun LS' h' => k _ (LH.st1 hL.1 h'))
    · exact lv_astoreN hx hb hd hL.2 (by rw [← hL.1]; exact hi) rfl (fun LS' h' => k _ (LH.st1 hL.1 h'))
  | iinc j n =>
    obtain ⟨rfl, g⟩ := iflen h; clear h; have h := g; clear g
    split at h
    · rename_i x h1
      split at h
      · rename_i hi
        cases h
        obtain ⟨w, hw⟩ := List.getElem?_of_mem ((lfs_mem ls 0 j (.int x)).mpr ⟨Nat.zero_le _, h1⟩)
        exact lv_iinc hx hb hd hL.2 hw rfl (by rw [← hL.1]; exact hi) rfl (fun LS' h' => k _ (LH.st1 hL.1 h'))
      · cases h
    · cases h
  | iadd =>
    obtain ⟨rfl, g⟩ := iflen h; clear h; have h := g; clear g
    obtain ⟨x, y, r, v, rfl, hv, rfl⟩ := sII_inv h
    cases hv
    exact lv_iadd hx hb hd (k _ hL)
  | isub =>
    obtain ⟨rfl, g⟩ := iflen h; clear h; have h := g; clear g
    obtain ⟨x, y, r, v, rfl, hv, rfl⟩ := sII_inv h
    cases hv
    exact lv_isub hx hb hd (k _ hL)
  | imul =>
    obtain ⟨rfl, g⟩ := iflen h; clear h; have h := g; clear g
    obtain ⟨x, y, r, v, rfl, hv, rfl⟩ := sII_inv h
    cases hv
    exact lv_imul hx hb hd (k _ hL)
  | iand =>
    obtain ⟨rfl, g⟩ := iflen h; clear h; have h := g; clear g
    obtain ⟨x, y, r, v, rfl, hv, rfl⟩ := sII_inv h
    cases hv
    exact lv_iand hx hb hd (k _ hL)
  | ior =>
    obtain ⟨rfl, g⟩ := iflen h; clear h; have h := g; clear g
    obtain ⟨x, y, r, v, rfl, hv, rfl⟩ := sII_inv h
    cases hv
    exact lv_ior hx hb hd (k _ hL)
  | ixor =>
    obtain ⟨rfl, g⟩ := iflen h; clear h; have h := g; clear g
    obtain ⟨x, y, r, v, rfl, hv, rfl⟩ := sII_inv h
    cases hv
    exact lv_ixor hx hb hd (k _ hL)
  | ishl =>
    obtain ⟨rfl, g⟩ := iflen h; clear h; have h := g; clear g
    obtain ⟨x, y, r, v, rfl, hv, rfl⟩ := sII_inv h
    cases hv
    exact lv_ishl hx hb hd (k _ hL)
  | ishr =>
    obtain ⟨rfl, g⟩ := iflen h; clear h; have h := g; clear g
    obtain ⟨x, y, r, v, rfl, hv, rfl⟩ := sII_inv h
    cases hv
    exact lv_ishr hx hb hd (k _ hL)
  | idiv =>
    obtain ⟨rfl, g⟩ := iflen h; clear h; have h := g; clear g
    obtain ⟨x, y, r, v, rfl, hv, rfl⟩ := sII_inv h
    split at hv
    · cases hv
    · cases hv
      exact lv_idiv hx hb hd (by assumption) (k _ hL)
  | irem =>
    obtain ⟨rfl, g⟩ := iflen h; clear h; have h := g; clear g
    obtain ⟨x, y, r, v, rfl, hv, rfl⟩ := sII_inv h
    split at hv
    · cases hv
    · cases hv
      exact lv_irem hx hb hd (by assumption) (k _ hL)
  | ladd =>
    obtain ⟨rfl, g⟩ := iflen h; clear h; have h := g; clear g
    obtain ⟨x, y, r, v, rfl, hv, rfl⟩ := sLL_inv h
    cases hv
    exact lv_ladd hx hb hd (k _ hL)
  | lsub =>
    obtain ⟨rfl, g⟩ := iflen h; clear h; have h := g; clear g
    obtain ⟨x, y, r, v, rfl, hv, rfl⟩ := sLL_inv h
    cases hv
    exact lv_lsub hx hb hd (k _ hL)
  | lmul =>
    obtain ⟨rfl, g⟩ := iflen h; clear h; have h := g; clear g
    obtain ⟨x, y, r, v, rfl, hv, rfl⟩ := sLL_inv h
    cases hv
    exact lv_lmul hx hb hd (k _ hL)
  | land =>
    obtain ⟨rfl, g⟩ := iflen h; clear h; have h := g; clear g
    obtain ⟨x, y, r, v, rfl, hv, rfl⟩ := sLL_inv h
    cases hv
    exact lv_land hx hb hd (k _ hL)
  | lor =>
    obtain ⟨rfl, g⟩ := iflen h; clear h; have h := g; clear g
    obtain ⟨x, y, r, v, rfl, hv, rfl⟩ := sLL_inv h
    cases hv
    exact lv_lor hx hb hd (k _ hL)
  | lcmp =>
    obtain ⟨rfl, g⟩ := iflen h; clear h; have h := g; clear g
    obtain ⟨x, y, r, v, rfl, hv, rfl⟩ := sLL_inv h
    cases hv
    exact W.lcmp hx hb hd (k _ hL)
  | ldiv =>
    obtain ⟨rfl, g⟩ := iflen h; clear h; have h := g; clear g
    obtain ⟨x, y, r, v, rfl, hv, rfl⟩ := sLL_inv h
    split at hv
    · cases hv
    · cases hv
      exact lv_ldiv hx hb hd (by assumption) (k _ hL)
  | lrem =>
    obtain ⟨rfl, g⟩ := iflen h; clear h; have h := g; clear g
    obtain ⟨x, y, r, v, rfl, hv, rfl⟩ := sLL_inv h
    split at hv
    · cases hv
    · cases hv
      exact lv_lrem hx hb hd (by assumption) (k _ hL)
  | lushr =>
    obtain ⟨rfl, g⟩ := iflen h; clear h; have h := g; clear g
    obtain ⟨x, y, r, v, rfl, hv, rfl⟩ := sLI_inv h
    cases hv
    exact lv_lushr hx hb hd rfl (k _ hL)
  | lshl =>
    obtain ⟨rfl, g⟩ := iflen h; clear h; have h := g; clear g
    obtain ⟨x, y, r, v, rfl, hv, rfl⟩ := sLI_inv h
    cases hv
    exact lv_lshl hx hb hd rfl (k _ hL)
  | ineg =>
    obtain ⟨rfl, g⟩ := iflen h; clear h; have h := g; clear g
    obtain ⟨x, r, rfl, rfl⟩ := sI_inv h
    exact lv_ineg hx hb hd (k _ hL)
  | lneg =>
    obtain ⟨rfl, g⟩ := iflen h; clear h; have h := g; clear g
    obtain ⟨x, r, rfl, rfl⟩ := sL_inv h
    exact lv_lneg hx hb hd (k _ hL)
  | i2l =>
    obtain ⟨rfl, g⟩ := iflen h; clear h; have h := g; clear g
    obtain ⟨x, r, rfl, rfl⟩ := sI_inv h
    exact lv_i2l hx hb hd rfl (k _ hL)
  | l2i =>
    obtain ⟨rfl, g⟩ := iflen h; clear h; have h := g; clear g
    obtain ⟨x, r, rfl, rfl⟩ := sL_inv h
    exact lv_l2i hx hb hd rfl (k _ hL)
  | dup =>
    obtain ⟨rfl, g⟩ := iflen h; clear h; have h := g; clear g
    split at h
    · split at h
      · cases h
        exact lv_dup hx hb hd (by assumption) (k _ hL)
      · cases h
    · cases h
  | pop =>
    obtain ⟨rfl, g⟩ := iflen h; clear h; have h := g; clear g
    split at h
    · split at h
      · cases h
        exact lv_pop hx hb hd (by assumption) (k _ hL)
      · cases h
    · cases h
  | dup_x1 =>
    obtain ⟨rfl, g⟩ := iflen h; clear h; have h := g; clear g
    split at h
    · split at h
      · rename_i hc
        cases h
        exact lv_dup_x1 hx hb hd hc.1 hc.2 (k _ hL)
      · cases h
    · cases h
  | dup2 =>
    obtain ⟨rfl, g⟩ := iflen h; clear h; have h := g; clear g
    split at h
    · split at h
      · rename_i hc
        cases h
        exact lv_dup2_11 hx hb hd hc.1 hc.2 (k _ hL)
      · cases h
    · cases h
  | ifCond cd off =>
    cases cd with
    | eq =>
      obtain ⟨rfl, g⟩ := iflen h; clear h; have h := g; clear g
      obtain ⟨x, r, t, rfl, ht, rfl⟩ := sF1_inv h
      exact lv_if_eq hx hb hd (jmp_some ht) (fun hp => by have k := k LS hL; simp only [hp, not_true_eq_false, not_false_eq_true, decide_true, decide_false, if_true] at k; exact k) (fun hp => by have k := k LS hL; simp only [hp, not_true_eq_false, not_false_eq_true, decide_true, decide_false, Bool.false_eq_true, if_false] at k; exact k)
    | ne =>
      obtain ⟨rfl, g⟩ := iflen h; clear h; have h := g; clear g
      obtain ⟨x, r, t, rfl, ht, rfl⟩ := sF1_inv h
      exact lv_if_ne hx hb hd (jmp_some ht) (fun hp => by have k := k LS hL; simp only [hp, not_true_eq_false, not_false_eq_true, decide_true, decide_false, if_true] at k; exact k) (fun hp => by have k := k LS hL; simp only [hp, not_true_eq_false, not_false_eq_true, decide_true, decide_false, Bool.false_eq_true, if_false] at k; exact k)
    | lt =>
      obtain ⟨rfl, g⟩ := iflen h; clear h; have h := g; clear g
      obtain ⟨x, r, t, rfl, ht, rfl⟩ := sF1_inv h
      exact lv_if_lt hx hb hd (jmp_some ht) (fun hp => by have k := k LS hL; simp only [hp, not_true_eq_false, not_false_eq_true, decide_true, decide_false, if_true] at k; exact k) (fun hp => by have k := k LS hL; simp only [hp, not_true_eq_false, not_false_eq_true, decide_true, decide_false, Bool.false_eq_true, if_false] at k; exact k)
    | ge =>
      obtain ⟨rfl, g⟩ := iflen h; clear h; have h := g; clear g
      obtain ⟨x, r, t, rfl, ht, rfl⟩ := sF1_inv h
      exact lv_if_ge hx hb hd (jmp_some ht) (fun hp => by have k := k LS hL; simp only [hp, not_true_eq_false, not_false_eq_true, decide_true, decide_false, if_true] at k; exact k) (fun hp => by have k := k LS hL; simp only [hp, not_true_eq_false, not_false_eq_true, decide_true, decide_false, Bool.false_eq_true, if_false] at k; exact k)
    | gt =>
      obtain ⟨rfl, g⟩ := iflen h; clear h; have h := g; clear g
      obtain ⟨x, r, t, rfl, ht, rfl⟩ := sF1_inv h
      exact lv_if_gt hx hb hd (jmp_some ht) (fun hp => by have k := k LS hL; simp only [hp, not_true_eq_false, not_false_eq_true, decide_true, decide_false, if_true] at k; exact k) (fun hp => by have k := k LS hL; simp only [hp, not_true_eq_false, not_false_eq_true, decide_true, decide_false, Bool.false_eq_true, if_false] at k; exact k)
    | le =>
      obtain ⟨rfl, g⟩ := iflen h; clear h; have h := g; clear g
      obtain ⟨x, r, t, rfl, ht, rfl⟩ := sF1_inv h
      exact lv_if_le hx hb hd (jmp_some ht) (fun hp => by have k := k LS hL; simp only [hp, not_true_eq_false, not_false_eq_true, decide_true, decide_false, if_true] at k; exact k) (fun hp => by have k := k LS hL; simp only [hp, not_true_eq_false, not_false_eq_true, decide_true, decide_false, Bool.false_eq_true, if_false] at k; exact k)
  | if_icmp cd off =>
    cases cd with
    | eq =>
      obtain ⟨rfl, g⟩ := iflen h; clear h; have h := g; clear g
      obtain ⟨x, y, r, t, rfl, ht, rfl⟩ := sF2_inv h
      exact lv_icmp_eq hx hb hd (jmp_some ht) (fun hp => by have k := k LS hL; simp only [hp, not_true_eq_false, not_false_eq_true, decide_true, decide_false, if_true] at k; exact k) (fun hp => by have k := k LS hL; simp only [hp, not_true_eq_false, not_false_eq_true, decide_true, decide_false, Bool.false_eq_true, if_false] at k; exact k)
    | ne =>
      obtain ⟨rfl, g⟩ := iflen h; clear h; have h := g; clear g
      obtain ⟨x, y, r, t, rfl, ht, rfl⟩ := sF2_inv h
      exact lv_icmp_ne hx hb hd (jmp_some ht) (fun hp => by have k := k LS hL; simp only [hp, not_true_eq_false, not_false_eq_true, decide_true, decide_false, if_true] at k; exact k) (fun hp => by have k := k LS hL; simp only [hp, not_true_eq_false, not_false_eq_true, decide_true, decide_false, Bool.false_eq_true, if_false] at k; exact k)
    | lt =>
      obtain ⟨rfl, g⟩ := iflen h; clear h; have h := g; clear g
      obtain ⟨x, y, r, t, rfl, ht, rfl⟩ := sF2_inv h
      exact lv_icmp_lt hx hb hd (jmp_some ht) (fun hp => by have k := k LS hL; simp only [hp, not_true_eq_false, not_false_eq_true, decide_true, decide_false, if_true] at k; exact k) (fun hp => by have k := k LS hL; simp only [hp, not_true_eq_false, not_false_eq_true, decide_true, decide_false, Bool.false_eq_true, if_false] at k; exact k)
    | ge =>
      obtain ⟨rfl, g⟩ := iflen h; clear h; have h := g; clear g
      obtain ⟨x, y, r, t, rfl, ht, rfl⟩ := sF2_inv h
      exact lv_icmp_ge hx hb hd (jmp_some ht) (fun hp => by have k := k LS hL; simp only [hp, not_true_eq_false, not_false_eq_true, decide_true, decide_false, if_true] at k; exact k) (fun hp => by have k := k LS hL; simp only [hp, not_true_eq_false, not_false_eq_true, decide_true, decide_false, Bool.false_eq_true, if_false] at k; exact k)
    | gt =>
      obtain ⟨rfl, g⟩ := iflen h; clear h; have h := g; clear g
      obtain ⟨x, y, r, t, rfl, ht, rfl⟩ := sF2_inv h
      exact lv_icmp_gt hx hb hd (jmp_some ht) (fun hp => by have k := k LS hL; simp only [hp, not_true_eq_false, not_false_eq_true, decide_true, decide_false, if_true] at k; exact k) (fun hp => by have k := k LS hL; simp only [hp, not_true_eq_false, not_false_eq_true, decide_true, decide_false, Bool.false_eq_true, if_false] at k; exact k)
    | le =>
      obtain ⟨rfl, g⟩ := iflen h; clear h; have h := g; clear g
      obtain ⟨x, y, r, t, rfl, ht, rfl⟩ := sF2_inv h
      exact lv_icmp_le hx hb hd (jmp_some ht) (fun hp => by have k := k LS hL; simp only [hp, not_true_eq_false, not_false_eq_true, decide_true, decide_false, if_true] at k; exact k) (fun hp => by have k := k LS hL; simp only [hp, not_true_eq_false, not_false_eq_true, decide_true, decide_false, Bool.false_eq_true, if_false] at k; exact k)
  | ifnull off =>
    obtain ⟨rfl, g⟩ := iflen h; clear h; have h := g; clear g
    unfold sN at h
    split at h
    · cases h
      exact lv_ifnull hx hb hd (k _ hL)
    · obtain ⟨t, h1, rfl⟩ := Option.map_eq_some_iff.mp (show (jmp pc off).map (fun t => (t, ls, _)) = some q from h)
      exact lv_ifnullN hx hb hd (jmp_some h1) (k _ hL)
    · cases h
  | ifnonnull off =>
    obtain ⟨rfl, g⟩ := iflen h; clear h; have h := g; clear g
    unfold sN at h
    split at h
    · obtain ⟨t, h1, rfl⟩ := Option.map_eq_some_iff.mp (show (jmp pc off).map (fun t => (t, ls, _)) = some q from h)
      exact lv_ifnonnull hx hb hd (jmp_some h1) (k _ hL)
    · cases h
      exact lv_ifnonnullN hx hb hd (k _ hL)
    · cases h
  | if_acmp cd off =>
    cases cd with
    | eq =>
      obtain ⟨rfl, g⟩ := iflen h; clear h; have h := g; clear g
      obtain ⟨y, x, r, a, b, t, rfl, hy, hx2, ht, rfl⟩ := sA2_inv h
      rw [rfo_rf hy, rfo_rf hx2]
      exact lv_acmp_eq hx hb hd (jmp_some ht) (fun hp => by have k := k LS hL; simp only [hp, decide_true, if_true] at k; exact k) (fun hp => by have k := k LS hL; simp only [hp, decide_false, Bool.false_eq_true, if_false] at k; exact k)
    | ne =>
      obtain ⟨rfl, g⟩ := iflen h; clear h; have h := g; clear g
      obtain ⟨y, x, r, a, b, t, rfl, hy, hx2, ht, rfl⟩ := sA2_inv h
      rw [rfo_rf hy, rfo_rf hx2]
      exact lv_acmp_ne hx hb hd (jmp_some ht) (fun hp => by have k := k LS hL; simp only [hp, decide_false, if_true] at k; exact k) (fun hp => by have k := k LS hL; simp only [hp, decide_true, Bool.true_eq_false, if_false] at k; exact k)
  | goto off =>
    obtain ⟨rfl, g⟩ := iflen h; clear h; have h := g; clear g
    obtain ⟨t, h1, rfl⟩ := Option.map_eq_some_iff.mp h
    exact lv_goto hx hb hd (jmp_some h1) (k _ hL)
  | tableswitch df lo hi offs =>
    simp only [stp, sTab] at h
    split at h
    · split at h
      · obtain ⟨t, h1, rfl⟩ := Option.map_eq_some_iff.mp h
        exact lv_tableOut hx hb hd (by assumption) (jmp_some h1) (k _ hL)
      · rename_i hn
        split at h
        · obtain ⟨t, h1, rfl⟩ := Option.map_eq_some_iff.mp h
          exact lv_tableIn hx hb hd (fun z => hn (Or.inl z)) (fun z => hn (Or.inr z)) (by assumption) (jmp_some h1) (k _ hL)
        · cases h
    · cases h
  | _ => cases h
end
