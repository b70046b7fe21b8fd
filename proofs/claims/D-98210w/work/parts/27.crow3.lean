/-! OWN ROWS for the component's new arrays -/
section
variable {D : va_G} {ac : Nat → ClassId} {A : Nat → Prop}
variable {p : Program} {l : Launch} {e : Env} {R : Room} {s : State} {m : MethodId} {args : Array Value} {below : List Frame} {meth : Method} {c : Code} {H : Heap} {locs : List Loc} {cells slots : Nat} {Q : State → Prop} {cc : ByteArray} {pc : Nat} {LS : Array Slot} {rest : List Value} {σ : CM}
theorem cr_newa (hx : p.tables.exec = Jvm.exec) (hb : c.code = cc) {t : ArrayType} {kd : Nat} {n : Int32} {N : Nat} {cont : (Nat → Int32) ⊕ (Nat → Int64) ⊕ (Nat → UInt32) ⊕ (Nat → UInt64) ⊕ (Nat → Option Nat)} (harr : (Cond.arrayClass (newarray.typeOf t)).before args s = true) (hK : va_K D cCl (cTys ac) s) (hP : HP D ac A σ H) (hS : va_S A s.heap H locs) (hkd : kd < 9) (hty : newarray.typeOf t = kTy kd) (hprim : ∀ C, kTy kd ≠ .object C) (hcont : ∀ cA, vp_cell cA (N, cont) = arrV cA N (fun _ => defaultValue (kTy kd)))
    (hn : ¬ n < 0) (hN : n.toNatClampNeg = N) (hby : N * componentBytes (newarray.typeOf t) ≤ 536870912) (h1 : cells + 1 ≤ R.cells) (h2 : slots + N ≤ R.slots) (hdg : decode cc pc = .ok (.newarray t, 2))
    (kk : ∀ H1 : Heap, HP D ac A (aC σ N (.inr (kd, N, cont))) H1 → va_S A s.heap H1 locs → W p l e R s m args below meth c H1 locs (cells + 1) (slots + N) Q (F0 m (pc + 2) LS (.ref σ.1 :: rest))) : W p l e R s m args below meth c H locs cells slots Q (F0 m pc LS (.int n :: rest)) := by
  refine va_newaK hx hb harr rfl hdg rfl hn hN hby h1 h2 rfl fun H1 cA e1 z1 o1 hAr hNm => ?_
  rw [hP.1] at kk
  have hR := (hK.2 kd _ (cTys_at (by omega))).2
  have hcA : ac kd = cA := by
    rw [hty] at hNm
    have h3 : s.vm.findClass ("[" ++ (kTy kd).toString) = some (ac kd) := by
      have hR : va_RA s (ac kd) (kTy kd) := hR
      unfold va_RA at hR
      split at hR
      · exact absurd (by assumption) (hprim _)
      · exact hR
    exact Option.some.inj (h3.symm.trans hNm)
  refine kk H1 (hP.push (decide_eq_true (show kd ≠ 9 by omega)) ?_ z1 o1) ⟨Nat.le_trans hS.1 (by omega), fun x h1 h2 => (o1 x (Nat.lt_of_lt_of_le h1 hS.1)).trans (hS.2.1 x h1 h2), hS.2.2⟩
  show H1[H.size]? = some (vp_cell (ac kd) (N, cont))
  rw [e1, hcA, hcont, hty]
theorem cr_anew (hx : p.tables.exec = Jvm.exec) (hb : c.code = cc) (hts : ∀ w ∈ lw_all, w.before args s = true) (hN0 : NW s) {own C : String} {idx kd : Nat} {n : Int32} {N : Nat} (hown : s.vm.findClass own = some m.cls) (hl : Cond.classLink own idx C ∈ lw_all) (hov : Cond.arrayOver (.object C) ∈ nwl) (hK : va_K D cCl (cTys ac) s) (hP : HP D ac A σ H) (hS : va_S A s.heap H locs) (hkd : kd < 9) (hty : kTy kd = .object C)
    (hn : ¬ n < 0) (hN : n.toNatClampNeg = N) (hby : N * 4 ≤ 536870912) (h1 : cells + 1 ≤ R.cells) (h2 : slots + N ≤ R.slots) (hdg : decode cc pc = .ok (.anewarray idx, 3))
    (kk : ∀ H1 : Heap, HP D ac A (aC σ N (.inr (kd, N, .inr (.inr (.inr (.inr (fun _ => none))))))) H1 → va_S A s.heap H1 locs → W p l e R s m args below meth c H1 locs (cells + 1) (slots + N) Q (F0 m (pc + 3) LS (.ref σ.1 :: rest))) : W p l e R s m args below meth c H locs cells slots Q (F0 m pc LS (.int n :: rest)) := by
  subst hN
  refine W.anew hx hb hown (hts _ hl) (va_AO.use (hN0.1 _ hov)) rfl hdg rfl hn hby h1 h2 fun cA kA comp f1 f2 f3 f4 => ?_
  rw [hP.1] at kk
  generalize hH1 : H.push ({ cls := cA, slots := Array.replicate n.toNatClampNeg .null, vm := .none } : Cell) = H1
  have z1 : H1.size = H.size + 1 := by rw [← hH1, Array.size_push]
  have e1 : H1[H.size]? = some (arrV cA n.toNatClampNeg (fun _ => .null)) := by rw [← hH1, Array.getElem?_push_size, ← arrV_new]
  have o1 : ∀ q : Nat, q < H.size → H1[q]? = H[q]? := fun q hq => by rw [← hH1, Array.getElem?_push, if_neg (Nat.ne_of_lt hq)]
  have hR := (hK.2 kd _ (cTys_at (by omega))).2
  rw [hty] at hR
  obtain ⟨_, _, -, -, -, h4⟩ := hR
  have hcA : ac kd = cA := Option.some.inj (h4.symm.trans f1)
  refine kk H1 (hP.push (decide_eq_true (show kd ≠ 9 by omega)) ?_ z1 o1) ⟨Nat.le_trans hS.1 (by omega), fun x h1 h2 => (o1 x (Nat.lt_of_lt_of_le h1 hS.1)).trans (hS.2.1 x h1 h2), hS.2.2⟩
  show H1[H.size]? = some (vp_cell (ac kd) (n.toNatClampNeg, _))
  rw [e1, hcA, vp_cell_q]
  rfl
end
