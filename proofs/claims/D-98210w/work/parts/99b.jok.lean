/-! CALLS THAT ARE TAKEN AS ONE STEP: the machine does them so -/
def JGo (l : Launch) (D : va_G) (ac : Nat → ClassId) (A : Nat → Prop) (zs : Nat → Nat) (As : List Value) (σ : CM) (v : Option Value) (σ' : CM) (o idx tag : Nat) : Prop := ∀ (p : Program) (e : Env) (d nc ns : Nat) (s : State) (m : MethodId) (args : Array Value) (below : List Frame) (meth : Method) (c : Code) (cc : ByteArray) (H : Heap) (locs : List Loc) (cells slots : Nat) (Q : State → Prop) (pc : Nat) (LS : Array Slot) (rest : List Value),
  p.tables.exec = Jvm.exec → c.code = cc → c.maxLocals = LS.size → s.vm.findClass (oN o) = some m.cls → (∀ w ∈ lw_all, w.before args s = true) → NW s → va_K D cCl (cTys ac) s → ZW zs A s s.heap → HP D ac A σ H → va_S A s.heap H locs → catS rest ≤ 8 →
  cells + (σ'.1 - σ.1) ≤ nc → slots + (σ'.2.1 - σ.2.1) ≤ ns → decode cc pc = .ok (insO tag idx, 3) →
  (∀ (H' : Heap) (locs' : List Loc), HP D ac A σ' H' → va_S A s.heap H' locs' → W p l e (rmC d nc ns) s m args below meth c H' locs' (cells + (σ'.1 - σ.1)) (slots + (σ'.2.1 - σ.2.1)) Q (F0 m (pc + 3) LS (v.toList ++ rest))) →
  W p l e (rmC d nc ns) s m args below meth c H locs cells slots Q (F0 m pc LS (As.reverse ++ rest))
def JK (l : Launch) (D : va_G) (ac : Nat → ClassId) (A : Nat → Prop) (zs : Nat → Nat) (J : CJ) (kind : Nat) : Prop := ∀ (As : List Value) (σ : CM) (v : Option Value) (σ' : CM), J kind As σ = some (v, σ') → σ.1 ≤ σ'.1 ∧ σ.2.1 ≤ σ'.2.1 ∧
  ∀ (o idx tag n : Nat), iT o idx = some (kind, tag, n) → As.length = n → JGo l D ac A zs As σ v σ' o idx tag
theorem JOK.of {l : Launch} {D : va_G} {ac : Nat → ClassId} {A : Nat → Prop} {zs : Nat → Nat} {J : CJ} (h : ∀ kind, JK l D ac A zs J kind) : JOK l D ac A zs J := h
theorem same0 {W0 : Nat → Nat → Prop} {a b c d : Nat} (h : W0 (a + (c - c)) (b + (d - d))) : W0 a b := by
  rw [Nat.sub_self, Nat.sub_self, Nat.add_zero, Nat.add_zero] at h
  exact h
section
variable {zs : Nat → Nat} {σ : CM} {r : Option Value × CM}
theorem Jc_1 {As : List Value} (h : Jc zs 1 As σ = some r) : ∃ a, As = [.ref a] ∧ r = (none, σ) := by
  rcases As with _ | ⟨a, _ | ⟨b, t⟩⟩
  · cases h
  · cases a <;> first | (cases h; done) | exact ⟨_, rfl, (Option.some.inj h).symm⟩
  · cases a <;> cases h
theorem Jc_2 {As : List Value} (h : Jc zs 2 As σ = some r) : ∃ x y, As = [.int x, .int y] ∧ r = (some (.int (if y < x then y else x)), σ) := by
  rcases As with _ | ⟨a, _ | ⟨b, _ | ⟨c, t⟩⟩⟩
  · cases h
  · cases a <;> cases h
  · cases a <;> cases b <;> first | (cases h; done) | exact ⟨_, _, rfl, (Option.some.inj h).symm⟩
  · cases a <;> cases b <;> cases h
theorem Jc_3 {As : List Value} (h : Jc zs 3 As σ = some r) : ∃ x y, As = [.int x, .int y] ∧ r = (some (.int (if x < y then y else x)), σ) := by
  rcases As with _ | ⟨a, _ | ⟨b, _ | ⟨c, t⟩⟩⟩
  · cases h
  · cases a <;> cases h
  · cases a <;> cases b <;> first | (cases h; done) | exact ⟨_, _, rfl, (Option.some.inj h).symm⟩
  · cases a <;> cases b <;> cases h
theorem Jc_4 {As : List Value} (h : Jc zs 4 As σ = some r) : ∃ x, As = [.int x] ∧ r = (some (.int (if x < 0 then -x else x)), σ) := by
  rcases As with _ | ⟨a, _ | ⟨b, t⟩⟩
  · cases h
  · cases a <;> first | (cases h; done) | exact ⟨_, rfl, (Option.some.inj h).symm⟩
  · cases a <;> cases h
theorem Jc_5 {As : List Value} (h : Jc zs 5 As σ = some r) : ∃ x, As = [.long x] ∧ r = (some (.long (if x < 0 then -x else x)), σ) := by
  rcases As with _ | ⟨a, _ | ⟨b, t⟩⟩
  · cases h
  · cases a <;> first | (cases h; done) | exact ⟨_, rfl, (Option.some.inj h).symm⟩
  · cases a <;> cases h
theorem Jc_6 {As : List Value} (h : Jc zs 6 As σ = some r) : ∃ a b i j n, As = [.ref a, .int i, .ref b, .int j, .int n] ∧ Jcpy σ a b i j n = some r := by
  rcases As with _ | ⟨a, t⟩
  · cases h
  cases a <;> try (cases h; done)
  rcases t with _ | ⟨b, t⟩
  · cases h
  cases b <;> try (cases h; done)
  rcases t with _ | ⟨c, t⟩
  · cases h
  cases c <;> try (cases h; done)
  rcases t with _ | ⟨d, t⟩
  · cases h
  cases d <;> try (cases h; done)
  rcases t with _ | ⟨e, t⟩
  · cases h
  cases e <;> try (cases h; done)
  rcases t with _ | ⟨f, t⟩
  · exact ⟨_, _, _, _, _, rfl, h⟩
  · cases h
end
section
variable {l : Launch} {D : va_G} {ac : Nat → ClassId} {A : Nat → Prop} {zs : Nat → Nat}
theorem J1 : JK l D ac A zs (Jc zs) 1 := by
  intro As σ v σ' h
  obtain ⟨a, rfl, h⟩ := Jc_1 h
  cases h
  refine ⟨Nat.le_refl _, Nat.le_refl _, fun o idx tag n hi hn => ?_⟩
  obtain ⟨hl, hs⟩ := il_ok hi
  cases hs
  intro p e d nc ns s m args below meth c cc H locs cells slots Q pc LS rest hx hb hml hown hts hN hK hZ hP hS hcat hc1 hc2 hd kk
  have hcat : (rest.map fun v => v.category).sum ≤ 8 := hcat
  refine W.objInit hx hb hown (hts _ hl) (hts _ qj_oi) (hts _ qj_oc) (g := F0 m pc LS (.ref a :: rest)) rfl hml.symm rfl hd (by show 1 ≤ d + 8; omega) (by show 2 * 0 + _ + 12 ≤ 64 * (d + 8); omega) ?_
  exact same0 (W0 := fun a b => W p l e (rmC d nc ns) s m args below meth c H locs a b Q (F0 m (pc + 3) LS rest)) (kk H locs hP hS)
theorem J2 : JK l D ac A zs (Jc zs) 2 := by
  intro As σ v σ' h
  obtain ⟨x, y, rfl, h⟩ := Jc_2 h
  cases h
  refine ⟨Nat.le_refl _, Nat.le_refl _, fun o idx tag n hi hn => ?_⟩
  obtain ⟨hl, hs⟩ := il_ok hi
  cases hs
  intro p e d nc ns s m args below meth c cc H locs cells slots Q pc LS rest hx hb hml hown hts hN hK hZ hP hS hcat hc1 hc2 hd kk
  have hcat : (rest.map fun v => v.category).sum ≤ 8 := hcat
  refine va_mmin (rest := rest) hx hb hml hown (hts _ hl) (hts _ qj_ns) (hts _ qj_mi) (hts _ qj_nc) (by show 1 ≤ d + 8; omega) (by show _ + 13 ≤ 64 * (d + 8); omega) (by show cells ≤ nc; omega) (by show slots ≤ ns; omega) hd ?_
  exact same0 (W0 := fun a b => W p l e (rmC d nc ns) s m args below meth c H locs a b Q (F0 m (pc + 3) LS (.int (if y < x then y else x) :: rest))) (kk H locs hP hS)
theorem J3 : JK l D ac A zs (Jc zs) 3 := by
  intro As σ v σ' h
  obtain ⟨x, y, rfl, h⟩ := Jc_3 h
  cases h
  refine ⟨Nat.le_refl _, Nat.le_refl _, fun o idx tag n hi hn => ?_⟩
  obtain ⟨hl, hs⟩ := il_ok hi
  cases hs
  intro p e d nc ns s m args below meth c cc H locs cells slots Q pc LS rest hx hb hml hown hts hN hK hZ hP hS hcat hc1 hc2 hd kk
  have hcat : (rest.map fun v => v.category).sum ≤ 8 := hcat
  refine va_mmax (rest := rest) hx hb hml hown (hts _ hl) (hts _ qj_xs) (hts _ qj_mi) (hts _ qj_xc) (by show 1 ≤ d + 8; omega) (by show _ + 13 ≤ 64 * (d + 8); omega) (by show cells ≤ nc; omega) (by show slots ≤ ns; omega) hd ?_
  exact same0 (W0 := fun a b => W p l e (rmC d nc ns) s m args below meth c H locs a b Q (F0 m (pc + 3) LS (.int (if x < y then y else x) :: rest))) (kk H locs hP hS)
theorem absI (x : Int32) : (if 0 ≤ x then x else 0 - x) = (if x < 0 then -x else x) := by
  by_cases h : x < 0
  · rw [if_pos h, if_neg (Int32.not_le.mpr h), Int32.zero_sub]
  · rw [if_neg h, if_pos (Int32.not_lt.mp h)]
theorem absL (x : Int64) : (if 0 < x then x else -x) = (if x < 0 then -x else x) := by
  by_cases h : x < 0
  · rw [if_pos h, if_neg (Int64.not_lt.mpr (Int64.le_of_lt h))]
  · rw [if_neg h]
    by_cases h2 : 0 < x
    · rw [if_pos h2]
    · rw [if_neg h2]
      have : x = 0 := Int64.le_antisymm (Int64.not_lt.mp h2) (Int64.not_lt.mp h)
      rw [this]
      rfl
theorem J4 : JK l D ac A zs (Jc zs) 4 := by
  intro As σ v σ' h
  obtain ⟨x, rfl, h⟩ := Jc_4 h
  cases h
  refine ⟨Nat.le_refl _, Nat.le_refl _, fun o idx tag n hi hn => ?_⟩
  obtain ⟨hl, hs⟩ := il_ok hi
  cases hs
  intro p e d nc ns s m args below meth c cc H locs cells slots Q pc LS rest hx hb hml hown hts hN hK hZ hP hS hcat hc1 hc2 hd kk
  have hcat : (rest.map fun v => v.category).sum ≤ 8 := hcat
  refine va_mabs (rest := rest) hx hb hml hown (hts _ hl) (hts _ qj_as) (hts _ qj_mi) (hts _ qj_ac) (by show 1 ≤ d + 8; omega) (by show _ + 13 ≤ 64 * (d + 8); omega) (by show cells ≤ nc; omega) (by show slots ≤ ns; omega) hd ?_
  rw [absI]
  exact same0 (W0 := fun a b => W p l e (rmC d nc ns) s m args below meth c H locs a b Q (F0 m (pc + 3) LS (.int (if x < 0 then -x else x) :: rest))) (kk H locs hP hS)
theorem J5 : JK l D ac A zs (Jc zs) 5 := by
  intro As σ v σ' h
  obtain ⟨x, rfl, h⟩ := Jc_5 h
  cases h
  refine ⟨Nat.le_refl _, Nat.le_refl _, fun o idx tag n hi hn => ?_⟩
  obtain ⟨hl, hs⟩ := il_ok hi
  cases hs
  intro p e d nc ns s m args below meth c cc H locs cells slots Q pc LS rest hx hb hml hown hts hN hK hZ hP hS hcat hc1 hc2 hd kk
  have hcat : (rest.map fun v => v.category).sum ≤ 8 := hcat
  refine va_mabs_long (rest := rest) hx hb hml hown (hts _ hl) (hts _ qj_ls) (hts _ qj_mi) (hts _ qj_lc) (by show 1 ≤ d + 8; omega) (by show _ + 13 ≤ 64 * (d + 8); omega) (by show cells ≤ nc; omega) (by show slots ≤ ns; omega) hd ?_
  rw [absL]
  exact same0 (W0 := fun a b => W p l e (rmC d nc ns) s m args below meth c H locs a b Q (F0 m (pc + 3) LS (.long (if x < 0 then -x else x) :: rest))) (kk H locs hP hS)
end
section
variable {p : Program} {l : Launch} {e : Env} {R : Room} {s : State} {m : MethodId} {args : Array Value} {below : List Frame} {meth : Method} {c : Code} {H : Heap} {locs : List Loc} {cells slots : Nat} {Q : State → Prop} {cc : ByteArray} {pc : Nat} {LS : Array Slot} {rest : List Value} {D : va_G} {A : Nat → Prop} {ac : Nat → ClassId} {σ : CM}
theorem clampI {z : Int32} (hz : ¬ z < 0) : z.toInt = (z.toNatClampNeg : Int) := by
  have hz0 : (0 : Int) ≤ z.toInt := by
    have := Int32.not_lt.mp hz
    simpa using Int32.le_iff_toInt_le.mp this
  show z.toInt = ((z.toInt.toNat : Nat) : Int)
  omega
/-- System.arraycopy of ints -/
theorem cr_copyI (hx : p.tables.exec = Jvm.exec) (hb : c.code = cc) (hml : c.maxLocals = LS.size) {own : String} {index : Nat} (hown : s.vm.findClass own = some m.cls) (hlink : (Cond.methodLink own index arraycopyName).before args s = true) (hts : ∀ w ∈ lw_all, w.before args s = true) (hK : va_K D cCl (cTys ac) s) (hP : HP D ac A σ H) (hS : va_S A s.heap H locs) {a b n0 n1 : Nat} {f g : Nat → Int32} (ha : gC σ a = some (.inr (0, n0, .inl f))) (hb2 : gC σ b = some (.inr (0, n1, .inl g)))
    {sp dp n : Int32} (h1 : ¬ sp < 0) (h2 : ¬ dp < 0) (h3 : ¬ n < 0) (h4 : sp.toNatClampNeg + n.toNatClampNeg ≤ n0) (h5 : dp.toNatClampNeg + n.toNatClampNeg ≤ n1) (hframes : 1 ≤ R.frames) (hlocals : (rest.map fun v => v.category).sum + (nativeFrameWords "java/lang/System" "arraycopy" 5 + 11) ≤ R.locals) (hdg : decode cc pc = .ok (.invokestatic index, 3))
    (kk : ∀ (H1 : Heap) (locs1 : List Loc), HP D ac A (pC σ b (.inr (0, n1, .inl (cpF f g sp.toNatClampNeg dp.toNatClampNeg n.toNatClampNeg)))) H1 → va_S A s.heap H1 locs1 → W p l e R s m args below meth c H1 locs1 cells slots Q (F0 m (pc + 3) LS rest)) : W p l e R s m args below meth c H locs cells slots Q (F0 m pc LS (.int n :: .int dp :: .ref b :: .int sp :: .ref a :: rest)) := by
  intro T hT X
  have hc0 : H[a]? = some (vp_cell (ac 0) (n0, .inl f)) := (hP.at ha (nz_k (by decide))).1
  have hc1 : H[b]? = some (vp_cell (ac 0) (n1, .inl g)) := (hP.at hb2 (nz_k (by decide))).1
  have hA : A b := (hP.at hb2 (nz_k (by decide))).2.1 rfl
  obtain ⟨-, k0, hk0, cm0, hkk0⟩ := (hK.2 0 _ (cTys_at (by decide))).1 n0 (fun j => .int (f j))
  obtain ⟨-, k1, hk1, cm1, hkk1⟩ := (hK.2 0 _ (cTys_at (by decide))).1 n1 (fun j => .int (g j))
  obtain ⟨vm', X', step⟩ := X.arraycopy hx hown hlink (hts _ qj_cn) (hts _ qj_cs) (hts _ qj_si) (src := a) (dst := b) (cs := vp_cell (ac 0) (n0, .inl f)) (cd := vp_cell (ac 0) (n1, .inl g)) (srcPos := sp) (destPos := dp) (n := n) (by rw [hT]; exact hc0) (by rw [hT]; exact hc1)
    (fun _ h => by cases h) (fun _ h => by cases h) (fun h => by cases h) (fun h => by cases h) hk0 hk1 hkk0 hkk1 (by simp) h1 h2 h3
    (by rw [clampI h1, clampI h3]; show ¬ _ > ((arrV (ac 0) n0 (fun j => .int (f j))).slots.size : Int); rw [arrV_size]; omega)
    (by rw [clampI h2, clampI h3]; show ¬ _ > ((arrV (ac 0) n1 (fun j => .int (g j))).slots.size : Int); rw [arrV_size]; omega)
    (fun vm₁ _ i hi => by
      have e : (vp_cell (ac 0) (n0, .inl f)).slots.getD (sp.toNatClampNeg + i) .null = .int (f (sp.toNatClampNeg + i)) := by
        show (arrV (ac 0) n0 (fun j => .int (f j))).slots.getD _ _ = _
        rw [Array.getD_eq_getD_getElem?, arrV_read _ _ (by omega)]
        rfl
      rw [e]
      exact ⟨rfl, trivial⟩)
    (g := F0 m pc LS (.int n :: .int dp :: .ref b :: .int sp :: .ref a :: rest)) rfl (by rw [hml]) (rest := rest) rfl (by rw [hb]; exact hdg) hframes (by show 2 * 0 + _ + _ ≤ _; omega)
  have e1 : copied (vp_cell (ac 0) (n0, .inl f)) (vp_cell (ac 0) (n1, .inl g)) sp dp n = vp_cell (ac 0) (n1, .inl (va_cpy f g sp.toNatClampNeg dp.toNatClampNeg n.toNatClampNeg)) := va_copied (fun z => .int z) (ac 0) (ac 0) f g h4
  rw [e1] at X' step
  have hl : b < H.size := (Array.getElem?_eq_some_iff.mp hc1).1
  have hheap : ((T.setVm vm').setCell b (vp_cell (ac 0) (n1, .inl (va_cpy f g sp.toNatClampNeg dp.toNatClampNeg n.toNatClampNeg)))).heap = H.setIfInBounds b (vp_cell (ac 0) (n1, .inl (va_cpy f g sp.toNatClampNeg dp.toNatClampNeg n.toNatClampNeg))) := by rw [← hT]; rfl
  have oq : ∀ q : Nat, q ≠ b → (H.setIfInBounds b (vp_cell (ac 0) (n1, .inl (va_cpy f g sp.toNatClampNeg dp.toNatClampNeg n.toNatClampNeg))))[q]? = H[q]? := fun q hq => by simp [Array.getElem?_setIfInBounds, Ne.symm hq]
  obtain ⟨t, a1, b1⟩ := kk _ _ (hP.set hb2 rfl (show (H.setIfInBounds b _)[b]? = some _ by simp [Array.getElem?_setIfInBounds, hl]; rfl) (by simp) oq (hn := nz_k (by decide))) ⟨by simp; exact hS.1, fun q g1 g2 => by
      rw [oq q (fun e => g2 (by rw [e]; exact hA))]
      exact hS.2.1 q g1 g2, fun q hq => by
      rcases List.mem_append.mp hq with h | h
      · exact hS.2.2 q h
      · obtain ⟨z, -, hz⟩ := List.mem_map.mp h
        rw [← hz]
        exact hA⟩ _ hheap X'
  exact ⟨t, step t a1, b1⟩
theorem elB_any (hN : NW s) (hK : va_K D cCl (cTys ac) s) (hP : HP D ac A σ H) {f : Nat → Option Nat} {i0 n : Nat} (h : elB σ f i0 n = true) {j y : Nat} (hj : j < n) (hy : f (i0 + j) = some y) : va_Any "java/lang/Object" s H y := by
  unfold elB at h
  rw [List.all_eq_true] at h
  have h := h j (List.mem_range.mpr hj)
  rw [hy] at h
  dsimp only at h
  split at h
  · rename_i o hg
    obtain ⟨ci, fs⟩ := o
    obtain ⟨q, hc, -⟩ := hP.obj hg
    exact any_obj hN hK hP hg (Or.inr (cast_obj ci q hc))
  · rename_i kd x hg
    have hk : kd = 0 := of_decide_eq_true h
    subst hk
    exact any_arr hN hK hP hg
  · cases h
end
