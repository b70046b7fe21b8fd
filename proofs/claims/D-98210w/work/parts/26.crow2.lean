/-! OWN ROWS for the component's arrays -/
section
variable {D : va_G} {ac : Nat → ClassId} {A : Nat → Prop}
variable {p : Program} {l : Launch} {e : Env} {R : Room} {s : State} {m : MethodId} {args : Array Value} {below : List Frame} {meth : Method} {c : Code} {H : Heap} {locs : List Loc} {cells slots : Nat} {Q : State → Prop} {cc : ByteArray} {pc : Nat} {LS : Array Slot} {rest : List Value} {σ : CM}
theorem cr_iast (hx : p.tables.exec = Jvm.exec) (hb : c.code = cc) (hK : va_K D cCl (cTys ac) s) (hP : HP D ac A σ H) (hS : va_S A s.heap H locs) {a n : Nat} {f : Nat → Int32} {i x : Int32} (ha : gC σ a = some (.inr (0, n, .inl f))) (hin : vp_in i n) (hdg : decode cc pc = .ok (.iastore, 1))
    (kk : ∀ (H1 : Heap) (locs1 : List Loc), HP D ac A (pC σ a (.inr (0, n, .inl (upd f i.toNatClampNeg x)))) H1 → va_S A s.heap H1 locs1 → W p l e R s m args below meth c H1 locs1 cells slots Q (F0 m (pc + 1) LS rest)) : W p l e R s m args below meth c H locs cells slots Q (F0 m pc LS (.int x :: .int i :: .ref a :: rest)) := by
  obtain ⟨hat, hA, -⟩ := hP.at ha (nz_i hin)
  refine W.iast hx hb hat ((hK.2 0 _ (cTys_at (by decide))).1 n (fun j => .int (f j))) (fun q => by cases q) (by show ¬ (i < 0 ∨ (arrV _ _ _).slots.size ≤ _); rw [arrV_size]; exact hin) rfl rfl hdg fun H1 e z oq => ?_
  refine kk H1 _ (hP.set ha rfl ?_ z oq (hn := nz_i hin)) (hS.put z oq (hA rfl))
  show H1[a]? = some (vp_cell _ _)
  rw [e]
  rw [vp_cell_i, vp_cell_i, arrV_store]
  congr 2
  funext q
  by_cases hq : q = i.toNatClampNeg
  · subst hq
    simp [updV, upd]
  · simp [updV, upd, hq]
theorem cr_zast (hx : p.tables.exec = Jvm.exec) (hb : c.code = cc) (hK : va_K D cCl (cTys ac) s) (hP : HP D ac A σ H) (hS : va_S A s.heap H locs) {a n : Nat} {f : Nat → Int32} {i x : Int32} (ha : gC σ a = some (.inr (1, n, .inl f))) (hin : vp_in i n) (h01 : x = 0 ∨ x = 1) (hdg : decode cc pc = .ok (.bastore, 1))
    (kk : ∀ (H1 : Heap) (locs1 : List Loc), HP D ac A (pC σ a (.inr (1, n, .inl (upd f i.toNatClampNeg x)))) H1 → va_S A s.heap H1 locs1 → W p l e R s m args below meth c H1 locs1 cells slots Q (F0 m (pc + 1) LS rest)) : W p l e R s m args below meth c H locs cells slots Q (F0 m pc LS (.int x :: .int i :: .ref a :: rest)) := by
  obtain ⟨hat, hA, -⟩ := hP.at ha (nz_i hin)
  refine W.zast hx hb hat ((hK.2 1 _ (cTys_at (by decide))).1 n (fun j => .int (f j))) (fun q => by cases q) (by show ¬ (i < 0 ∨ (arrV _ _ _).slots.size ≤ _); rw [arrV_size]; exact hin) rfl rfl hdg fun H1 e z oq => ?_
  refine kk H1 _ (hP.set ha rfl ?_ z oq (hn := nz_i hin)) (hS.put z oq (hA rfl))
  show H1[a]? = some (vp_cell _ _)
  rw [e]
  rw [(nar_bool h01).1]
  rw [vp_cell_i, vp_cell_i, arrV_store]
  congr 2
  funext q
  by_cases hq : q = i.toNatClampNeg
  · subst hq
    simp [updV, upd]
  · simp [updV, upd, hq]
theorem cr_last (hx : p.tables.exec = Jvm.exec) (hb : c.code = cc) (hK : va_K D cCl (cTys ac) s) (hP : HP D ac A σ H) (hS : va_S A s.heap H locs) {a n : Nat} {f : Nat → Int64} {i : Int32} {x : Int64} (ha : gC σ a = some (.inr (2, n, .inr (.inl f)))) (hin : vp_in i n) (hdg : decode cc pc = .ok (.lastore, 1))
    (kk : ∀ (H1 : Heap) (locs1 : List Loc), HP D ac A (pC σ a (.inr (2, n, .inr (.inl (vp_updL f i.toNatClampNeg x))))) H1 → va_S A s.heap H1 locs1 → W p l e R s m args below meth c H1 locs1 cells slots Q (F0 m (pc + 1) LS rest)) : W p l e R s m args below meth c H locs cells slots Q (F0 m pc LS (.long x :: .int i :: .ref a :: rest)) := by
  obtain ⟨hat, hA, -⟩ := hP.at ha (nz_i hin)
  refine W.last hx hb hat ((hK.2 2 _ (cTys_at (by decide))).1 n (fun j => .long (f j))) (fun q => by cases q) (by show ¬ (i < 0 ∨ (arrV _ _ _).slots.size ≤ _); rw [arrV_size]; exact hin) rfl rfl hdg fun H1 e z oq => ?_
  refine kk H1 _ (hP.set ha rfl ?_ z oq (hn := nz_i hin)) (hS.put z oq (hA rfl))
  show H1[a]? = some (vp_cell _ _)
  rw [e]
  rw [vp_cell_l, vp_cell_l, arrV_store]
  congr 2
  funext q
  by_cases hq : q = i.toNatClampNeg
  · subst hq
    simp [updV, vp_updL]
  · simp [updV, vp_updL, hq]
/-- a reference into an array of references -/
theorem cr_astR (hx : p.tables.exec = Jvm.exec) (hb : c.code = cc) (hK : va_K D cCl (cTys ac) s) (hP : HP D ac A σ H) (hS : va_S A s.heap H locs) {kd a n v : Nat} {f : Nat → Option Nat} {i : Int32} {E : String} (ha : gC σ a = some (.inr (kd, n, .inr (.inr (.inr (.inr f)))))) (hkd : kd < 9) (hty : kTy kd = .object E) (hr : va_Any E s H v) (hin : vp_in i n) (hdg : decode cc pc = .ok (.aastore, 1))
    (kk : ∀ (H1 : Heap) (locs1 : List Loc), HP D ac A (pC σ a (.inr (kd, n, .inr (.inr (.inr (.inr (va_up f i.toNatClampNeg (some v)))))))) H1 → va_S A s.heap H1 locs1 → W p l e R s m args below meth c H1 locs1 cells slots Q (F0 m (pc + 1) LS rest)) : W p l e R s m args below meth c H locs cells slots Q (F0 m pc LS (.ref v :: .int i :: .ref a :: rest)) := by
  obtain ⟨hat, hA, -⟩ := hP.at ha (nz_i hin)
  have hlt : i.toNatClampNeg < n := Nat.not_le.mp fun q => hin (Or.inr q)
  have h0 : ¬ i < 0 := fun q => hin (Or.inl q)
  obtain ⟨cellV, g1, g3, ⟨kC, hkC⟩, hasg⟩ := hr
  have hT := (hK.2 kd _ (cTys_at (by omega))).2
  rw [hty] at hT
  obtain ⟨kA, comp, k1, k2, k3, -⟩ := hT
  obtain ⟨kE, hkE, -⟩ := Vm.findClass_spec k3
  refine W.aast hx hb hat (fun q h => by cases h) (fun h => by cases h) k1 k2 rfl hkE ⟨h0, by show _ < (arrV _ _ _).slots.size; rw [arrV_size]; exact hlt⟩ g1 (fun q h => by rw [h] at g3; cases g3) hkC (hasg _ k3) rfl rfl hdg fun H1 e z oq => ?_
  refine kk H1 _ (hP.set ha rfl ?_ z oq (hn := nz_i hin)) (hS.put z oq (hA (decide_eq_true (show kd ≠ 9 by omega))))
  show H1[a]? = some (vp_cell _ _)
  rw [e]
  rw [vp_cell_q, vp_cell_q, arrV_store]
  congr 2
  funext q
  by_cases hq : q = i.toNatClampNeg
  · subst hq
    simp [updV, va_up, va_rf]
  · simp [updV, va_up, hq]
theorem cr_astN (hx : p.tables.exec = Jvm.exec) (hb : c.code = cc) (hK : va_K D cCl (cTys ac) s) (hP : HP D ac A σ H) (hS : va_S A s.heap H locs) {kd a n : Nat} {f : Nat → Option Nat} {i : Int32} {E : String} (ha : gC σ a = some (.inr (kd, n, .inr (.inr (.inr (.inr f)))))) (hkd : kd < 9) (hty : kTy kd = .object E) (hin : vp_in i n) (hdg : decode cc pc = .ok (.aastore, 1))
    (kk : ∀ (H1 : Heap) (locs1 : List Loc), HP D ac A (pC σ a (.inr (kd, n, .inr (.inr (.inr (.inr (va_up f i.toNatClampNeg none))))))) H1 → va_S A s.heap H1 locs1 → W p l e R s m args below meth c H1 locs1 cells slots Q (F0 m (pc + 1) LS rest)) : W p l e R s m args below meth c H locs cells slots Q (F0 m pc LS (.null :: .int i :: .ref a :: rest)) := by
  obtain ⟨hat, hA, -⟩ := hP.at ha (nz_i hin)
  have hT := (hK.2 kd _ (cTys_at (by omega))).1
  rw [hty] at hT
  have hat : H[a]? = some (vp_cell (ac kd) (n, .inr (.inr (.inr (.inr f))))) := hat
  rw [vp_cell_q] at hat
  refine va_WaastN hx hb hat (hT n _) (fun q => by cases q) (by rw [arrV_size]; exact hin) rfl rfl hdg fun H1 e z oq => ?_
  refine kk H1 _ (hP.set ha rfl ?_ z oq (hn := nz_i hin)) (hS.put z oq (hA (decide_eq_true (show kd ≠ 9 by omega))))
  show H1[a]? = some (vp_cell _ _)
  rw [e]
  rw [vp_cell_q, arrV_store]
  congr 2
  funext q
  by_cases hq : q = i.toNatClampNeg
  · subst hq
    simp [updV, va_up, va_rf]
  · simp [updV, va_up, hq]
/-- a new object -/
theorem cr_new (hx : p.tables.exec = Jvm.exec) (hb : c.code = cc) (hts : ∀ w ∈ lw_all, w.before args s = true) {own : String} {idx ci : Nat} (hown : s.vm.findClass own = some m.cls) (hK : va_K D cCl (cTys ac) s) (hP : HP D ac A σ H) (hS : va_S A s.heap H locs) (hl : Cond.classLink own idx (cNm ci) ∈ lw_all) (hci : (cCl[ci]?).isSome = true) (hw : ci ≠ 39) (h1 : cells + 1 ≤ R.cells) (h2 : slots + cSz ci ≤ R.slots) (hdg : decode cc pc = .ok (.new idx, 3))
    (kk : ∀ H1 : Heap, HP D ac A (aC σ (cSz ci) (.inl (ci, cDf ci))) H1 → va_S A s.heap H1 locs → W p l e R s m args below meth c H1 locs (cells + 1) (slots + cSz ci) Q (F0 m (pc + 3) LS (.ref σ.1 :: rest))) : W p l e R s m args below meth c H locs cells slots Q (F0 m pc LS rest) := by
  obtain ⟨q, hc⟩ := Option.isSome_iff_exists.mp hci
  obtain ⟨C, T, N⟩ := q
  have hg := getD_some hc
  have hnm : cNm ci = C := by unfold cNm; rw [hg]
  rw [hnm] at hl
  obtain ⟨hin, hty, -, hins, hini, -⟩ := cCl_ok ci _ hc
  have hKn := hK.1 ci _ hc
  refine W.newcK hx hb hown (hts _ hl) (hts _ hins) (hts _ hini) rfl hdg h1 h2 hKn.2.1 rfl fun H1 kC hkC e1 z1 o1 => ?_
  rw [hP.1] at kk
  refine kk H1 (hP.push (decide_eq_true hw) ⟨_, hc, ?_⟩ z1 o1 (fun _ cell9 hc9 => (by rw [e1] at hc9; cases hc9; exact ⟨rfl, rfl⟩))) ⟨Nat.le_trans hS.1 (by omega), fun x h1 h2 => (o1 x (Nat.lt_of_lt_of_le h1 hS.1)).trans (hS.2.1 x h1 h2), hS.2.2⟩
  refine (u_born (cTy ci) hts hin hKn hkC e1 hty).to (fun j hj => ?_)
  have hj : j < N := hj
  unfold cDf vp_V
  rw [hg, List.getD_eq_getElem?_getD, List.getElem?_map, List.getElem?_range hj]
  rfl
end
