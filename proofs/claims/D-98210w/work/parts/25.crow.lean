/-! OWN ROWS for the component's heap: fields apart by class and name; putfield -/
theorem fc_name {vm : Vm} {name : String} {c : ClassId} (h : vm.findClass name = some c) : ∃ k, vm.classes[c]? = some k ∧ k.name = name := by
  unfold Vm.findClass at h
  obtain ⟨hlt, hp, -⟩ := Array.findIdx?_eq_some_iff_getElem.mp h
  refine ⟨vm.classes[c], Array.getElem?_eq_getElem hlt, ?_⟩
  simp only [Bool.and_eq_true, beq_iff_eq] at hp
  exact hp.1.1.1
section
variable {D : va_G} {ac : Nat → ClassId} {A : Nat → Prop}
variable {p : Program} {l : Launch} {e : Env} {R : Room} {s : State} {m : MethodId} {args : Array Value} {below : List Frame} {meth : Method} {c : Code} {H : Heap} {locs : List Loc} {cells slots : Nat} {Q : State → Prop} {cc : ByteArray} {pc : Nat} {LS : Array Slot} {rest : List Value} {σ : CM}
/-- two final fields of two classes lie apart -/
theorem u_apartF {C O f d O' f' d' : String} (h : (Cond.laysFinal C O f d).before args s = true) (h' : (Cond.laysFinal C O' f' d').before args s = true)
    {cf kf fi fd cf' kf' fi' fd'} (hi : s.fieldFound? O f d = some (cf, kf, fi, fd)) (hi' : s.fieldFound? O' f' d' = some (cf', kf', fi', fd')) (hne : O ≠ O') : fd.slot ≠ fd'.slot := by
  obtain ⟨c1, k1, c1', k1', i1, f1, a1, -, a3, -, -, -, a7, -, d1, b1, b2, -⟩ := Cond.laysFinal_spec h
  obtain ⟨c2, k2, c2', k2', i2, f2, e1, -, e3, -, -, -, e7, -, d2, g1, g2, -⟩ := Cond.laysFinal_spec h'
  cases a3.symm.trans hi
  cases e3.symm.trans hi'
  cases a1.symm.trans e1
  intro hs
  rw [hs] at b1
  cases b1.symm.trans g1
  have n1 := State.fieldFound?_class hi
  have n2 := State.fieldFound?_class hi'
  obtain ⟨x1, y1, z1⟩ := fc_name a7
  obtain ⟨x2, y2, z2⟩ := fc_name e7
  cases n1.symm.trans y1
  cases n2.symm.trans y2
  exact hne (by rw [← z1, ← z2, ← b2, g2])
theorem c_apart (hts : ∀ w ∈ lw_all, w.before args s = true) (hK : va_K D cCl (cTys ac) s) {ci : Nat} {q : vw_C} (hc : cCl[ci]? = some q) (hF : ∀ a, a < q.2.2 → ∀ b, b < q.2.2 → a ≠ b → (q.2.1 a).2.1 = (q.2.1 b).2.1 → (q.2.1 a).2.2.2 = true ∧ (q.2.1 b).2.2.2 = true) : ∀ x y, x < q.2.2 → y < q.2.2 → x ≠ y → (D.2 ci) x ≠ (D.2 ci) y := by
  intro x y hx hy hne
  obtain ⟨C, T, N⟩ := q
  obtain ⟨hin, hty, hnm, -⟩ := cCl_ok ci _ hc
  obtain ⟨hS, -⟩ := hK.1 ci _ hc
  obtain ⟨_, _, _, fa, hia, ea⟩ := hS x hx
  obtain ⟨_, _, _, fb, hib, eb⟩ := hS y hy
  rw [← ea, ← eb]
  by_cases hn : (T x).2.1 = (T y).2.1
  · have hO := (hnm x hx y hy hne).resolve_left (fun z => z hn)
    obtain ⟨f1, f2⟩ := hF x hx y hy hne hn
    have w1 := hts _ (hin _ (u_in_lay hx))
    have w2 := hts _ (hin _ (u_in_lay hy))
    unfold u_lay at w1 w2
    rw [if_pos f1] at w1
    rw [if_pos f2] at w2
    exact u_apartF w1 w2 hia hib hO
  · refine u_apart (u_lays hts hin hx) (u_lays hts hin hy) hia hib ?_
    rw [(State.fieldFound?_type hia (hty x hx)).1, (State.fieldFound?_type hib (hty y hy)).1]
    exact hn
/-- fields of one name are final -/
def finB (q : vw_C) : Bool := (List.range q.2.2).all (fun a => (List.range q.2.2).all (fun b => decide (a = b) || !decide ((q.2.1 a).2.1 = (q.2.1 b).2.1) || ((q.2.1 a).2.2.2 && (q.2.1 b).2.2.2)))
theorem cCl_finB : cCl.all finB = true := by decide +kernel
theorem cCl_fin {ci : Nat} {q : vw_C} (hc : cCl[ci]? = some q) : ∀ a, a < q.2.2 → ∀ b, b < q.2.2 → a ≠ b → (q.2.1 a).2.1 = (q.2.1 b).2.1 → (q.2.1 a).2.2.2 = true ∧ (q.2.1 b).2.2.2 = true := by
  intro a ha b hb hne hn
  have h1 := List.all_eq_true.mp cCl_finB q (List.mem_of_getElem? hc)
  have h2 := List.all_eq_true.mp (List.all_eq_true.mp h1 a (List.mem_range.mpr ha)) b (List.mem_range.mpr hb)
  simp only [Bool.or_eq_true, decide_eq_true_eq, Bool.not_eq_true', decide_eq_false_iff_not, Bool.and_eq_true] at h2
  rcases h2 with (h | h) | h
  · exact absurd h hne
  · exact absurd hn h
  · exact h
theorem getD_some {ci : Nat} {q : vw_C} (hc : cCl[ci]? = some q) : cCl.getD ci ("", (fun _ => ("", "", "", false)), 0) = q := by
  rw [List.getD_eq_getElem?_getD, hc]
  rfl
/-- putfield, by what the tables say of the link -/
theorem cr_put (hx : p.tables.exec = Jvm.exec) (hb : c.code = cc) (hts : ∀ w ∈ lw_all, w.before args s = true) (hN : NW s) {own : String} {idx ci k a : Nat} {fs : List Value} {v : Value} (hown : s.vm.findClass own = some m.cls) (hK : va_K D cCl (cTys ac) s) (hP : HP D ac A σ H) (hS : va_S A s.heap H locs) (ha : gC σ a = some (.inl (ci, fs))) (hw : ci ≠ 39) (hf : FOK own idx ci k) (hl : k < fs.length) (hv : okV (cTy ci k) v = true) (hfin : (cTk ci k).2.2.2 = false ∨ (meth.name = "<init>" ∧ own = (cTk ci k).1)) (hdg : decode cc pc = .ok (.putfield idx, 3))
    (kk : ∀ (H1 : Heap) (locs1 : List Loc), HP D ac A (pC σ a (.inl (ci, fs.set k v))) H1 → va_S A s.heap H1 locs1 → W p l e R s m args below meth c H1 locs1 cells slots Q (F0 m (pc + 3) LS rest)) : W p l e R s m args below meth c H locs cells slots Q (F0 m pc LS (v :: .ref a :: rest)) := by
  obtain ⟨hat, hA, -, hmo⟩ := hP.at ha (decide_eq_true hw)
  have hwr : wrt (.inl (ci, fs)) = true := decide_eq_true hw
  obtain ⟨q, hc, cell, q1, q2, q3, q4⟩ := hat
  obtain ⟨C, T, N⟩ := q
  have hg := getD_some hc
  obtain ⟨hkN, ref, hlk, hsm⟩ := hf
  unfold cTk at hlk hsm hfin
  rw [hg] at hkN hlk hsm hfin
  obtain ⟨hin, hty, -, -⟩ := cCl_ok ci _ hc
  have hap := c_apart hts hK hc (cCl_fin hc)
  obtain ⟨hSl, hfc, kC, hkC, hkind⟩ := hK.1 ci _ hc
  obtain ⟨cf, kf, fi, f, hi, hsl⟩ := hSl k hkN
  have hst := (u_facts hfc hkC (u_lays hts hin hkN) hi).1
  have hsame : s.fieldFound? ref (T k).2.1 (T k).2.2.1 = some (cf, kf, fi, f) := by
    rcases hsm with e | e
    · rw [e]; exact hi
    · exact u_same (hts _ e) _ hi
  have fin : ∀ (H1 : Heap) (locs1 : List Loc), H1[a]? = some (cell.setSlot f.slot v) → H1.size = H.size → (∀ q, q ≠ a → H1[q]? = H[q]?) → W p l e R s m args below meth c H1 (locs ++ [⟨a, f.slot⟩]) cells slots Q (F0 m (pc + 3) LS rest) := by
    intro H1 _ e1 e2 e3
    refine kk H1 _ (hP.set ha rfl ?_ e2 e3 (fun h cell9 hc9 => (by rw [e1] at hc9; cases hc9; exact hmo h cell q1)) (decide_eq_true hw)) (hS.put e2 e3 (hA hwr))
    rw [hsl] at e1
    exact ⟨_, hc, t_OB.to (V := updV (vp_V fs) k v) ⟨_, e1, q2, q3, t_set q4 hap hkN v⟩ (fun j _ => vp_updV_set hl v j)⟩
  have hlt : f.slot < cell.slots.size := by rw [hsl]; exact k2_hasslot (q4 k hkN)
  have hlay := hts _ (hin _ (u_in_lay hkN))
  unfold u_lay at hlay
  rcases hlk with h1 | ⟨host, h1, hno⟩
  · by_cases hF : (T k).2.2.2 = true
    · obtain ⟨hin2, hdecl⟩ := hfin.resolve_left (fun z => by rw [hF] at z; cases z)
      rw [if_pos hF] at hlay
      have hcf : m.cls = cf := by
        obtain ⟨_, _, c', _, _, _, -, -, hf', -, -, -, hown2, -⟩ := Cond.laysFinal_spec hlay
        have e1 : c' = cf := by have := hi.symm.trans hf'; simp at this; exact this.1.symm
        rw [← hdecl] at hown2
        rw [← e1]; exact Option.some.inj (hown.symm.trans hown2)
      have h6 := u_fits hfc hkC hkind (Or.inr hlay) hi (hty k hkN) (okV_sp hv).1 (okV_sp hv).2
      exact W.putFinK hx hb hown (hts _ h1) hsame hst hcf hin2 (by rw [q2]; exact h6) q1 q3 hlt rfl rfl hdg (fun H1 e1 e2 e3 => fin H1 [] e1 e2 e3)
    · rw [if_neg hF] at hlay
      have h6 := u_store hfc hkC hkind hlay hi (hty k hkN) (okV_sp hv).1 (okV_sp hv).2
      exact W.putK hx hb (f := f) ⟨hown, hts _ h1, ⟨_, _, _, hsame⟩, hst⟩ (by rw [q2]; exact h6) q1 q3 hlt rfl rfl hdg (fun H1 e1 e2 e3 => fin H1 [] e1 e2 e3)
  · by_cases hF : (T k).2.2.2 = true
    · exact absurd (hfin.resolve_left (fun z => by rw [hF] at z; cases z)).2 hno
    · rw [if_neg hF] at hlay
      have h6 := u_store hfc hkC hkind hlay hi (hty k hkN) (okV_sp hv).1 (okV_sp hv).2
      exact va_WputK hx hb (f := f) hown (va_Nw.use rfl (hN.1 _ h1)) hsame hst (by rw [q2]; exact h6) q1 q3 hlt rfl rfl hdg (fun H1 e1 e2 e3 => fin H1 [] e1 e2 e3)
/-- getfield -/
theorem cr_get (hx : p.tables.exec = Jvm.exec) (hb : c.code = cc) (hts : ∀ w ∈ lw_all, w.before args s = true) (hN : NW s) {own : String} {idx ci k a : Nat} {fs : List Value} {v : Value} (hown : s.vm.findClass own = some m.cls) (hK : va_K D cCl (cTys ac) s) (hP : HP D ac A σ H) (ha : gC σ a = some (.inl (ci, fs))) (hf : FOK own idx ci k) (hv : fs[k]? = some v) (hdg : decode cc pc = .ok (.getfield idx, 3))
    (kk : W p l e R s m args below meth c H locs cells slots Q (F0 m (pc + 3) LS (v :: rest))) : W p l e R s m args below meth c H locs cells slots Q (F0 m pc LS (.ref a :: rest)) := by
  obtain ⟨q, hc, cell, q1, q2, q3, q5, q4⟩ := hP.obj ha
  obtain ⟨C, T, N⟩ := q
  have hg := getD_some hc
  obtain ⟨hkN, ref, hlk, hsm⟩ := hf
  unfold cTk at hlk hsm
  rw [hg] at hkN hlk hsm
  obtain ⟨hin, -⟩ := cCl_ok ci _ hc
  have hsame : ∀ x, s.fieldFound? (T k).1 (T k).2.1 (T k).2.2.1 = some x → s.fieldFound? ref (T k).2.1 (T k).2.2.1 = some x := by
    intro x hi
    rcases hsm with e | e
    · rw [e]; exact hi
    · exact u_same (hts _ e) _ hi
  obtain ⟨hSl, hfc, kC, hkC, hkind⟩ := hK.1 ci _ hc
  obtain ⟨cf, kf, fi, f, hi, hsl⟩ := hSl k hkN
  have hslot : cell.slots[f.slot]? = some v := by
    rw [hsl, q4 k hkN]
    simp [vp_V, hv]
  rcases hlk with h1 | ⟨host, h1, -⟩
  · exact W.getf hx hb hown (hts _ h1) (hsame _ hi) (u_facts hfc hkC (u_lays hts hin hkN) hi).1 q1 q5 hslot rfl rfl hdg kk
  · exact va_Wgetf hx hb hown (va_Nw.use rfl (hN.1 _ h1)) (hsame _ hi) (u_facts hfc hkC (u_lays hts hin hkN) hi).1 q1 q5 hslot rfl rfl hdg kk
end
