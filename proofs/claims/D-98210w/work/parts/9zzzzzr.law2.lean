set_option maxRecDepth 100000
/-! THE LAW: a call with ints of the script, on both sides -/
/-- the law's locals -/
def lwL (b x0 mb i : Nat) (u v : Option Value) : LsT := [some (.ref b), some (.ref x0), some (.ref mb), some (.ref (mb + 47)), some (.int (nI i)), u, v]
/-- ints of the script -/
def lwV (xs : Nat → Int32) (i : Nat) (ks : List Nat) : List Value := ks.map (fun k => .int (xs (i + k)))
/-- the code that lays ints of the script -/
def lwB : List Nat → Nat → Prop
  | [], _ => True
  | k :: ks, pc => (k < 7 ∧ decode code pc = .ok (.aload_n 0, 1) ∧ decode code (pc + 1) = .ok (.iload 4, 2) ∧ decode code (pc + 3) = .ok (.iconst (k : Int), 1) ∧ decode code (pc + 4) = .ok (.iadd, 1) ∧ decode code (pc + 5) = .ok (.iaload, 1)) ∧ lwB ks (pc + 6)
theorem lwV_sl {xs : Nat → Int32} {i : Nat} {a : Nat} : ∀ ks : List Nat, (lg_sl (.ref a :: lwV xs i ks)).length = ks.length + 1 := by
  intro ks
  have h : ∀ ks : List Nat, (lg_sl (lwV xs i ks)).length = ks.length := by
    intro ks
    induction ks with
    | nil => rfl
    | cons k ks ih =>
      show ((if (Value.int (xs (i + k))).category = 2 then _ else _) ++ lg_sl (lwV xs i ks)).length = _
      have hc : ¬ (Value.int (xs (i + k))).category = 2 := fun h => absurd (show (1 : Nat) = 2 from h) (by decide)
      rw [if_neg hc, List.length_append, ih]
      show 1 + ks.length = ks.length + 1
      omega
  show ((if (Value.ref a).category = 2 then _ else _) ++ lg_sl (lwV xs i ks)).length = _
  have hc : ¬ (Value.ref a).category = 2 := fun h => absurd (show (1 : Nat) = 2 from h) (by decide)
  rw [if_neg hc, List.length_append, h ks]
  show 1 + ks.length = ks.length + 1
  omega
theorem iK {k : Nat} (h : k < 7) : Int32.ofInt (k : Int) = nI k := by
  have : k = 0 ∨ k = 1 ∨ k = 2 ∨ k = 3 ∨ k = 4 ∨ k = 5 ∨ k = 6 := by omega
  rcases this with rfl | rfl | rfl | rfl | rfl | rfl | rfl <;> rfl
section
variable {D : va_G} {ac : Nat → ClassId} {DM : va_G} {cs : McT} {zs : Nat → Nat} {b L : Nat} {xs : Nat → Int32} {x0 mb : Nat} {p : Program} {l : Launch} {e : Env} {s : State} {m : MethodId} {args : Array Value} {below : List Frame} {meth : Method} {c : Code} {H : Heap} {locs : List Loc} {cells slots : Nat} {Q : State → Prop} {σ σ' : CM} {M M' : MM} {w : Nat → Int64} {LS : Array Slot} {i : Nat} {u v : Option Value} {G : Gh} {a : Ab} {B : Nat}
/-- an int of the script -/
theorem lw_ld {k pc : Nat} {st : List Value} (F : LFx D ac DM cs zs b L xs x0 mb p l s m args c) (h : LSt D ac DM cs s mb σ M w H locs) (hi : i + 7 ≤ L) (hk : k < 7) (d4 : decode code pc = .ok (.iaload, 1)) (kk : W p l e room_1 s m args below meth c H locs cells slots Q (F0 m (pc + 1) LS (.int (xs (i + k)) :: st))) : W p l e room_1 s m args below meth c H locs cells slots Q (F0 m pc LS (.int (nI i + nI k) :: .ref b :: st)) := by
  obtain ⟨⟨hx, hb, -⟩, -, -, ⟨hX, hbl, hL⟩, -⟩ := F
  rw [nI_add]
  have e1 : (nI (i + k)).toNatClampNeg = i + k := nI_clamp (by omega)
  refine va_sld (A := fun q => s.heap.size ≤ q) hx hb hX hbl (Nat.not_le.mpr hbl) h.2.2.2.1 (i := nI (i + k)) (fun z => ?_) d4 ?_
  · rcases z with z | z
    · exact absurd z (Int32.not_lt.mpr (nI_le (a := 0) (by omega) (by omega)))
    · rw [e1] at z; omega
  · rw [e1]; exact kk
theorem lw_args (F : LFx D ac DM cs zs b L xs x0 mb p l s m args c) (h : LSt D ac DM cs s mb σ M w H locs) (hL : LH LS 7 (lwL b x0 mb i u v)) (hi : i + 7 ≤ L) : ∀ (ks : List Nat) (pc : Nat) (st : List Value), lwB ks pc → W p l e room_1 s m args below meth c H locs cells slots Q (F0 m (pc + 6 * ks.length) LS ((lwV xs i ks).reverse ++ st)) → W p l e room_1 s m args below meth c H locs cells slots Q (F0 m pc LS st)
  | [], pc, st, _, kk => kk
  | k :: ks, pc, st, ⟨⟨hk, d0, d1, d2, d3, d4⟩, hr⟩, kk => by
    have hx := F.1.1
    have hb := F.1.2.1
    refine lv_aload_n hx hb d0 rfl (hL.at rfl) ?_
    refine lv_iload hx hb d1 (hL.at rfl) ?_
    refine lv_iconst hx hb d2 (iK hk) ?_
    refine lv_iadd hx hb d3 ?_
    refine lw_ld F h hi hk d4 ?_
    refine lw_args F h hL hi ks (pc + 6) _ hr ?_
    have e1 : pc + 6 * (k :: ks).length = pc + 6 + 6 * ks.length := by
      show pc + 6 * (ks.length + 1) = _
      omega
    have e2 : (lwV xs i (k :: ks)).reverse ++ st = (lwV xs i ks).reverse ++ (.int (xs (i + k)) :: st) := by
      show (Value.int (xs (i + k)) :: lwV xs i ks).reverse ++ st = _
      rw [List.reverse_cons, List.append_assoc]
      rfl
    rw [e1, e2] at kk
    exact kk
/-- a call on both sides -/
theorem lw_ints {ks : List Nat} {k : PrT} {i1 i2 pc : Nat} {y1 y2 : MethodName} {off : Int} (F : LFx D ac DM cs zs b L xs x0 mb p l s m args c) (h : LSt D ac DM cs s mb σ M w H locs) (hcs : s.heap.size + cells = σ.1) (hsl : slots = σ.2.1) (hL : LH LS 7 (lwL b x0 mb i u v)) (hi : i + 7 ≤ L) (hI : LI zs x0 σ G M a B)
    (w1 : CcW i1 y1 k.1 ks.length) (w2 : McW i2 y2 k.2 ks.length) (hlen : ks.length + 1 ≤ k.1.2.2.2 ∧ ks.length + 1 ≤ k.2.2.2) (hp : PRr zs x0 mb k (lwV xs i ks) σ G M a B)
    (d0 : decode code pc = .ok (.aload_n 1, 1)) (b1 : lwB ks (pc + 1)) (d1 : decode code (pc + 1 + 6 * ks.length) = .ok (.invokevirtual i1, 3)) (d2 : decode code (pc + 1 + 6 * ks.length + 3) = .ok (.aload_n 2, 1)) (b2 : lwB ks (pc + 1 + 6 * ks.length + 3 + 1)) (d3 : decode code (pc + 1 + 6 * ks.length + 3 + 1 + 6 * ks.length) = .ok (.invokevirtual i2, 3)) (d4 : decode code (pc + 1 + 6 * ks.length + 3 + 1 + 6 * ks.length + 3) = .ok (.if_icmp .eq off, 3)) (ht : ((pc + 1 + 6 * ks.length + 3 + 1 + 6 * ks.length + 3 : Nat) : Int) + off = ((1426 : Nat) : Int))
    (hr1 : σ.1 + 3 * G.m0 + 8 * a.T.1 + 400 ≤ s.heap.size + 631120) (hr2 : σ.2.1 + 49 * G.m0 + 2100 * a.T.1 + 56000 ≤ 7202743)
    (kk : ∀ (σ' : CM) (G' : Gh) (M' : MM) (a' : Ab) (H1 : Heap) (locs1 : List Loc), LI zs x0 σ' G' M' a' (B + 68040) → Gr σ G a σ' G' a' → LSt D ac DM cs s mb σ' M' w H1 locs1 → W p l e room_1 s m args below meth c H1 locs1 (σ'.1 - s.heap.size) σ'.2.1 Q (F0 m 1426 LS [])) : W p l e room_1 s m args below meth c H locs cells slots Q (F0 m pc LS []) := by
  have hx := F.1.1
  have hb := F.1.2.1
  obtain ⟨r, σ', G', M', a', hE1, hE2, hI', hG⟩ := hp
  have g1 := hG.1.1
  have g2 := hG.1.2
  have g3 := hG.2.1
  have g4 := hG.2.2
  have hdm : dmM σ σ' := hE1.dom
  have hvl : (lwV xs i ks).length = ks.length := by unfold lwV; rw [List.length_map]
  refine lv_aload_n hx hb d0 rfl (hL.at rfl) ?_
  refine lw_args F h hL hi ks (pc + 1) [.ref x0] b1 ?_
  refine lw_behC (rest := []) h hdm (lw_run F h w1 hE1 hvl (by rw [lwV_sl]; exact hlen.1) hI.1.rt hL.2.1 (by decide) d1 (by omega) (by omega)) (fun H1 locs1 S1 => ?_)
  have ec : cells + (σ'.1 - σ.1) = σ'.1 - s.heap.size := by omega
  have es : slots + (σ'.2.1 - σ.2.1) = σ'.2.1 := by omega
  rw [ec, es]
  refine lv_aload_n hx hb d2 rfl (hL.at rfl) ?_
  refine lw_args F S1 hL hi ks _ [.ref mb, .int r] b2 ?_
  refine lw_behM (rest := [.int r]) S1 (by omega) F.2.2.2.2 (lw_runM F S1 w2 hE2 hvl (by rw [lwV_sl]; exact hlen.2) hL.2.1 (by show 1 ≤ 8; omega) d3 (by omega) (by omega)) (fun H2 locs2 S2 => ?_)
  exact lv_icmp_eq hx hb d4 ht (fun _ => kk σ' G' M' a' H2 locs2 hI' hG S2) (fun z => absurd rfl z)
end
