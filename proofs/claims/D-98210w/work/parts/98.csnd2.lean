/-! THE COMPONENT's RUNS ARE THE MACHINE's: calls, and all -/
/-- the claim of a run of n steps -/
def cSound (l : Launch) (D : va_G) (ac : Nat → ClassId) (A : Nat → Prop) (zs : Nat → Nat) (J : CJ) (n : Nat) : Prop := ∀ (d : Nat) (f : CF) (r : CR), xv (cstep zs J) n d f = some r →
  ∀ (p : Program) (e : Env) (s : State) (m : MethodId) (args : Array Value) (below : List Frame) (meth : Method) (c : Code) (nL nc ns : Nat), cFix D ac A zs p s m args meth c nL f.1 →
  ∀ (H : Heap) (locs : List Loc) (cells slots : Nat) (LS : Array Slot), HP D ac A (fM f) H → va_S A s.heap H locs → LH LS nL f.2.2.2.1 → cells + (r.2.1 - (fM f).1) = nc → slots + (r.2.2.1 - (fM f).2.1) = ns →
  (f.2.1 = none → W p l e (rmC d nc ns) s m args below meth c H locs cells slots (cEnd D ac A below r args s nc ns) (F0 m f.2.2.1 LS f.2.2.2.2.1)) ∧
  ∀ (x : Nat) (st : List Value), f.2.1 = some x → WT p l e (rmC d nc ns) s m args below meth c H locs cells slots (cEnd D ac A below r args s nc ns) (F0 m f.2.2.1 LS st) x
section
variable {l : Launch} {D : va_G} {ac : Nat → ClassId} {A : Nat → Prop} {zs : Nat → Nat} {J : CJ}
theorem c_met {n d : Nat} (ih : cSound l D ac A zs J n) {y : MethodName} {cc : ByteArray} {rt : Option FieldType} {o2 md nL : Nat} {As : List Value} {σ : CM} {r : CR} (h : xv (cstep zs J) n d ((cc, rt, o2, md), none, 0, lent As nL, [], σ) = some r) (hcls : y.cls = oN o2) (hpl : plainName y.cls = true) (hmd : hnd md = none) (hini : md = 9 → y.name = "<init>") (hlen : (lg_sl As).length ≤ nL) :
    cMet l D ac A y (ws_ y cc nL rt) (rmC d (r.2.1 - σ.1) (r.2.2.1 - σ.2.1)) (cPc D ac A zs As σ) r (r.2.1 - σ.1) (r.2.2.1 - σ.2.1) := by
  have key : ∀ p e s m args below meth c s₁, BodyLoose p l y (headSpec (ws_ y cc nL rt) (rmC d (r.2.1 - σ.1) (r.2.2.1 - σ.2.1))) cc nL rt e s m args below meth c s₁ → c.maxLocals = nL → cPc D ac A zs As σ args s →
      W p l e (rmC d (r.2.1 - σ.1) (r.2.2.1 - σ.2.1)) s m args below meth c s.heap [] 0 0 (cEnd D ac A below r args s (r.2.1 - σ.1) (r.2.2.1 - σ.2.1)) (entryFrame m args nL) := by
    intro p e s m args below meth c s₁ B hml hv
    obtain ⟨rfl, hP, hK, hN, hZ⟩ := hv
    have hts0 := atoms_spec (ws := ws_ y cc nL rt) B.pre
    have hts : ∀ w ∈ lw_all, w.before _ s = true := fun w h => hts0 w (List.mem_cons_of_mem _ h)
    have hown : s.vm.findClass (oN o2) = some m.cls := by rw [← hcls]; exact findClass_of_methodNamed B.named
    have hex : c.exceptionTable.toList = [] := by
      have := B.noHandlers (hts0 _ List.mem_cons_self)
      rw [Array.isEmpty_iff] at this
      rw [this]
    rw [lg_entry_eq]
    exact (ih d _ r h p e s m _ below meth c nL _ _ ⟨B.exec, B.bytes, B.returns, B.notSynchronized, hml, hown, fun hm => by rw [(name_of_methodNamed B.named B.method).1]; exact hini hm, by unfold cHnd; dsimp only; rw [hmd]; exact hex, Or.inl hmd, hts, hN, hK, hZ⟩ s.heap [] 0 0 _ hP va_S.rf (LH.entry hlen) (Nat.zero_add _) (Nat.zero_add _)).1 rfl
  unfold cMet
  unfold cEnd at key
  cases hr : r.1 with
  | inl v =>
    rw [hr] at key
    exact Met.ofW (cc := cc) (maxL := nL) (ret := rt) hpl rfl key
  | inr x =>
    rw [hr] at key
    exact MetT.ofW (cc := cc) (maxL := nL) (ret := rt) hpl rfl key
/-- behind a call that returns -/
theorem c_callG {p : Program} {e : Env} {s : State} {m : MethodId} {args : Array Value} {below : List Frame} {meth : Method} {c : Code} {Q : State → Prop} {R : Room} {H : Heap} {locs : List Loc} {cells slots mc ms : Nat} {pc : Nat} {LS : Array Slot} {st0 rest : List Value} {v : Option Value} {σ' : CM} {a : Array Value}
    (hr : va_Run p l e R s m args below meth c H locs cells slots mc ms (F0 m pc LS st0) rest (cQc D ac A (.inl v, σ') a) A) (hS : va_S A s.heap H locs)
    (kk : ∀ (H1 : Heap) (locs1 : List Loc), HP D ac A σ' H1 → va_S A s.heap H1 locs1 → W p l e R s m args below meth c H1 locs1 (cells + mc) (slots + ms) Q (F0 m (pc + 3) LS (v.toList ++ rest))) : W p l e R s m args below meth c H locs cells slots Q (F0 m pc LS st0) := by
  intro T hT X
  obtain ⟨v', st₀, t, T', L, h0, X', hL, e1, e2, ⟨hv, hp, hz, hk⟩, st⟩ := hr T hT X
  cases hv
  rw [h0] at hz hk
  obtain ⟨t2, a1, b1⟩ := kk T'.heap (locs ++ L) (by rw [e1]; exact hp)
    ⟨Nat.le_trans hS.1 (by rw [e1]; exact hz), fun q h1 h2 => by rw [e1, hk q (Nat.lt_of_lt_of_le h1 hS.1) h2]; exact hS.2.1 q h1 h2, fun q hq => by
      rcases List.mem_append.mp hq with h | h
      · exact hS.2.2 q h
      · exact hL q h⟩ T' rfl X'
  exact ⟨t2, st t2 a1, b1⟩
theorem cCl_at {ci : Nat} {cell : Cell} {D : va_G} {a : Nat} {fs : List Value} {H : Heap} (h : va_P D cCl [(a, .inr (ci, fs))] H) : ∃ q, cCl[ci]? = some q ∧ q.1 = cNm ci := by
  obtain ⟨q, h1, -⟩ := h 0 _ rfl
  refine ⟨q, h1, ?_⟩
  unfold cNm
  rw [List.getD_eq_getElem?_getD, h1]
  rfl
theorem ccall_inv2 {k : CK} {pc : Nat} {ls : LsT} {st : List Value} {σ : CM} {idx tag : Nat} {z : CR ⊕ CF ⊕ (CF × (CR → CF))} (h : ccall k pc ls st σ idx tag = some z) : ∃ (y : MethodName) (cc : ByteArray) (rt : Option FieldType) (o2 nL2 n : Nat) (rc : Option Nat) (ci : Nat), ccp k.2.2.1 idx ci = some (k.2.2.1, idx, tag, rc, y, cc, rt, o2, nL2, n) ∧ ∃ As rest, As.length = n ∧ st = As.reverse ++ rest ∧ catS rest ≤ 8 ∧ (lg_sl As).length ≤ nL2 ∧ recvB σ tag rc As = true ∧
    z = .inr (.inr (((cc, rt, o2, if tag = 1 ∧ rc = none then 9 else 0), none, 0, lent As nL2, [], σ), fun q => match q.1 with
        | .inl v => (k, none, pc + 3, ls, v.toList ++ rest, q.2)
        | .inr x => (k, some x, pc, ls, rest, q.2))) := by
  unfold ccall at h
  split at h
  · rename_i a b tg rc y cc rt o2 nL2 n he
    split at h
    · rename_i hc
      cases h
      obtain ⟨h1, h2, h3, h4, h5⟩ := hc
      have hok : ∃ ci, ccp k.2.2.1 idx ci = some (a, b, tg, rc, y, cc, rt, o2, nL2, n) := by
        split at he
        · obtain ⟨_, _, he⟩ := Option.bind_eq_some_iff.mp he
          obtain ⟨ci, _, he⟩ := Option.bind_eq_some_iff.mp he
          exact ⟨ci, he⟩
        · exact ⟨99, he⟩
      obtain ⟨ci, hok⟩ := hok
      obtain ⟨-, rfl, rfl⟩ := ccp_ok hok
      subst h1
      exact ⟨y, cc, rt, o2, nL2, n, rc, ci, hok, (st.take n).reverse, st.drop n, by rw [List.length_reverse, List.length_take, Nat.min_eq_left h2], by rw [List.reverse_reverse, List.take_append_drop], h3, h4, h5, rfl⟩
    · cases h
  · cases h
theorem c_sound_step {n : Nat} (hJ : JOK l D ac A zs J) (ih : cSound l D ac A zs J n) : cSound l D ac A zs J (n + 1) := by
  intro d f r h p e s m args below meth c nL nc ns hF H locs cells slots LS hP hS hL hc1 hc2
  have hm0 := cxv_mono hJ.mono _ _ _ _ h
  obtain ⟨k, th, pc, ls, st, σ⟩ := f
  change xw (cstep zs J) (xv (cstep zs J) n) d (k, th, pc, ls, st, σ) = some r at h
  unfold xw at h
  split at h
  · cases h
  · -- it ends
    rename_i r0 hs
    cases h
    cases th with
    | none =>
      refine ⟨fun _ => ?_, fun x st hx => by cases hx⟩
      obtain ⟨h1, h2⟩ := c_ret (l := l) (e := e) (R := rmC d nc ns) (below := below) (LS := LS) (cells := cells) (slots := slots) hs hF hP hS
      have e1 : nc = cells := by rw [← hc1, h1]; show cells + (σ.1 - σ.1) = cells; omega
      have e2 : ns = slots := by rw [← hc2, h1]; show slots + (σ.2.1 - σ.2.1) = slots; omega
      rw [e1, e2] at h2 ⊢
      exact h2
    | some x =>
      refine ⟨fun hx => (by cases hx), fun x' st' hx => ?_⟩
      cases hx
      obtain ⟨h1, h2⟩ := c_out (l := l) (e := e) (R := rmC d nc ns) (below := below) (LS := LS) (cells := cells) (slots := slots) (st' := st') hs hF hP hS
      have e1 : nc = cells := by rw [← hc1, h1]; show cells + (σ.1 - σ.1) = cells; omega
      have e2 : ns = slots := by rw [← hc2, h1]; show slots + (σ.2.1 - σ.2.1) = slots; omega
      rw [e1, e2] at h2 ⊢
      exact h2
  · -- a step within
    rename_i g hs
    have hm1 : leM σ (fM g) := cstep_mono hJ.mono hs
    have hm2 := cxv_mono hJ.mono _ _ _ _ h
    have hd1 : σ.1 ≤ (fM g).1 := hm1.1
    have hd2 : σ.2.1 ≤ (fM g).2.1 := hm1.2
    have hd3 : (fM g).1 ≤ r.2.1 := hm2.1
    have hd4 : (fM g).2.1 ≤ r.2.2.1 := hm2.2
    have hc1 : cells + (r.2.1 - σ.1) = nc := hc1
    have hc2 : slots + (r.2.2.1 - σ.2.1) = ns := hc2
    cases th with
    | none =>
      refine ⟨fun _ => ?_, fun x st hx => by cases hx⟩
      cases hg : g.2.1 with
      | none =>
        have hF' := hF
        obtain ⟨hx, hb, hr, hlocks, hml, hown, hmode, hH, hH0, hts, hN, hK, hZ⟩ := hF
        refine cstep_next hs hg hJ hx hb hml hown hmode hts hN hK hZ hP hS hL ⟨?_, ?_⟩ (fun hk hg H' locs' LS' hP' hS' hL' => ?_)
        · show cells + ((fM g).1 - σ.1) ≤ nc
          omega
        · show slots + ((fM g).2.1 - σ.2.1) ≤ ns
          omega
        · exact (ih d g r h p e s m args below meth c nL nc ns (by rw [hk]; exact hF') H' locs' _ _ LS' hP' hS' hL' (by show cells + ((fM g).1 - σ.1) + (r.2.1 - (fM g).1) = nc; omega) (by show slots + ((fM g).2.1 - σ.2.1) + (r.2.2.1 - (fM g).2.1) = ns; omega)).1 hg
      | some x =>
        obtain ⟨hd, ⟨rest, rfl⟩, rfl⟩ := cstep_ath hs hg
        refine W.athrow hF.1 hF.2.1 hd ?_
        exact (ih d _ r h p e s m args below meth c nL nc ns hF H locs cells slots LS hP hS hL hc1 hc2).2 x rest rfl
    | some x =>
      refine ⟨fun hx => (by cases hx), fun x' st' hx => ?_⟩
      cases hx
      obtain ⟨g1, g2, g3, g4, g5⟩ := c_catch (l := l) (e := e) (R := rmC d nc ns) (below := below) (LS := LS) (cells := cells) (slots := slots) (locs := locs) (st' := st') (Q := cEnd D ac A below r args s nc ns) hs hF hP
      refine g5 ?_
      exact (ih d g r h p e s m args below meth c nL nc ns (by rw [g1]; exact hF) H locs cells slots LS (by rw [g4]; exact hP) hS (by rw [g3]; exact hL) (by rw [g4]; exact hc1) (by rw [g4]; exact hc2)).1 g2
  · -- a call
    rename_i g kf hs
    cases th with
    | some x => exact (cthrow_c hs).elim
    | none =>
    refine ⟨fun _ => ?_, fun x st hx => by cases hx⟩
    split at h
    · cases h
    · rename_i d'
      split at h
      · cases h
      · rename_i q hq
        obtain ⟨tag, idx, hd, hcall⟩ := cstep_call hs
        have hcall2 := hcall
        obtain ⟨y, cc, rt, o2, nL2, na, rc, ci0, hccp, As, rest, hAs, hst, hcat, hle, hrec, hz⟩ := ccall_inv2 hcall
        obtain ⟨⟨hcok, hycls, hnL, hpl, hcode, hyini⟩, -⟩ := ccp_ok hccp
        have hz := Sum.inr.inj (Sum.inr.inj hz)
        cases hz
        have hm1 := cxv_mono hJ.mono _ _ _ _ hq
        have hm2 := cxv_mono hJ.mono _ _ _ _ h
        have hd1 : σ.1 ≤ q.2.1 := hm1.1
        have hd2 : σ.2.1 ≤ q.2.2.1 := hm1.2
        have hc1 : cells + (r.2.1 - σ.1) = nc := hc1
        have hc2 : slots + (r.2.2.1 - σ.2.1) = ns := hc2
        have hmd : hnd (if tag = 1 ∧ rc = none then 9 else 0) = none := by split <;> rfl
        have hmet := c_met ih hq hycls hpl hmd (fun h9 => by
          split at h9
          · rename_i h8; exact hyini h8.1 h8.2
          · cases h9) hle
        have hF' := hF
        obtain ⟨hx, hb, hr, hlocks, hml, hown, hmode, hH, hH0, hts, hN, hK, hZ⟩ := hF
        have hsz : LS.size = nL := hL.2.1
        have hpre : PreS s H (cPc D ac A zs As σ) As := ⟨cPc_blind, fun U hU hW => ⟨rfl, by rw [hU]; exact hP, va_K.moved hW.alike hK, hN.warm hW, hZ.go hW hS hU⟩⟩
        have hrm : 8 + (nL2 + 11) + (rmC d' (q.2.1 - σ.1) (q.2.2.1 - σ.2.1)).locals ≤ (rmC (d' + 1) nc ns).locals := by
          show 8 + (nL2 + 11) + 64 * (d' + 8) ≤ 64 * (d' + 1 + 8)
          have : nL2 ≤ 40 := hnL
          omega
        have hrf : (rmC d' (q.2.1 - σ.1) (q.2.2.1 - σ.2.1)).frames + 1 ≤ (rmC (d' + 1) nc ns).frames := by
          show d' + 8 + 1 ≤ d' + 1 + 8
          omega
        obtain ⟨q1, q2⟩ := q
        cases q1 with
        | inl v =>
          have hd3 : q2.1 ≤ r.2.1 := hm2.1
          have hd4 : q2.2.1 ≤ r.2.2.1 := hm2.2
          have hd1 : σ.1 ≤ q2.1 := hd1
          have hd2 : σ.2.1 ≤ q2.2.1 := hd2
          have hrecv : decide (tag ≠ 2) = true → ∃ b As', As = .ref b :: As' ∧ ∀ CC, rc.map cNm = some CC → ∃ cellB : Cell, H[b]? = some cellB ∧ cellB.vm.isStatics = false ∧ s.vm.findClass CC = some cellB.cls := by
            intro ht
            have ht : tag ≠ 2 := of_decide_eq_true ht
            unfold recvB at hrec
            rw [if_neg ht] at hrec
            split at hrec
            · rename_i b As'
              refine ⟨b, As', rfl, fun CC hCC => ?_⟩
              cases rc with
              | none => cases hCC
              | some ci =>
                cases hCC
                dsimp only at hrec
                split at hrec
                · rename_i cj fs hg
                  have hj : cj = ci := of_decide_eq_true hrec
                  subst hj
                  obtain ⟨qq, h1, -⟩ := hP.obj hg
                  have h2 : qq.1 = cNm cj := by unfold cNm; rw [getD_some h1]
                  obtain ⟨cellB, h3, h4, h5⟩ := hP.recv hK hg h1
                  exact ⟨cellB, h3, h4, by rw [← h2]; exact h5⟩
                · cases hrec
            · cases hrec
          have hrun := hcok p l e (rmC (d' + 1) nc ns) s m args below meth c k.1 nL H locs cells slots _ _ _ _ _ _ As rest pc LS ⟨hx, hb, hml, hown, hts⟩ hN hmet rfl rfl hrf hrm hpre hrecv hAs hsz hcat hd (by show cells + (q2.1 - σ.1) ≤ nc; omega) (by show slots + (q2.2.1 - σ.2.1) ≤ ns; omega)
          subst hst
          refine c_callG hrun hS (fun H1 locs1 hP1 hS1 => ?_)
          exact (ih (d' + 1) _ r h p e s m args below meth c nL nc ns hF' H1 locs1 _ _ LS hP1 hS1 hL (by show cells + (q2.1 - σ.1) + (r.2.1 - q2.1) = nc; omega) (by show slots + (q2.2.1 - σ.2.1) + (r.2.2.1 - q2.2.1) = ns; omega)).1 rfl
        | inr x =>
          have hd3 : q2.1 ≤ r.2.1 := hm2.1
          have hd4 : q2.2.1 ≤ r.2.2.1 := hm2.2
          have hd1 : σ.1 ≤ q2.1 := hd1
          have hd2 : σ.2.1 ≤ q2.2.1 := hd2
          -- the continuation runs on: the call is one that may throw
          have hthr : thrP k.1 k.2.2.1 pc = true := by
            cases n with
            | zero => cases h
            | succ n =>
              change xw (cstep zs J) (xv (cstep zs J) n) (d' + 1) (k, some x, pc, ls, rest, q2) = some r at h
              cases ht : thrP k.1 k.2.2.1 pc with
              | true => rfl
              | false =>
                exfalso
                have : cstep zs J (k, some x, pc, ls, rest, q2) = none := by
                  show cthrow k x pc ls q2 = none
                  unfold cthrow
                  rw [if_pos ht]
                unfold xw at h
                rw [this] at h
                cases h
          unfold thrP at hthr
          rw [hd] at hthr
          have ht0 : tag = 0 := by
            by_cases h0 : tag = 0
            · exact h0
            · exfalso
              by_cases h1 : tag = 1
              · simp [insO, h1] at hthr
              · simp [insO, h0, h1] at hthr
          subst ht0
          have hthr : thrB k.2.2.1 idx = true := hthr
          obtain ⟨-, hrc, w1, w2, w3, w4, w5, hyc, na', hna, hokd⟩ := ccp_ct hccp hthr
          dsimp only at hrc w1 w2 w3 w5 hyc hna hokd
          subst hrc
          unfold recvB at hrec
          rw [if_neg (by decide)] at hrec
          split at hrec
          · rename_i b As'
            dsimp only at hrec
            split at hrec
            · rename_i cj fs hg
              have hj : cj = 1 := of_decide_eq_true hrec
              subst hj
              obtain ⟨cellB, h3, h4, h5⟩ := va_recv hK (hP.one hg) (ci := 1) (q0 := 0) (q := cCl.getD 1 ("", (fun _ => ("", "", "", false)), 0)) rfl rfl
              have hAs' : As'.length = na' := by
                have := hAs
                rw [List.length_cons] at this
                omega
              have hst' : st = As'.reverse ++ .ref b :: rest := by rw [hst, revc]
              rw [hst']
              refine WT.call (own := oN k.2.2.1) (C := "KnowLocks$Reader") (y := y) (bytes := cc) (maxL := nL2) (ret := rt) (n := na') (nL := nL) (cc := k.1) ⟨hx, hb, hml, hown, hts⟩ hmet (cwV na' hts (lw_V w1 w2 w3 w4 w5) rfl rfl rfl ⟨hyc, hokd⟩ ⟨hrf, hrm⟩) ⟨cPc_blind, ⟨cellB, h3, h4, h5⟩, hpre.2⟩ hAs' hsz hcat hd ⟨by show cells + (q2.1 - σ.1) ≤ nc; omega, by show slots + (q2.2.1 - σ.2.1) ≤ ns; omega⟩ (fun x' st₀ t H' L h0 ht hvm hfree hQ => ?_)
              obtain ⟨hx', hp', hz', hk'⟩ := hQ
              have hx' : Outcome.threw x' = .threw x := hx'
              cases hx'
              rw [h0] at hz' hk'
              rw [ht] at hp' hz' hk'
              have hS1 : va_S A s.heap H' (locs ++ L) := ⟨Nat.le_trans hS.1 hz', fun q h1 h2 => by rw [hk' q (Nat.lt_of_lt_of_le h1 hS.1) h2]; exact hS.2.1 q h1 h2, fun q hq => by
                rcases List.mem_append.mp hq with h | h
                · exact hS.2.2 q h
                · exact hfree q h⟩
              exact (ih (d' + 1) _ r h p e s m args below meth c nL nc ns hF' H' (locs ++ L) _ _ LS hp' hS1 hL (by show cells + (q2.1 - σ.1) + (r.2.1 - q2.1) = nc; omega) (by show slots + (q2.2.1 - σ.2.1) + (r.2.2.1 - q2.2.1) = ns; omega)).2 x rest rfl
            · cases hrec
          · cases hrec
theorem c_sound (hJ : JOK l D ac A zs J) : ∀ n : Nat, cSound l D ac A zs J n
  | 0 => fun d f r h => by cases h
  | n + 1 => c_sound_step hJ (c_sound hJ n)
end
