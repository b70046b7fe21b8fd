set_option maxRecDepth 100000
/-! plain: kinds and nears as they were told -/
def TQa (q : QT) : Prop := ∀ d, q.2.1 9 d = q.2.1 5 d ∧ q.2.1 10 d = q.2.1 6 d
section
variable {q q' : QT} {g : Bool} {ts t : List Tk}
theorem xGos_t (h : xGos q g ts = .ok (q', t)) (hQ : TQa q) : TQa q' := by
  unfold xGos at h
  split at h
  · cases h
  · split at h
    · cases h
    · cases h; exact hQ
theorem xGrd_t (h : xGrd q ts = .ok (q', t)) (hQ : TQa q) : TQa q' := by
  unfold xGrd at h
  split at h
  · cases h
  · split at h
    · cases h
    · split at h
      · cases h
      · cases h; exact hQ
theorem xLaw_t {ln : Nat} (h : xLaw q ln ts = .ok (q', t)) (hQ : TQa q) : TQa q' := by
  unfold xLaw at h
  split at h
  · cases h
  · split at h
    · cases h
    · cases h; exact hQ
theorem qAD_t {nm : Int64} {kd nr : Nat} (hQ : TQa q) : TQa (qAD q nm kd nr) := fun d => by
  show upN (q.2.1 9) (qD q) kd d = upN (q.2.1 5) (qD q) kd d ∧ upN (q.2.1 10) (qD q) nr d = upN (q.2.1 6) (qD q) nr d
  by_cases hd : d = qD q
  · subst hd; rw [upN_s, upN_s, upN_s, upN_s]; exact ⟨rfl, rfl⟩
  · rw [upN_n hd, upN_n hd, upN_n hd, upN_n hd]; exact hQ d
theorem xDoor_t (h : xDoor q ts = .ok (q', t)) (hQ : TQa q) : TQa q' := by
  unfold xDoor at h
  split at h
  · cases h
  · split at h
    · cases h
    · split at h
      · cases h
      · split at h
        · cases h
        · cases h; exact qAD_t hQ
theorem xHand_t (h : xHand q ts = .ok (q', t)) (hQ : TQa q) : TQa q' := by
  unfold xHand at h
  split at h
  · cases h
  · split at h
    · cases h
    · split at h
      · cases h
      · split at h
        · cases h
        · split at h
          · cases h
          · split at h
            · cases h
            · cases h; exact hQ
theorem xStr_t (h : xStr q ts = .ok (q', t)) (hQ : TQa q) : TQa q' := by
  unfold xStr at h
  split at h
  · cases h
  · split at h
    · cases h
    · split at h
      · cases h
      · cases h; exact hQ
theorem stE_t {x : Except Nat (QT × List Tk)} {r : QT × Bool} (h : stE g x = .ok (r, t)) (hx : ∀ q' t, x = .ok (q', t) → TQa q') : TQa r.1 := by
  cases x with
  | error k => cases h
  | ok qt =>
    obtain ⟨q1, t1⟩ := qt
    have h : (match pEnd q1 t1 with
      | .error k => .error k
      | .ok (q, t) => .ok ((q, g), t)) = (.ok (r, t) : Except Nat ((QT × Bool) × List Tk)) := h
    unfold pEnd at h
    cases hs : pSg 59 t1 with
    | error k => rw [hs] at h; cases h
    | ok t2 =>
      rw [hs] at h
      cases h
      exact hx q1 t1 rfl
theorem pStm_t {r : QT × Bool} (h : pStm q g ts = .ok (r, t)) (hQ : TQa q) : TQa r.1 := by
  cases b0 : isW 158575 ts with
  | true => rw [pStm_hand b0] at h; exact stE_t h (fun _ _ e => xHand_t e hQ)
  | false =>
    cases b1 : isW 90090 ts with
    | true => rw [pStm_door b0 b1] at h; exact stE_t h (fun _ _ e => xDoor_t e hQ)
    | false =>
      cases b2 : isW 283616147 ts with
      | true => rw [pStm_street b0 b1 b2] at h; exact stE_t h (fun _ _ e => xStr_t e hQ)
      | false =>
        cases b3 : isW 108802051 ts with
        | true => rw [pStm_gossip b0 b1 b2 b3] at h; exact stE_t h (fun _ _ e => xGos_t e hQ)
        | false =>
          cases b4 : isW 4134649 ts with
          | true => rw [pStm_guard b0 b1 b2 b3 b4] at h; exact stE_t h (fun _ _ e => xGrd_t e hQ)
          | false =>
            cases b5 : isW 6476936 ts with
            | true => rw [pStm_learn b0 b1 b2 b3 b4 b5] at h; exact stE_t h (fun _ _ e => xLaw_t e hQ)
            | false =>
              cases b6 : isW 121890 ts with
              | true => rw [pStm_feel b0 b1 b2 b3 b4 b5 b6] at h; exact stE_t h (fun _ _ e => xLaw_t e hQ)
              | false => rw [pStm_no b0 b1 b2 b3 b4 b5 b6] at h; cases h
theorem pQrs_t : ∀ {f : Nat} {q q' : QT} {g : Bool} {ts : List Tk}, pQrs f q g ts = .ok q' → TQa q → TQa q'
  | 0, q, q', g, ts, h, hQ => by cases h; exact hQ
  | f + 1, q, q', g, ts, h, hQ => by
    rw [pQrs_s] at h
    split at h
    · cases h; exact hQ
    · cases hx : pStm q g ts with
      | error k => rw [hx] at h; cases h
      | ok rt =>
        obtain ⟨⟨q1, g1⟩, t1⟩ := rt
        rw [hx] at h
        exact pQrs_t h (pStm_t hx hQ)
theorem pQr_t (h : pQr ts = .ok q') : TQ q' := fun d _ => pQrs_t h (fun _ => ⟨rfl, rfl⟩) d
end
