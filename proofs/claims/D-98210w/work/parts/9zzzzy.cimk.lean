set_option maxRecDepth 100000
/-! THE WHOLE COMPONENT: marks -/
section
variable {zs ow' : Nat → Nat} {e : Nat} {σ σ' : CM} {P : CR → Prop} {x0 B c m : Nat} {G : Gh} {a : Ab}
theorem ci_mark_no {v : Int32} {b : Bool} (hI : CI zs σ x0 G a) (hv : mkV a.mk v b = false) (hP : ∀ σ', CO zs x0 σ G a a σ' → P (.inl (some (.int (nI 0))), σ')) : EC zs (Jc zs) (e + 1) cX1_mark (some .boolean) 0 0 0 [some (.ref x0), some (.int v), some (.int (bI b))] [] σ P := by
  have hm := hI.2.2.2.2.2.2.1
  refine c_mark_no hI.rt hm.1.1 ?_ (hP _ (CO.rf hI))
  unfold mkV at hv
  cases hd : decide (nI 0 ≤ v ∧ v ≤ nI 3) with
  | false => rfl
  | true =>
    rw [hd] at hv
    have hk : ix v < 4 := by
      obtain ⟨h1, h2⟩ := of_decide_eq_true hd
      obtain ⟨j, hj, rfl⟩ := nI_ex (n := 4) h1 (Int32.lt_of_le_of_lt h2 (nI_lt (by omega) (by omega))) (by omega)
      show (nI j).toNatClampNeg < 4
      rw [nI_clamp (by omega)]; exact hj
    rw [← (hm.2 _ hk).1]
    exact hv
end
