theorem in_nIv {x : Int32} {nf : Nat} (hn : nf ≤ 12) (h : p_in x.toInt64 0 (nI nf - 1).toInt64 = true) : ∃ j : Nat, j < nf ∧ x = nI j := by
  simp only [p_in, Bool.and_eq_true, Bool.not_eq_true', decide_eq_false_iff_not, Int64.lt_iff_toInt_lt, Int32.toInt_toInt64] at h
  have h0 : (0 : Int64).toInt = 0 := by decide
  have hx : ¬ x < 0 := by
    rw [Int32.lt_iff_toInt_lt]
    have h2 : (0 : Int32).toInt = 0 := by decide
    omega
  obtain ⟨j, hj, rfl⟩ := nI_of hx
  refine ⟨j, ?_, rfl⟩
  have h3 := nI_toInt hj
  have h4 : (nI nf - 1).toInt = (nf : Int) - 1 := pk_sub_toInt (a := nf) (b := 1) (by omega) (by decide)
  omega
