/-! PURE: alike, both ways -/
theorem bit0 (x : Int64) : x.toBitVec.getLsbD 0 = decide (x.toInt % 2 = 1) := by
  have h : x.toInt % 2 = (x.toBitVec.toNat : Int) % 2 := by
    have h2 : x.toInt = x.toBitVec.toInt := rfl
    rw [h2, BitVec.toInt_eq_toNat_cond]
    split <;> omega
  rw [h, BitVec.getLsbD, Nat.testBit_zero, decide_eq_decide]
  omega
theorem and1_0 {x : Int64} : (x &&& 1 = 0) ↔ x.toBitVec.getLsbD 0 = false := by
  rw [bit0, decide_eq_false_iff_not, ← and1_n]
  constructor
  · intro h; rw [h]; decide
  · intro h
    refine Int64.toBitVec_inj.mp (BitVec.eq_of_toNat_eq ?_)
    have h3 : (x &&& 1).toBitVec.toNat < 2 := by
      have := and1_n x
      omega
    have h4 : (0 : Int64).toBitVec.toNat = 0 := rfl
    omega
theorem al_one (v : Q4) : q_al v = q_one v := by
  obtain ⟨a, b, c, d⟩ := v
  rw [Bool.eq_iff_iff]
  simp only [q_al, q_one, p_one, Bool.and_eq_true, decide_eq_true_iff, and1_0, par_z, Int64.toBitVec_or, Int64.toBitVec_xor, BitVec.getLsbD_or, BitVec.getLsbD_xor, bit0, Bool.or_eq_false_iff, bne_eq_false_iff_eq, decide_eq_decide]
  omega
