/-! PURE: the nearest number, exactly -/
set_option maxRecDepth 100000
theorem fl_z {a b : Int64} (hb : 0 < b.toInt) (hB : b.toInt < 2 ^ 60) (ha : a.toInt.natAbs < 2 ^ 60) : (p_fl a b).toInt = a.toInt.fdiv b.toInt := by
  have hq : (a / b).toInt = a.toInt.tdiv b.toInt := by
    rw [Int64.toInt_div]
    have h : (a.toInt.tdiv b.toInt).natAbs ≤ a.toInt.natAbs := by
      rw [Int.natAbs_tdiv]; exact Nat.div_le_self _ _
    apply b64 <;> omega
  have hqn : (a / b).toInt.natAbs ≤ a.toInt.natAbs := by
    rw [hq, Int.natAbs_tdiv]; exact Nat.div_le_self _ _
  have hid := Int.mul_tdiv_add_tmod a.toInt b.toInt
  have hm1 : (a.toInt.tmod b.toInt).natAbs < b.toInt.natAbs := by
    rw [Int.natAbs_tmod]; exact Nat.mod_lt _ (by omega)
  have hqb : (a / b * b).toInt = (a / b).toInt * b.toInt := by
    rw [Int64.toInt_mul, hq, Int.mul_comm]
    have : b.toInt * a.toInt.tdiv b.toInt = a.toInt - a.toInt.tmod b.toInt := by omega
    rw [this]
    apply b64 <;> omega
  have hqe : (a / b * b).toInt = a.toInt - a.toInt.tmod b.toInt := by rw [hqb, hq, Int.mul_comm]; omega
  have hr : (a - a / b * b).toInt = a.toInt.tmod b.toInt := by
    rw [Int64.toInt_sub, hqe]
    have : a.toInt - (a.toInt - a.toInt.tmod b.toInt) = a.toInt.tmod b.toInt := by omega
    rw [this]
    apply b64 <;> omega
  have hz : (a - a / b * b = 0) ↔ a.toInt.tmod b.toInt = 0 := by
    rw [← hr, ← Int64.toInt_inj]
    exact Iff.rfl
  have hs : (0 ≤ a) ↔ 0 ≤ a.toInt := by
    rw [Int64.le_iff_toInt_le]
    exact Iff.rfl
  have hsg := Int.tmod_nonneg (a := a.toInt) b.toInt
  have hsn : a.toInt ≤ 0 → a.toInt.tmod b.toInt ≤ 0 := fun h => by
    have := Int.tmod_nonneg (a := -a.toInt) b.toInt (by omega)
    rw [Int.neg_tmod] at this
    omega
  rw [Int.fdiv_eq_ediv_of_nonneg _ (by omega)]
  unfold p_fl
  split
  · rename_i h
    rw [hz, hs] at h
    rw [Int64.toInt_sub, hq, show (1 : Int64).toInt = 1 from rfl, b64 (by omega) (by omega)]
    have h3 := hsn (by omega)
    symm
    rw [Int.ediv_eq_iff_of_pos hb]
    have h4 : (a.toInt.tdiv b.toInt - 1) * b.toInt = b.toInt * a.toInt.tdiv b.toInt - b.toInt := by grind
    omega
  · rename_i h
    rw [hz, hs] at h
    rw [hq]
    symm
    rw [Int.ediv_eq_iff_of_pos hb]
    have h4 : a.toInt.tdiv b.toInt * b.toInt = b.toInt * a.toInt.tdiv b.toInt := Int.mul_comm _ _
    by_cases h5 : 0 ≤ a.toInt
    · have := hsg h5
      omega
    · have : a.toInt.tmod b.toInt = 0 := Classical.byContradiction fun z => h ⟨z, h5⟩
      omega
/-- the nearest even number and the nearest odd one, and how far they are, exactly -/
theorem near_z {n x : Int64} (hn : 0 < n.toInt) (hN : n.toInt < 2 ^ 29) (hx : x.toInt.natAbs < 2 ^ 50) : (d_e n x).toInt = 2 * ((x.toInt + n.toInt).fdiv (2 * n.toInt)) ∧ (d_o n x).toInt = 2 * (x.toInt.fdiv (2 * n.toInt)) + 1 ∧ (d_off n x).toInt = x.toInt - n.toInt * (2 * ((x.toInt + n.toInt).fdiv (2 * n.toInt))) ∧ (d_oth n x).toInt = x.toInt - n.toInt * (2 * (x.toInt.fdiv (2 * n.toInt)) + 1) ∧ (d_off n x).toInt.natAbs ≤ 2 ^ 29 ∧ (d_oth n x).toInt.natAbs ≤ 2 ^ 29 ∧ (x.toInt.fdiv (2 * n.toInt)).natAbs ≤ 2 ^ 50 ∧ ((x.toInt + n.toInt).fdiv (2 * n.toInt)).natAbs ≤ 2 ^ 51 := by
  have h2 : (2 * n).toInt = 2 * n.toInt := by
    rw [Int64.toInt_mul, show (2 : Int64).toInt = 2 from rfl]; apply b64 <;> omega
  have ha : (x + n).toInt = x.toInt + n.toInt := by
    rw [Int64.toInt_add]; apply b64 <;> omega
  have f1 := fl_z (a := x + n) (b := 2 * n) (by omega) (by omega) (by omega)
  have f2 := fl_z (a := x) (b := 2 * n) (by omega) (by omega) (by omega)
  rw [ha, h2] at f1
  rw [h2] at f2
  have hp : 0 < 2 * n.toInt := by omega
  have e1 := Int.mul_fdiv_add_fmod (x.toInt + n.toInt) (2 * n.toInt)
  have e2 := Int.mul_fdiv_add_fmod x.toInt (2 * n.toInt)
  have a1 := Int.fmod_nonneg_of_pos (x.toInt + n.toInt) hp
  have a2 := Int.fmod_lt_of_pos (x.toInt + n.toInt) hp
  have b1 := Int.fmod_nonneg_of_pos x.toInt hp
  have b2 := Int.fmod_lt_of_pos x.toInt hp
  have c1 : ((x.toInt + n.toInt).fdiv (2 * n.toInt)).natAbs ≤ 2 ^ 51 := by
    rw [Int.fdiv_eq_ediv_of_nonneg _ (by omega)]
    have := Int.natAbs_ediv_le_natAbs (x.toInt + n.toInt) (2 * n.toInt)
    omega
  have c2 : (x.toInt.fdiv (2 * n.toInt)).natAbs ≤ 2 ^ 50 := by
    rw [Int.fdiv_eq_ediv_of_nonneg _ (by omega)]
    have := Int.natAbs_ediv_le_natAbs x.toInt (2 * n.toInt)
    omega
  unfold d_e d_o d_off d_oth
  generalize (x.toInt + n.toInt).fdiv (2 * n.toInt) = u at *
  generalize (x.toInt + n.toInt).fmod (2 * n.toInt) = f at *
  generalize x.toInt.fdiv (2 * n.toInt) = v at *
  generalize x.toInt.fmod (2 * n.toInt) = g at *
  generalize p_fl (x + n) (2 * n) = P at *
  generalize p_fl x (2 * n) = Q at *
  have g1 : (2 * P).toInt = 2 * u := by
    rw [Int64.toInt_mul, show (2 : Int64).toInt = 2 from rfl, f1]; apply b64 <;> omega
  have g2 : (2 * Q).toInt = 2 * v := by
    rw [Int64.toInt_mul, show (2 : Int64).toInt = 2 from rfl, f2]; apply b64 <;> omega
  have g3 : (2 * Q + 1).toInt = 2 * v + 1 := by
    rw [Int64.toInt_add, show (1 : Int64).toInt = 1 from rfl, g2]; apply b64 <;> omega
  have g4 : (2 * n * P).toInt = 2 * n.toInt * u := by
    rw [Int64.toInt_mul, h2, f1]; apply b64 <;> omega
  have k1 : n.toInt * (2 * u) = 2 * n.toInt * u := by grind
  have k2 : n.toInt * (2 * v + 1) = 2 * n.toInt * v + n.toInt := by grind
  have g5 : (n * (2 * Q + 1)).toInt = n.toInt * (2 * v + 1) := by
    rw [Int64.toInt_mul, g3]; apply b64 <;> omega
  have g6 : (x - 2 * n * P).toInt = x.toInt - n.toInt * (2 * u) := by
    rw [Int64.toInt_sub, g4, k1]; apply b64 <;> omega
  have g7 : (x - n * (2 * Q + 1)).toInt = x.toInt - n.toInt * (2 * v + 1) := by
    rw [Int64.toInt_sub, g5]; apply b64 <;> omega
  refine ⟨g1, g3, g6, g7, ?_, ?_, c2, c1⟩ <;> omega
