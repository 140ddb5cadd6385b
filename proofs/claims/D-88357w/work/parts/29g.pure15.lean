/-! PURE: what the run of the division ends with -/
set_option maxRecDepth 100000
theorem null_4 {y : Q4} (h : q_null y = true) : z4 y = (0, 0, 0, 0) := by
  obtain ⟨a, b, c, d⟩ := y
  simp only [q_null, Bool.and_eq_true, decide_eq_true_iff] at h
  obtain ⟨⟨⟨rfl, rfl⟩, rfl⟩, rfl⟩ := h
  rfl
/-- the end of the run divides both, on its side, and is small -/
theorem euc_dv {sd : Int32} : ∀ (k : Nat) {x y : Q4}, Hz (z4 x) → Hz (z4 y) → z_sq (z4 x) < 2 ^ 31 → z_sq (z4 y) < 2 ^ 31 → z_sq (z4 y) < 2 ^ k → Hz (z4 (euc sd k x y)) ∧ z_sq (z4 (euc sd k x y)) < 2 ^ 31 ∧ z_ld sd (z4 (euc sd k x y)) (z4 x) ∧ z_ld sd (z4 (euc sd k x y)) (z4 y)
  | 0, x, y, zx, zy, h1, h2, h3 => by
    have h := z_sq_nn (z4 y)
    have e : z4 y = (0, 0, 0, 0) := z_0 (by omega)
    rw [e]
    exact ⟨zx, h1, ld_refl sd _, ld_0 sd _⟩
  | k + 1, x, y, zx, zy, h1, h2, h3 => by
    obtain ⟨e1, e2⟩ := null_z h2
    by_cases h : q_null y = true
    · simp only [euc, h, if_true]
      rw [null_4 h]
      exact ⟨zx, h1, ld_refl sd _, ld_0 sd _⟩
    · have hf : q_null y = false := by simpa using h
      simp only [euc, hf, Bool.false_eq_true, if_false]
      have hp : 0 < z_sq (z4 y) := by
        have := z_sq_nn (z4 y)
        have h4 : ¬ z_sq (z4 y) = 0 := fun z => h (e1.mpr z)
        omega
      have hw := w_bd (sd := sd) (bd_z h1) (bd_z h2) zx zy (by decide) (by decide)
      obtain ⟨n0, n1, zr, hr, q, b, zq, hb, he⟩ := rest_z (bd_z h1) (bd_z h2) zx zy (by decide) (by decide) hp h2 hw (by decide) (fun z => pos_mul z) (by decide)
      have h5 : (2 : Int) ^ (k + 1) = 2 * 2 ^ k := by rw [Int.pow_succ, Int.mul_comm]
      obtain ⟨i1, i2, i3, i4⟩ := euc_dv (sd := sd) k zy zr h2 (by omega) (by omega)
      refine ⟨i1, i2, ?_, i3⟩
      have h6 : z4 x = z_add (z4 (d_r sd x y)) b := by rw [he, z_sub_add]
      rw [h6]
      exact ld_add i4 (ld_mul i3 zq hb)
