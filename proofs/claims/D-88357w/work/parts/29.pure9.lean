/-! PURE: primitive numbers, in longs -/
set_option maxRecDepth 100000
theorem and1_n (x : Int64) : ((x &&& 1).toBitVec.toNat : Int) = x.toInt % 2 := by
  have h1 : (x &&& 1).toBitVec.toNat = x.toBitVec.toNat % 2 := by
    rw [Int64.toBitVec_and, BitVec.toNat_and]
    exact Nat.and_one_is_mod _
  rw [h1]
  have h2 : x.toInt = x.toBitVec.toInt := rfl
  rw [h2, BitVec.toInt_eq_toNat_cond]
  split <;> omega
theorem par_z {x y : Int64} : (x &&& 1 = y &&& 1) ↔ x.toInt % 2 = y.toInt % 2 := by
  rw [← and1_n, ← and1_n]
  constructor
  · intro h; rw [h]
  · intro h
    exact Int64.toBitVec_inj.mp (BitVec.eq_of_toNat_eq (by omega))
theorem one_z {v : Q4} : q_one v = true ↔ Hz (z4 v) := by
  obtain ⟨a, b, c, d⟩ := v
  rw [Hz_iff]
  simp only [q_one, p_one, Bool.and_eq_true, decide_eq_true_iff, par_z, z4, and_assoc]
theorem dv_z {x : Int64} {m : Nat} (hm : 2 ≤ m) (hM : m < 2 ^ 62) (hx : x.toInt.natAbs < 2 ^ 62) : (x / lN m).toInt = x.toInt.tdiv m ∧ (x - x / lN m * lN m = 0 ↔ x.toInt = m * x.toInt.tdiv m) := by
  have hl : (lN m).toInt = m := pk_lT (by omega)
  have h : (x.toInt.tdiv m).natAbs ≤ x.toInt.natAbs := by
    rw [Int.natAbs_tdiv]; exact Nat.div_le_self _ _
  have hq : (x / lN m).toInt = x.toInt.tdiv m := by
    rw [Int64.toInt_div, hl]
    apply b64 <;> omega
  refine ⟨hq, ?_⟩
  have hid := Int.mul_tdiv_add_tmod x.toInt m
  have hm1 : (x.toInt.tmod m).natAbs ≤ x.toInt.natAbs := by
    rw [Int.natAbs_tmod]; exact Nat.mod_le _ _
  have hqb : (x / lN m * lN m).toInt = m * x.toInt.tdiv m := by
    rw [Int64.toInt_mul, hq, hl, Int.mul_comm]
    apply b64 <;> omega
  rw [← Int64.toInt_inj, Int64.toInt_sub, hqb, show (0 : Int64).toInt = 0 from rfl, b64 (by omega) (by omega)]
  omega
theorem bad_z {v : Q4} {m : Nat} (hm : 2 ≤ m) (hM : m < 2 ^ 62) {B : Nat} (hv : q_bd B v) (hB : B < 2 ^ 62) : badM v.1 v.2.1 v.2.2.1 v.2.2.2 (lN m) ↔ z_dv m (z4 v) := by
  obtain ⟨a, b, c, d⟩ := v
  obtain ⟨h0, h1, h2, h3⟩ := hv
  dsimp only at h0 h1 h2 h3
  obtain ⟨a1, a2⟩ := dv_z hm hM (x := a) (by omega)
  obtain ⟨b1, b2⟩ := dv_z hm hM (x := b) (by omega)
  obtain ⟨c1, c2⟩ := dv_z hm hM (x := c) (by omega)
  obtain ⟨d1, d2⟩ := dv_z hm hM (x := d) (by omega)
  unfold badM
  dsimp only
  rw [a2, b2, c2, d2, par_z, par_z, par_z, a1, b1, c1, d1]
  constructor
  · rintro ⟨⟨e0, e1, e2, e3⟩, g1, g2, g3⟩
    refine ⟨(a.toInt.tdiv m, b.toInt.tdiv m, c.toInt.tdiv m, d.toInt.tdiv m), Hz_iff.mpr ⟨g1, g2, g3⟩, ?_⟩
    simp only [z4, z_sc, Prod.mk.injEq]
    exact ⟨e0, e1, e2, e3⟩
  · rintro ⟨⟨w0, w1, w2, w3⟩, hw, e⟩
    simp only [z4, z_sc, Prod.mk.injEq] at e
    obtain ⟨e0, e1, e2, e3⟩ := e
    have hm0 : (m : Int) ≠ 0 := by omega
    rw [Hz_iff] at hw
    rw [e0, e1, e2, e3, Int.mul_tdiv_cancel_left _ hm0, Int.mul_tdiv_cancel_left _ hm0, Int.mul_tdiv_cancel_left _ hm0, Int.mul_tdiv_cancel_left _ hm0]
    exact ⟨⟨rfl, rfl, rfl, rfl⟩, hw⟩
theorem dv_sq {v : Z4} {m : Nat} (h : z_dv m v) (h0 : 0 < z_sq v) : (m : Int) * m * 4 ≤ z_sq v := by
  obtain ⟨w, hw, rfl⟩ := h
  obtain ⟨k, hk⟩ := z_sq_4 hw
  have e : z_sq (z_sc m w) = m * m * z_sq w := by
    simp only [z_sq, z_sc]; grind
  rw [e] at h0 ⊢
  have h1 : 0 < z_sq w := by
    have h2 := z_sq_nn w
    rcases (show z_sq w = 0 ∨ 0 < z_sq w by omega) with h | h
    · rw [h, Int.mul_zero] at h0; omega
    · exact h
  exact Int.mul_le_mul_of_nonneg_left (by omega) (sq_nn _)
theorem half_z {v : Q4} {B : Nat} (hv : q_bd B v) (hB : B < 2 ^ 62) : (gN v % 2 = 0 ∧ q_one (q_half v) = true) ↔ z_dv 2 (z4 v) := by
  obtain ⟨a, b, c, d⟩ := v
  have hv' := hv
  obtain ⟨h0, h1, h2, h3⟩ := hv
  dsimp only at h0 h1 h2 h3
  have e0 := (dv_z (m := 2) (by decide) (by decide) (x := a) (by omega)).1
  have e1 := (dv_z (m := 2) (by decide) (by decide) (x := b) (by omega)).1
  have e2 := (dv_z (m := 2) (by decide) (by decide) (x := c) (by omega)).1
  have e3 := (dv_z (m := 2) (by decide) (by decide) (x := d) (by omega)).1
  have hz : z4 (q_half (a, b, c, d)) = (a.toInt.tdiv 2, b.toInt.tdiv 2, c.toInt.tdiv 2, d.toInt.tdiv 2) := by
    simp only [z4, q_half, Prod.mk.injEq]
    exact ⟨e0, e1, e2, e3⟩
  rw [one_z, hz]
  constructor
  · rintro ⟨hg, hw⟩
    refine ⟨_, hw, ?_⟩
    have h := Nat.dvd_of_mod_eq_zero hg
    have g1 := Nat.dvd_trans h (Nat.gcd_dvd_left _ _)
    have g2 := Nat.dvd_trans h (Nat.gcd_dvd_right _ _)
    have k0 := Nat.dvd_trans g1 (Nat.gcd_dvd_left _ _)
    have k1 := Nat.dvd_trans g1 (Nat.gcd_dvd_right _ _)
    have k2 := Nat.dvd_trans g2 (Nat.gcd_dvd_left _ _)
    have k3 := Nat.dvd_trans g2 (Nat.gcd_dvd_right _ _)
    dsimp only at k0 k1 k2 k3
    have key : ∀ x : Int, 2 ∣ x.natAbs → x = ((2 : Nat) : Int) * x.tdiv 2 := by
      intro x hx
      have := Int.mul_tdiv_cancel' (Int.ofNat_dvd_left.mpr hx)
      exact this.symm
    simp only [z4, z_sc, Prod.mk.injEq]
    exact ⟨key _ k0, key _ k1, key _ k2, key _ k3⟩
  · intro h
    have hg : 2 ∣ gN (a, b, c, d) := z_dv_g h
    refine ⟨Nat.mod_eq_zero_of_dvd hg, ?_⟩
    obtain ⟨⟨w0, w1, w2, w3⟩, hw, e⟩ := h
    simp only [z4, z_sc, Prod.mk.injEq] at e
    obtain ⟨f0, f1, f2, f3⟩ := e
    rw [f0, f1, f2, f3]
    have key : ∀ x : Int, (((2 : Nat) : Int) * x).tdiv 2 = x := fun x => Int.mul_tdiv_cancel_left _ (by decide)
    rw [key, key, key, key]
    exact hw
/-- PRIMITIVE, both ways -/
theorem prim_al {v : Q4} {P : Nat} (hz : Hz (z4 v)) (h2 : z_sq (z4 v) < 2 ^ 31) (hP : z_sq (z4 v) = 4 * P) : (q_nz v = false ∧ isAl v.1 v.2.1 v.2.2.1 v.2.2.2 P) ↔ m_prim v := by
  obtain ⟨n1, n2⟩ := null_z h2
  have hb := bd_z h2
  unfold m_prim
  rw [n2]
  by_cases hn : q_null v = true
  · rw [hn]; simp
  · have hf : q_null v = false := by simpa using hn
    have hp : 0 < z_sq (z4 v) := by
      have := z_sq_nn (z4 v)
      have h4 : ¬ z_sq (z4 v) = 0 := fun z => hn (n1.mpr z)
      omega
    have hg : 0 < gN v := by
      apply Nat.pos_of_ne_zero
      intro hg
      obtain ⟨a, b, c, d⟩ := gN_0 hg
      exact hn (by simp [q_null, a, b, c, d])
    rw [half_z hb (by decide)]
    have h := al_z hz hg
    rw [show z_g (z4 v) = gN v from rfl] at h
    rw [← h]
    refine and_congr Iff.rfl ?_
    constructor
    · intro ha m hm hd
      have h5 := dv_sq hd hp
      have h6 : ((m * m : Nat) : Int) = (m : Int) * m := by push_cast; rfl
      have h7 : m * m ≤ P := by omega
      have h8 : m ≤ m * m := Nat.le_mul_of_pos_left m (by omega)
      exact ha m hm h7 ((bad_z hm (by omega) hb (by decide)).mpr hd)
    · intro ha m hm hl hd
      have h8 : m ≤ m * m := Nat.le_mul_of_pos_left m (by omega)
      exact ha m hm ((bad_z hm (by omega) hb (by decide)).mp hd)
