/-! PURE: the rest's norm -/
set_option maxRecDepth 100000
theorem sq_nn (x : Int) : 0 ≤ x * x := by
  rcases Int.le_total 0 x with h | h
  · exact Int.mul_nonneg h h
  · have : (-x) * (-x) = x * x := by grind
    rw [← this]; exact Int.mul_nonneg (by omega) (by omega)
theorem psq4 {a b c d : Int64} (ha : a.toInt.natAbs ≤ 2 ^ 29) (hb : b.toInt.natAbs ≤ 2 ^ 29) (hc : c.toInt.natAbs ≤ 2 ^ 29) (hd : d.toInt.natAbs ≤ 2 ^ 29) : (0 + a * a + b * b + c * c + d * d).toInt = a.toInt * a.toInt + b.toInt * b.toInt + c.toInt * c.toInt + d.toInt * d.toInt := by
  obtain ⟨-, -, -, -, -, -, -, -, h, -⟩ := pdot ha hb hc hd ha hb hc hd (by decide)
  have : 0 + a * a + b * b + c * c + d * d = a * a + b * b + c * c + d * d := by grind
  rw [this]; exact h
theorem near_half {n : Int64} {w : Q4} (hn : 0 < n.toInt) (hN : n.toInt < 2 ^ 29) {W : Nat} (hw : q_bd W w) (hW : W < 2 ^ 50) : Hz (z4 (nearM n w)) ∧ z_sq (z_sub (z4 w) (z_sc n.toInt (z4 (nearM n w)))) ≤ 2 * (n.toInt * n.toInt) := by
  obtain ⟨w0, w1, w2, w3⟩ := w
  obtain ⟨h0, h1, h2, h3⟩ := hw
  dsimp only at h0 h1 h2 h3
  obtain ⟨e0, o0, x0, y0, p0, q0, -⟩ := near_z hn hN (x := w0) (by omega)
  obtain ⟨e1, o1, x1, y1, p1, q1, -⟩ := near_z hn hN (x := w1) (by omega)
  obtain ⟨e2, o2, x2, y2, p2, q2, -⟩ := near_z hn hN (x := w2) (by omega)
  obtain ⟨e3, o3, x3, y3, p3, q3, -⟩ := near_z hn hN (x := w3) (by omega)
  have sw := psq4 p0 p1 p2 p3
  have sh := psq4 q0 q1 q2 q3
  obtain ⟨d0, k0, m0, a0, b0⟩ := near_1 (x := w0.toInt) hn
  obtain ⟨d1, k1, m1, a1, b1⟩ := near_1 (x := w1.toInt) hn
  obtain ⟨d2, k2, m2, a2, b2⟩ := near_1 (x := w2.toInt) hn
  obtain ⟨d3, k3, m3, a3, b3⟩ := near_1 (x := w3.toInt) hn
  have s0 := near_2 k0 m0
  have s1 := near_2 k1 m1
  have s2 := near_2 k2 m2
  have s3 := near_2 k3 m3
  rw [x0, x1, x2, x3, a0, a1, a2, a3] at sw
  rw [y0, y1, y2, y3, b0, b1, b2, b3] at sh
  unfold nearM
  split
  · rename_i hlt
    rw [Int64.lt_iff_toInt_lt] at hlt
    simp only [d_half, d_whole] at hlt
    rw [sw, sh] at hlt
    refine ⟨⟨w0.toInt.fdiv (2 * n.toInt), w1.toInt.fdiv (2 * n.toInt), w2.toInt.fdiv (2 * n.toInt), w3.toInt.fdiv (2 * n.toInt), 1, ?_, Or.inr rfl⟩, ?_⟩
    · simp only [z4, Prod.mk.injEq]
      exact ⟨o0, o1, o2, o3⟩
    · simp only [z_sq, z_sub, z_sc, z4]
      rw [o0, o1, o2, o3, b0, b1, b2, b3]
      omega
  · rename_i hlt
    rw [Int64.lt_iff_toInt_lt] at hlt
    simp only [d_half, d_whole] at hlt
    rw [sw, sh] at hlt
    refine ⟨⟨(w0.toInt + n.toInt).fdiv (2 * n.toInt), (w1.toInt + n.toInt).fdiv (2 * n.toInt), (w2.toInt + n.toInt).fdiv (2 * n.toInt), (w3.toInt + n.toInt).fdiv (2 * n.toInt), 0, ?_, Or.inl rfl⟩, ?_⟩
    · simp only [z4, Prod.mk.injEq]
      omega
    · simp only [z_sq, z_sub, z_sc, z4]
      rw [e0, e1, e2, e3, a0, a1, a2, a3]
      omega
