/-! PURE: exact division -/
set_option maxRecDepth 100000
theorem sc_sub (n : Int) (v w : Z4) : z_sub (z_sc n v) (z_sc n w) = z_sc n (z_sub v w) := by
  obtain ⟨a, b, c, d⟩ := v
  obtain ⟨e, f, g, h⟩ := w
  simp only [z_sub, z_sc, Prod.mk.injEq]
  refine ⟨?_, ?_, ?_, ?_⟩ <;> grind
theorem sc_sq (n : Int) (v : Z4) : z_sq (z_sc n v) = n * n * z_sq v := by
  obtain ⟨a, b, c, d⟩ := v
  simp only [z_sq, z_sc]; grind
theorem near_exact {n : Int64} {W : Q4} {w : Z4} {B : Nat} (hn : 0 < n.toInt) (hN : n.toInt < 2 ^ 29) (hB : q_bd B W) (hBB : B < 2 ^ 50) (hw : Hz w) (he : z4 W = z_sc n.toInt w) : z4 (nearM n W) = w := by
  obtain ⟨zq, h⟩ := near_half hn hN hB hBB
  rw [he, sc_sub, sc_sq] at h
  have hp : 0 < n.toInt * n.toInt := Int.mul_pos hn hn
  have h2 : z_sq (z_sub w (z4 (nearM n W))) ≤ 2 := by
    refine Int.le_of_mul_le_mul_left (a := n.toInt * n.toInt) ?_ hp
    omega
  obtain ⟨k, hk⟩ := z_sq_4 (Hz_sub hw zq)
  have h3 := z_sq_nn (z_sub w (z4 (nearM n W)))
  have h4 := z_0 (show z_sq (z_sub w (z4 (nearM n W))) = 0 by omega)
  generalize z4 (nearM n W) = q at h4 ⊢
  obtain ⟨a, b, c, d⟩ := w
  obtain ⟨e, f, g, h⟩ := q
  simp only [z_sub, Prod.mk.injEq] at h4 ⊢
  omega
