/-! PURE: what is left is at most half -/
set_option maxRecDepth 100000
def z_bar (v : Z4) : Z4 := (v.1, -v.2.1, -v.2.2.1, -v.2.2.2)
def z_2 (v : Z4) : Z4 := (2 * v.1, 2 * v.2.1, 2 * v.2.2.1, 2 * v.2.2.2)
def z_sub (v w : Z4) : Z4 := (v.1 - w.1, v.2.1 - w.2.1, v.2.2.1 - w.2.2.1, v.2.2.2 - w.2.2.2)
def z_sc (n : Int) (v : Z4) : Z4 := (n * v.1, n * v.2.1, n * v.2.2.1, n * v.2.2.2)
theorem z_bar_sq (t : Z4) : z_sq (z_bar t) = z_sq t := by
  obtain ⟨a, b, c, d⟩ := t
  simp only [z_sq, z_bar]
  grind
theorem z_2_sq (t : Z4) : z_sq (z_2 t) = 4 * z_sq t := by
  obtain ⟨a, b, c, d⟩ := t
  simp only [z_sq, z_2]
  grind
theorem z_m_subL (s b x : Z4) : z_m (z_sub s b) x = z_sub (z_m s x) (z_m b x) := by
  obtain ⟨s0, s1, s2, s3⟩ := s
  obtain ⟨b0, b1, b2, b3⟩ := b
  obtain ⟨x0, x1, x2, x3⟩ := x
  simp only [z_m, z_sub, Prod.mk.injEq]
  refine ⟨?_, ?_, ?_, ?_⟩ <;> grind
theorem z_m_subR (s b x : Z4) : z_m x (z_sub s b) = z_sub (z_m x s) (z_m x b) := by
  obtain ⟨s0, s1, s2, s3⟩ := s
  obtain ⟨b0, b1, b2, b3⟩ := b
  obtain ⟨x0, x1, x2, x3⟩ := x
  simp only [z_m, z_sub, Prod.mk.injEq]
  refine ⟨?_, ?_, ?_, ?_⟩ <;> grind
theorem z_m_2L (b x : Z4) : z_m (z_2 b) x = z_2 (z_m b x) := by
  obtain ⟨b0, b1, b2, b3⟩ := b
  obtain ⟨x0, x1, x2, x3⟩ := x
  simp only [z_m, z_2, Prod.mk.injEq]
  refine ⟨?_, ?_, ?_, ?_⟩ <;> grind
theorem z_m_2R (b x : Z4) : z_m x (z_2 b) = z_2 (z_m x b) := by
  obtain ⟨b0, b1, b2, b3⟩ := b
  obtain ⟨x0, x1, x2, x3⟩ := x
  simp only [z_m, z_2, Prod.mk.injEq]
  refine ⟨?_, ?_, ?_, ?_⟩ <;> grind
theorem z_m_barR (q t : Z4) : z_m (z_m q t) (z_bar t) = z_sc (z_sq t) q := by
  obtain ⟨q0, q1, q2, q3⟩ := q
  obtain ⟨t0, t1, t2, t3⟩ := t
  simp only [z_m, z_bar, z_sc, z_sq, Prod.mk.injEq]
  refine ⟨?_, ?_, ?_, ?_⟩ <;> grind
theorem z_m_barL (q t : Z4) : z_m (z_bar t) (z_m t q) = z_sc (z_sq t) q := by
  obtain ⟨q0, q1, q2, q3⟩ := q
  obtain ⟨t0, t1, t2, t3⟩ := t
  simp only [z_m, z_bar, z_sc, z_sq, Prod.mk.injEq]
  refine ⟨?_, ?_, ?_, ?_⟩ <;> grind
theorem z_2_eq {v : Z4} {n : Int} {q : Z4} (h : z_2 v = z_sc (4 * n) q) : v = z_sc (2 * n) q := by
  obtain ⟨v0, v1, v2, v3⟩ := v
  obtain ⟨q0, q1, q2, q3⟩ := q
  simp only [z_2, z_sc, Prod.mk.injEq, Int.mul_assoc] at h ⊢
  obtain ⟨h0, h1, h2, h3⟩ := h
  refine ⟨?_, ?_, ?_, ?_⟩ <;> omega
theorem z_sub_2 (w q : Z4) (n : Int) : z_sub (z_2 w) (z_sc (2 * n) q) = z_2 (z_sub w (z_sc n q)) := by
  obtain ⟨w0, w1, w2, w3⟩ := w
  obtain ⟨q0, q1, q2, q3⟩ := q
  simp only [z_sub, z_2, z_sc, Prod.mk.injEq]
  refine ⟨?_, ?_, ?_, ?_⟩ <;> grind
theorem z_R {s t q w b : Z4} {n : Int} (hn : z_sq t = 4 * n) (hw : z_m s (z_bar t) = z_2 w) (hb : z_m q t = z_2 b) : z_m (z_sub s b) (z_bar t) = z_2 (z_sub w (z_sc n q)) := by
  have h : z_2 (z_m b (z_bar t)) = z_sc (4 * n) q := by rw [← z_m_2L, ← hb, z_m_barR, hn]
  rw [z_m_subL, hw, z_2_eq h, z_sub_2]
theorem z_L {s t q w b : Z4} {n : Int} (hn : z_sq t = 4 * n) (hw : z_m (z_bar t) s = z_2 w) (hb : z_m t q = z_2 b) : z_m (z_bar t) (z_sub s b) = z_2 (z_sub w (z_sc n q)) := by
  have h : z_2 (z_m (z_bar t) b) = z_sc (4 * n) q := by rw [← z_m_2R, ← hb, z_m_barL, hn]
  rw [z_m_subR, hw, z_2_eq h, z_sub_2]
theorem z_halfR {s t q w b : Z4} {n : Int} (hn : z_sq t = 4 * n) (hw : z_m s (z_bar t) = z_2 w) (hb : z_m q t = z_2 b) : z_sq (z_sub w (z_sc n q)) = n * z_sq (z_sub s b) := by
  have h := congrArg z_sq (z_R hn hw hb)
  rw [z_mul, z_bar_sq, hn, z_2_sq] at h
  have h2 : z_sq (z_sub s b) * (4 * n) = 4 * (n * z_sq (z_sub s b)) := by grind
  omega
theorem z_halfL {s t q w b : Z4} {n : Int} (hn : z_sq t = 4 * n) (hw : z_m (z_bar t) s = z_2 w) (hb : z_m t q = z_2 b) : z_sq (z_sub w (z_sc n q)) = n * z_sq (z_sub s b) := by
  have h := congrArg z_sq (z_L hn hw hb)
  rw [z_mul, z_bar_sq, hn, z_2_sq] at h
  have h2 : (4 * n) * z_sq (z_sub s b) = 4 * (n * z_sq (z_sub s b)) := by grind
  omega
/-- the nearest even and odd multiples of n: how far they are -/
theorem near_1 {n x : Int} (hn : 0 < n) : ∃ d : Int, 0 ≤ d ∧ d ≤ n ∧ (x - n * (2 * ((x + n).fdiv (2 * n)))) * (x - n * (2 * ((x + n).fdiv (2 * n)))) = d * d ∧ (x - n * (2 * (x.fdiv (2 * n)) + 1)) * (x - n * (2 * (x.fdiv (2 * n)) + 1)) = (n - d) * (n - d) := by
  have h2 : 0 < 2 * n := by omega
  have e1 := Int.mul_fdiv_add_fmod (x + n) (2 * n)
  have e2 := Int.mul_fdiv_add_fmod x (2 * n)
  have a1 := Int.fmod_nonneg_of_pos (x + n) h2
  have a2 := Int.fmod_lt_of_pos (x + n) h2
  have b1 := Int.fmod_nonneg_of_pos x h2
  have b2 := Int.fmod_lt_of_pos x h2
  generalize (x + n).fdiv (2 * n) = u at e1 ⊢
  generalize (x + n).fmod (2 * n) = f at e1 a1 a2
  generalize x.fdiv (2 * n) = v at e2 ⊢
  generalize x.fmod (2 * n) = g at e2 b1 b2
  have k1 : x - n * (2 * u) = f - n := by grind
  have k2 : x - n * (2 * v + 1) = g - n := by grind
  rw [k1, k2]
  -- f = g + n or f = g - n
  have hfg : f = g + n ∨ f = g - n := by
    have h3 : 2 * n * (u - v) = g + n - f := by grind
    rcases (show u - v = 0 ∨ u - v = 1 ∨ u - v ≤ -1 ∨ 2 ≤ u - v by omega) with h | h | h | h
    · left; rw [h] at h3; omega
    · right; rw [h] at h3; omega
    · have : 2 * n * (u - v) ≤ 2 * n * (-1) := Int.mul_le_mul_of_nonneg_left h (by omega)
      omega
    · have : 2 * n * 2 ≤ 2 * n * (u - v) := Int.mul_le_mul_of_nonneg_left h (by omega)
      omega
  rcases hfg with h | h
  · refine ⟨g, b1, by omega, ?_, ?_⟩
    · rw [h]; grind
    · grind
  · refine ⟨2 * n - g, by omega, by omega, ?_, ?_⟩
    · rw [h]; grind
    · grind
theorem near_2 {n d : Int} (h0 : 0 ≤ d) (h1 : d ≤ n) : d * d + (n - d) * (n - d) ≤ n * n := by
  have : 0 ≤ d * (n - d) := Int.mul_nonneg h0 (by omega)
  have h2 : n * n = d * d + (n - d) * (n - d) + 2 * (d * (n - d)) := by grind
  omega
