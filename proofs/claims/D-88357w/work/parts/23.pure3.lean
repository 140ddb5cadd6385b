/-! PURE: longs that don't overflow -/
set_option maxRecDepth 100000
theorem b64 {z : Int} (h1 : -9223372036854775808 ≤ z) (h2 : z < 9223372036854775808) : z.bmod (2 ^ 64) = z := by
  apply Int.bmod_eq_of_le <;> omega
theorem pm {x y : Int64} {B C : Nat} (hx : x.toInt.natAbs ≤ B) (hy : y.toInt.natAbs ≤ C) (h : B * C < 2 ^ 61) : (x * y).toInt = x.toInt * y.toInt ∧ (x * y).toInt.natAbs ≤ B * C := by
  have h1 : (x.toInt * y.toInt).natAbs ≤ B * C := by rw [Int.natAbs_mul]; exact Nat.mul_le_mul hx hy
  have h2 : (x * y).toInt = x.toInt * y.toInt := by
    rw [Int64.toInt_mul]
    apply b64 <;> omega
  exact ⟨h2, by rw [h2]; exact h1⟩
theorem pa {x y : Int64} {M N : Nat} (hx : x.toInt.natAbs ≤ M) (hy : y.toInt.natAbs ≤ N) (h : M + N < 2 ^ 62) : (x + y).toInt = x.toInt + y.toInt ∧ (x + y).toInt.natAbs ≤ M + N := by
  have h2 : (x + y).toInt = x.toInt + y.toInt := by
    rw [Int64.toInt_add]
    apply b64 <;> omega
  exact ⟨h2, by rw [h2]; omega⟩
theorem ps {x y : Int64} {M N : Nat} (hx : x.toInt.natAbs ≤ M) (hy : y.toInt.natAbs ≤ N) (h : M + N < 2 ^ 62) : (x - y).toInt = x.toInt - y.toInt ∧ (x - y).toInt.natAbs ≤ M + N := by
  have h2 : (x - y).toInt = x.toInt - y.toInt := by
    rw [Int64.toInt_sub]
    apply b64 <;> omega
  exact ⟨h2, by rw [h2]; omega⟩
theorem pn {x : Int64} {M : Nat} (hx : x.toInt.natAbs ≤ M) (h : M < 2 ^ 62) : (-x).toInt = -x.toInt ∧ (-x).toInt.natAbs ≤ M := by
  have h2 : (-x).toInt = -x.toInt := by
    rw [Int64.toInt_neg]
    apply b64 <;> omega
  exact ⟨h2, by rw [h2]; omega⟩
theorem phalf {x : Int64} {r : Int} (h : x.toInt = 2 * r) (hb : x.toInt.natAbs < 2 ^ 62) : (x / 2).toInt = r := by
  rw [Int64.toInt_div, h, show (2 : Int64).toInt = 2 from rfl, Int.mul_tdiv_cancel_left r (by decide)]
  apply b64 <;> omega
theorem pquart {x : Int64} {r : Int} (h : x.toInt = 4 * r) (hb : x.toInt.natAbs < 2 ^ 62) : (x / 4).toInt = r := by
  rw [Int64.toInt_div, h, show (4 : Int64).toInt = 4 from rfl, Int.mul_tdiv_cancel_left r (by decide)]
  apply b64 <;> omega
/-- four products, added up -/
theorem pdot {x1 x2 x3 x4 y1 y2 y3 y4 : Int64} {B C : Nat} (h1 : x1.toInt.natAbs ≤ B) (h2 : x2.toInt.natAbs ≤ B) (h3 : x3.toInt.natAbs ≤ B) (h4 : x4.toInt.natAbs ≤ B) (g1 : y1.toInt.natAbs ≤ C) (g2 : y2.toInt.natAbs ≤ C) (g3 : y3.toInt.natAbs ≤ C) (g4 : y4.toInt.natAbs ≤ C) (h : B * C < 2 ^ 59) :
    (x1 * y1 - x2 * y2 - x3 * y3 - x4 * y4).toInt = x1.toInt * y1.toInt - x2.toInt * y2.toInt - x3.toInt * y3.toInt - x4.toInt * y4.toInt ∧ (x1 * y1 - x2 * y2 - x3 * y3 - x4 * y4).toInt.natAbs ≤ 4 * (B * C)
    ∧ (x1 * y1 + x2 * y2 + x3 * y3 - x4 * y4).toInt = x1.toInt * y1.toInt + x2.toInt * y2.toInt + x3.toInt * y3.toInt - x4.toInt * y4.toInt ∧ (x1 * y1 + x2 * y2 + x3 * y3 - x4 * y4).toInt.natAbs ≤ 4 * (B * C)
    ∧ (x1 * y1 - x2 * y2 + x3 * y3 + x4 * y4).toInt = x1.toInt * y1.toInt - x2.toInt * y2.toInt + x3.toInt * y3.toInt + x4.toInt * y4.toInt ∧ (x1 * y1 - x2 * y2 + x3 * y3 + x4 * y4).toInt.natAbs ≤ 4 * (B * C)
    ∧ (x1 * y1 + x2 * y2 - x3 * y3 + x4 * y4).toInt = x1.toInt * y1.toInt + x2.toInt * y2.toInt - x3.toInt * y3.toInt + x4.toInt * y4.toInt ∧ (x1 * y1 + x2 * y2 - x3 * y3 + x4 * y4).toInt.natAbs ≤ 4 * (B * C)
    ∧ (x1 * y1 + x2 * y2 + x3 * y3 + x4 * y4).toInt = x1.toInt * y1.toInt + x2.toInt * y2.toInt + x3.toInt * y3.toInt + x4.toInt * y4.toInt ∧ (x1 * y1 + x2 * y2 + x3 * y3 + x4 * y4).toInt.natAbs ≤ 4 * (B * C) := by
  obtain ⟨a1, b1⟩ := pm h1 g1 (by omega)
  obtain ⟨a2, b2⟩ := pm h2 g2 (by omega)
  obtain ⟨a3, b3⟩ := pm h3 g3 (by omega)
  obtain ⟨a4, b4⟩ := pm h4 g4 (by omega)
  rw [← a1, ← a2, ← a3, ← a4]
  generalize x1 * y1 = p1 at b1 ⊢
  generalize x2 * y2 = p2 at b2 ⊢
  generalize x3 * y3 = p3 at b3 ⊢
  generalize x4 * y4 = p4 at b4 ⊢
  generalize B * C = M at b1 b2 b3 b4 h ⊢
  obtain ⟨s1, t1⟩ := ps b1 b2 (by omega)
  obtain ⟨s2, t2⟩ := ps t1 b3 (by omega)
  obtain ⟨s3, t3⟩ := ps t2 b4 (by omega)
  obtain ⟨u1, v1⟩ := pa b1 b2 (by omega)
  obtain ⟨u2, v2⟩ := pa v1 b3 (by omega)
  obtain ⟨u3, v3⟩ := ps v2 b4 (by omega)
  obtain ⟨w1, z1⟩ := pa t1 b3 (by omega)
  obtain ⟨w2, z2⟩ := pa z1 b4 (by omega)
  obtain ⟨k1, m1⟩ := ps v1 b3 (by omega)
  obtain ⟨k2, m2⟩ := pa m1 b4 (by omega)
  obtain ⟨k3, m3⟩ := pa v2 b4 (by omega)
  refine ⟨?_, ?_, ?_, ?_, ?_, ?_, ?_, ?_, ?_, ?_⟩ <;> omega
/-- a product of two numbers that are all even or all odd, exactly -/
theorem times_z {p q : Q4} {B C : Nat} (hp : q_bd B p) (hq : q_bd C q) (h : B * C < 2 ^ 59) (zp : Hz (z4 p)) (zq : Hz (z4 q)) : Hz (z4 (q_times p q)) ∧ z_m (z4 p) (z4 q) = (2 * (z4 (q_times p q)).1, 2 * (z4 (q_times p q)).2.1, 2 * (z4 (q_times p q)).2.2.1, 2 * (z4 (q_times p q)).2.2.2) := by
  obtain ⟨r, hr, he⟩ := Hz_mul zp zq
  obtain ⟨r0, r1, r2, r3⟩ := r
  obtain ⟨p0, p1, p2, p3⟩ := p
  obtain ⟨q0, q1, q2, q3⟩ := q
  obtain ⟨hp0, hp1, hp2, hp3⟩ := hp
  obtain ⟨hq0, hq1, hq2, hq3⟩ := hq
  simp only [z4, z_m, Prod.mk.injEq] at he
  obtain ⟨e0, e1, e2, e3⟩ := he
  dsimp only at hp0 hp1 hp2 hp3 hq0 hq1 hq2 hq3
  obtain ⟨a0, b0, -⟩ := pdot hp0 hp1 hp2 hp3 hq0 hq1 hq2 hq3 h
  obtain ⟨-, -, a1, b1, -⟩ := pdot hp0 hp1 hp2 hp3 hq1 hq0 hq3 hq2 h
  obtain ⟨-, -, -, -, a2, b2, -⟩ := pdot hp0 hp1 hp2 hp3 hq2 hq3 hq0 hq1 h
  obtain ⟨-, -, -, -, -, -, a3, b3, -⟩ := pdot hp0 hp1 hp2 hp3 hq3 hq2 hq1 hq0 h
  have f0 := phalf (a0.trans e0) (by omega)
  have f1 := phalf (a1.trans e1) (by omega)
  have f2 := phalf (a2.trans e2) (by omega)
  have f3 := phalf (a3.trans e3) (by omega)
  have hz : z4 (q_times (p0, p1, p2, p3) (q0, q1, q2, q3)) = (r0, r1, r2, r3) := by
    simp only [z4, q_times, Prod.mk.injEq]
    exact ⟨f0, f1, f2, f3⟩
  rw [hz]
  refine ⟨hr, ?_⟩
  simp only [z4, z_m, Prod.mk.injEq]
  exact ⟨e0, e1, e2, e3⟩
