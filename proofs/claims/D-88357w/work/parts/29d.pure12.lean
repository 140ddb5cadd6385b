/-! PURE: a point turned -/
set_option maxRecDepth 100000
theorem two_z {p q a r : Int64} {p' q' a' r' e : Int} (hp : p.toInt.natAbs ≤ 46341) (hq : q.toInt.natAbs ≤ 46341) (ha : a.toInt.natAbs ≤ 46341) (hr : r.toInt.natAbs ≤ 46341) (ep : p.toInt = 2 * p' + e) (eq : q.toInt = 2 * q' + e) (ea : a.toInt = 2 * a' + e) (er : r.toInt = 2 * r' + e) : (2 * ((p * q + a * r) / 2).toInt = p.toInt * q.toInt + a.toInt * r.toInt ∧ ((p * q + a * r) / 2).toInt.natAbs ≤ 2 ^ 33) ∧ (2 * ((p * q + -a * r) / 2).toInt = p.toInt * q.toInt - a.toInt * r.toInt ∧ ((p * q + -a * r) / 2).toInt.natAbs ≤ 2 ^ 33) := by
  obtain ⟨x1, b1⟩ := pm hp hq (by decide)
  obtain ⟨x2, b2⟩ := pm ha hr (by decide)
  obtain ⟨x3, b3⟩ := pa b1 b2 (by decide)
  obtain ⟨x4, b4⟩ := ps b1 b2 (by decide)
  have e2 : p * q + -a * r = p * q - a * r := by grind
  rw [e2]
  rw [x1, x2] at x3 x4
  have k3 : p.toInt * q.toInt + a.toInt * r.toInt = 2 * (2 * (p' * q') + e * (p' + q') + 2 * (a' * r') + e * (a' + r') + e * e) := by
    rw [ep, eq, ea, er]; grind
  have k4 : p.toInt * q.toInt - a.toInt * r.toInt = 2 * (2 * (p' * q') + e * (p' + q') - 2 * (a' * r') - e * (a' + r')) := by
    rw [ep, eq, ea, er]; grind
  have f3 := phalf (x3.trans k3) (by omega)
  have f4 := phalf (x4.trans k4) (by omega)
  refine ⟨⟨?_, ?_⟩, ?_, ?_⟩ <;> omega
theorem four_z {p a b c d : Int64} {p' a' b' c' d' e : Int} (hp : p.toInt.natAbs ≤ 46341) (ha : a.toInt.natAbs ≤ 46341) (hb : b.toInt.natAbs ≤ 46341) (hc : c.toInt.natAbs ≤ 46341) (hd : d.toInt.natAbs ≤ 46341) (ep : p.toInt = 2 * p' + e) (ea : a.toInt = 2 * a' + e) (eb : b.toInt = 2 * b' + e) (ec : c.toInt = 2 * c' + e) (ed : d.toInt = 2 * d' + e) : 4 * ((a * a - b * b - c * c - d * d + 2 * p * p) / 4).toInt = a.toInt * a.toInt - b.toInt * b.toInt - c.toInt * c.toInt - d.toInt * d.toInt + 2 * (p.toInt * p.toInt) ∧ ((a * a - b * b - c * c - d * d + 2 * p * p) / 4).toInt.natAbs ≤ 2 ^ 33 := by
  obtain ⟨x1, b1, -⟩ := pdot ha hb hc hd ha hb hc hd (by decide)
  obtain ⟨x2, b2⟩ := pm hp hp (by decide)
  obtain ⟨x3, b3⟩ := pa b2 b2 (by decide)
  obtain ⟨x4, b4⟩ := pa b1 b3 (by decide)
  have e2 : a * a - b * b - c * c - d * d + 2 * p * p = a * a - b * b - c * c - d * d + (p * p + p * p) := by grind
  rw [e2]
  rw [x1, x3, x2] at x4
  have k4 : a.toInt * a.toInt - b.toInt * b.toInt - c.toInt * c.toInt - d.toInt * d.toInt + (p.toInt * p.toInt + p.toInt * p.toInt) = 4 * (a' * a' + a' * e - b' * b' - b' * e - c' * c' - c' * e - d' * d' - d' * e + 2 * (p' * p' + p' * e)) := by
    rw [ep, ea, eb, ec, ed]; grind
  have f4 := pquart (x4.trans k4) (by omega)
  refine ⟨?_, ?_⟩ <;> omega
theorem lin3 {E F G x y z : Int64} (h1 : E.toInt.natAbs ≤ 2 ^ 33) (h2 : F.toInt.natAbs ≤ 2 ^ 33) (h3 : G.toInt.natAbs ≤ 2 ^ 33) (hx : x.toInt.natAbs ≤ 100) (hy : y.toInt.natAbs ≤ 100) (hz : z.toInt.natAbs ≤ 100) : (E * x + F * y + G * z).toInt = E.toInt * x.toInt + F.toInt * y.toInt + G.toInt * z.toInt := by
  obtain ⟨x1, b1⟩ := pm h1 hx (by decide)
  obtain ⟨x2, b2⟩ := pm h2 hy (by decide)
  obtain ⟨x3, b3⟩ := pm h3 hz (by decide)
  obtain ⟨x4, b4⟩ := pa b1 b2 (by decide)
  obtain ⟨x5, b5⟩ := pa b4 b3 (by decide)
  omega
theorem turned_z {v : Q4} (hv : Hz (z4 v)) (hb : q_bd 46341 v) {x y z : Int64} (hx : x.toInt.natAbs ≤ 100) (hy : y.toInt.natAbs ≤ 100) (hz : z.toInt.natAbs ≤ 100) {i : Nat} (hi : i < 3) : q_part (q_times (q_times v (0, 2 * x, 2 * y, 2 * z)) (q_mirror v)) (nI (i + 1)) / 2 = v_ent v i 0 * x + v_ent v i 1 * y + v_ent v i 2 * z := by
  obtain ⟨hm, hmb⟩ := z_mirror hb (by decide)
  have zm : Hz (z4 (q_mirror v)) := by rw [hm]; exact Hz_bar hv
  have g : ∀ t : Int64, t.toInt.natAbs ≤ 100 → (2 * t).toInt = 2 * t.toInt := by
    intro t ht
    rw [Int64.toInt_mul, show (2 : Int64).toInt = 2 from rfl]; apply b64 <;> omega
  have gx := g x hx
  have gy := g y hy
  have gz := g z hz
  have hu : q_bd 200 (0, 2 * x, 2 * y, 2 * z) := ⟨Nat.zero_le _, by dsimp only; omega, by dsimp only; omega, by dsimp only; omega⟩
  have ez : z4 (0, 2 * x, 2 * y, 2 * z) = (0, 2 * x.toInt, 2 * y.toInt, 2 * z.toInt) := by
    simp only [z4, Prod.mk.injEq]; exact ⟨rfl, gx, gy, gz⟩
  have zu : Hz (z4 (0, 2 * x, 2 * y, 2 * z)) := by
    rw [ez]; exact ⟨0, x.toInt, y.toInt, z.toInt, 0, by simp, Or.inl rfl⟩
  obtain ⟨z1, m1⟩ := times_z hb hu (by decide) hv zu
  have bd1 := times_bd hb hu (by decide) hv zu
  obtain ⟨z2, m2⟩ := times_z bd1 hmb (by decide) z1 zm
  have bd2 := times_bd bd1 hmb (by decide) z1 zm
  rw [ez] at m1
  rw [hm] at m2
  generalize q_times v (0, 2 * x, 2 * y, 2 * z) = r1 at *
  generalize q_times r1 (q_mirror v) = r2 at *
  obtain ⟨a', b', c', d', e, hq, he⟩ := hv
  obtain ⟨a, b, c, d⟩ := v
  obtain ⟨s0, s1, s2, s3⟩ := r1
  obtain ⟨t0, t1, t2, t3⟩ := r2
  obtain ⟨h0, h1, h2, h3⟩ := hb
  obtain ⟨-, u1, u2, u3⟩ := bd2
  dsimp only at h0 h1 h2 h3 u1 u2 u3
  simp only [z4, z_m, z_bar, Prod.mk.injEq] at hq m1 m2
  obtain ⟨ea, eb, ec, ed⟩ := hq
  obtain ⟨n0, n1, n2, n3⟩ := m1
  obtain ⟨-, o1, o2, o3⟩ := m2
  rcases (show i = 0 ∨ i = 1 ∨ i = 2 by omega) with rfl | rfl | rfl
  · have w0 : v_ent (a, b, c, d) 0 0 = (a * a - b * b - c * c - d * d + 2 * b * b) / 4 := rfl
    obtain ⟨E0, B0⟩ := four_z h1 h0 h1 h2 h3 eb ea eb ec ed
    have w1 : v_ent (a, b, c, d) 0 1 = (b * c + -a * d) / 2 := rfl
    obtain ⟨-, E1, B1⟩ := two_z h1 h2 h0 h3 eb ec ea ed
    have w2 : v_ent (a, b, c, d) 0 2 = (b * d + a * c) / 2 := rfl
    obtain ⟨⟨E2, B2⟩, -⟩ := two_z h1 h3 h0 h2 eb ed ea ec
    rw [← w0] at E0 B0
    rw [← w1] at E1 B1
    rw [← w2] at E2 B2
    have pt : q_part (t0, t1, t2, t3) (nI (0 + 1)) = t1 := rfl
    rw [pt]
    apply Int64.toInt_inj.mp
    rw [lin3 B0 B1 B2 hx hy hz]
    generalize v_ent (a, b, c, d) 0 0 = V0 at *
    generalize v_ent (a, b, c, d) 0 1 = V1 at *
    generalize v_ent (a, b, c, d) 0 2 = V2 at *
    clear w0 w1 w2 ea eb ec ed z1 z2 zu zm hm hmb hu bd1
    have k : 4 * t1.toInt = -(2 * s0.toInt) * b.toInt + (2 * s1.toInt) * a.toInt - (2 * s2.toInt) * d.toInt + (2 * s3.toInt) * c.toInt := by clear n0 n1 n2 n3 E0 E1 E2; grind
    rw [← n0, ← n1, ← n2, ← n3] at k
    have k2 : 8 * (V0.toInt * x.toInt + V1.toInt * y.toInt + V2.toInt * z.toInt) = 2 * (4 * V0.toInt) * x.toInt + 4 * (2 * V1.toInt) * y.toInt + 4 * (2 * V2.toInt) * z.toInt := by clear k n0 n1 n2 n3 E0 E1 E2 o1 o2 o3; grind
    rw [E0, E1, E2] at k2
    have k3 : 4 * t1.toInt = 8 * (V0.toInt * x.toInt + V1.toInt * y.toInt + V2.toInt * z.toInt) := by rw [k, k2]; clear k k2 n0 n1 n2 n3 E0 E1 E2 o1 o2 o3; grind
    exact phalf (by omega) (by omega)
  · have w0 : v_ent (a, b, c, d) 1 0 = (c * b + a * d) / 2 := rfl
    obtain ⟨⟨E0, B0⟩, -⟩ := two_z h2 h1 h0 h3 ec eb ea ed
    have w1 : v_ent (a, b, c, d) 1 1 = (a * a - b * b - c * c - d * d + 2 * c * c) / 4 := rfl
    obtain ⟨E1, B1⟩ := four_z h2 h0 h1 h2 h3 ec ea eb ec ed
    have w2 : v_ent (a, b, c, d) 1 2 = (c * d + -a * b) / 2 := rfl
    obtain ⟨-, E2, B2⟩ := two_z h2 h3 h0 h1 ec ed ea eb
    rw [← w0] at E0 B0
    rw [← w1] at E1 B1
    rw [← w2] at E2 B2
    have pt : q_part (t0, t1, t2, t3) (nI (1 + 1)) = t2 := rfl
    rw [pt]
    apply Int64.toInt_inj.mp
    rw [lin3 B0 B1 B2 hx hy hz]
    generalize v_ent (a, b, c, d) 1 0 = V0 at *
    generalize v_ent (a, b, c, d) 1 1 = V1 at *
    generalize v_ent (a, b, c, d) 1 2 = V2 at *
    clear w0 w1 w2 ea eb ec ed z1 z2 zu zm hm hmb hu bd1
    have k : 4 * t2.toInt = -(2 * s0.toInt) * c.toInt + (2 * s1.toInt) * d.toInt + (2 * s2.toInt) * a.toInt - (2 * s3.toInt) * b.toInt := by clear n0 n1 n2 n3 E0 E1 E2; grind
    rw [← n0, ← n1, ← n2, ← n3] at k
    have k2 : 8 * (V0.toInt * x.toInt + V1.toInt * y.toInt + V2.toInt * z.toInt) = 4 * (2 * V0.toInt) * x.toInt + 2 * (4 * V1.toInt) * y.toInt + 4 * (2 * V2.toInt) * z.toInt := by clear k n0 n1 n2 n3 E0 E1 E2 o1 o2 o3; grind
    rw [E0, E1, E2] at k2
    have k3 : 4 * t2.toInt = 8 * (V0.toInt * x.toInt + V1.toInt * y.toInt + V2.toInt * z.toInt) := by rw [k, k2]; clear k k2 n0 n1 n2 n3 E0 E1 E2 o1 o2 o3; grind
    exact phalf (by omega) (by omega)
  · have w0 : v_ent (a, b, c, d) 2 0 = (d * b + -a * c) / 2 := rfl
    obtain ⟨-, E0, B0⟩ := two_z h3 h1 h0 h2 ed eb ea ec
    have w1 : v_ent (a, b, c, d) 2 1 = (d * c + a * b) / 2 := rfl
    obtain ⟨⟨E1, B1⟩, -⟩ := two_z h3 h2 h0 h1 ed ec ea eb
    have w2 : v_ent (a, b, c, d) 2 2 = (a * a - b * b - c * c - d * d + 2 * d * d) / 4 := rfl
    obtain ⟨E2, B2⟩ := four_z h3 h0 h1 h2 h3 ed ea eb ec ed
    rw [← w0] at E0 B0
    rw [← w1] at E1 B1
    rw [← w2] at E2 B2
    have pt : q_part (t0, t1, t2, t3) (nI (2 + 1)) = t3 := rfl
    rw [pt]
    apply Int64.toInt_inj.mp
    rw [lin3 B0 B1 B2 hx hy hz]
    generalize v_ent (a, b, c, d) 2 0 = V0 at *
    generalize v_ent (a, b, c, d) 2 1 = V1 at *
    generalize v_ent (a, b, c, d) 2 2 = V2 at *
    clear w0 w1 w2 ea eb ec ed z1 z2 zu zm hm hmb hu bd1
    have k : 4 * t3.toInt = -(2 * s0.toInt) * d.toInt - (2 * s1.toInt) * c.toInt + (2 * s2.toInt) * b.toInt + (2 * s3.toInt) * a.toInt := by clear n0 n1 n2 n3 E0 E1 E2; grind
    rw [← n0, ← n1, ← n2, ← n3] at k
    have k2 : 8 * (V0.toInt * x.toInt + V1.toInt * y.toInt + V2.toInt * z.toInt) = 4 * (2 * V0.toInt) * x.toInt + 4 * (2 * V1.toInt) * y.toInt + 2 * (4 * V2.toInt) * z.toInt := by clear k n0 n1 n2 n3 E0 E1 E2 o1 o2 o3; grind
    rw [E0, E1, E2] at k2
    have k3 : 4 * t3.toInt = 8 * (V0.toInt * x.toInt + V1.toInt * y.toInt + V2.toInt * z.toInt) := by rw [k, k2]; clear k k2 n0 n1 n2 n3 E0 E1 E2 o1 o2 o3; grind
    exact phalf (by omega) (by omega)
