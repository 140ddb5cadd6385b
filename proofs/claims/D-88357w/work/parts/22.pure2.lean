/-! PURE: whole numbers in four parts (doubled) -/
set_option maxRecDepth 100000
abbrev Z4 : Type := Int × Int × Int × Int
def z4 (v : Q4) : Z4 := (v.1.toInt, v.2.1.toInt, v.2.2.1.toInt, v.2.2.2.toInt)
def z_sq (v : Z4) : Int := v.1 * v.1 + v.2.1 * v.2.1 + v.2.2.1 * v.2.2.1 + v.2.2.2 * v.2.2.2
/-- the four forms of a product, twice the doubled parts -/
def z_m (p q : Z4) : Z4 := (p.1 * q.1 - p.2.1 * q.2.1 - p.2.2.1 * q.2.2.1 - p.2.2.2 * q.2.2.2, p.1 * q.2.1 + p.2.1 * q.1 + p.2.2.1 * q.2.2.2 - p.2.2.2 * q.2.2.1, p.1 * q.2.2.1 - p.2.1 * q.2.2.2 + p.2.2.1 * q.1 + p.2.2.2 * q.2.1, p.1 * q.2.2.2 + p.2.1 * q.2.2.1 - p.2.2.1 * q.2.1 + p.2.2.2 * q.1)
/-- all even or all odd -/
def Hz (v : Z4) : Prop := ∃ (x y z w e : Int), v = (2 * x + e, 2 * y + e, 2 * z + e, 2 * w + e) ∧ (e = 0 ∨ e = 1)
theorem z_mul (p q : Z4) : z_sq (z_m p q) = z_sq p * z_sq q := by
  obtain ⟨a, b, c, d⟩ := p
  obtain ⟨e, f, g, h⟩ := q
  simp only [z_sq, z_m]
  grind
theorem z_sq_4 {v : Z4} (h : Hz v) : ∃ k, z_sq v = 4 * k := by
  obtain ⟨x, y, z, w, e, rfl, he⟩ := h
  refine ⟨x * x + y * y + z * z + w * w + (x + y + z + w) * e + e * e, ?_⟩
  simp only [z_sq]
  grind
/-- a product of two such numbers: its doubled parts are whole, and again all even or all odd -/
theorem Hz_mul {p q : Z4} (hp : Hz p) (hq : Hz q) : ∃ r : Z4, Hz r ∧ z_m p q = (2 * r.1, 2 * r.2.1, 2 * r.2.2.1, 2 * r.2.2.2) := by
  obtain ⟨a, b, c, d, e, rfl, he⟩ := hp
  obtain ⟨x, y, z, w, f, rfl, hf⟩ := hq
  -- the first doubled part; the others differ from it by even numbers
  let r0 : Int := 2 * (a * x - b * y - c * z - d * w) + (a - b - c - d) * f + (x - y - z - w) * e - e * f
  let r1 : Int := 2 * (a * y + b * x + c * w - d * z) + (a + b + c - d) * f + (x + y - z + w) * e + e * f
  let r2 : Int := 2 * (a * z - b * w + c * x + d * y) + (a - b + c + d) * f + (x + y + z - w) * e + e * f
  let r3 : Int := 2 * (a * w + b * z - c * y + d * x) + (a + b - c + d) * f + (x - y + z + w) * e + e * f
  have h01 : ∃ k, r1 - r0 = 2 * k := ⟨(a * y + b * x + c * w - d * z) - (a * x - b * y - c * z - d * w) + (b + c) * f + (y + w) * e + e * f, by grind⟩
  have h02 : ∃ k, r2 - r0 = 2 * k := ⟨(a * z - b * w + c * x + d * y) - (a * x - b * y - c * z - d * w) + (c + d) * f + (y + z) * e + e * f, by grind⟩
  have h03 : ∃ k, r3 - r0 = 2 * k := ⟨(a * w + b * z - c * y + d * x) - (a * x - b * y - c * z - d * w) + (b + d) * f + (z + w) * e + e * f, by grind⟩
  refine ⟨(r0, r1, r2, r3), ?_, ?_⟩
  · obtain ⟨k1, h1⟩ := h01
    obtain ⟨k2, h2⟩ := h02
    obtain ⟨k3, h3⟩ := h03
    rcases (show r0 % 2 = 0 ∨ r0 % 2 = 1 by omega) with h | h
    · refine ⟨r0 / 2, r0 / 2 + k1, r0 / 2 + k2, r0 / 2 + k3, 0, ?_, Or.inl rfl⟩
      simp only [Prod.mk.injEq]
      refine ⟨?_, ?_, ?_, ?_⟩ <;> omega
    · refine ⟨r0 / 2, r0 / 2 + k1, r0 / 2 + k2, r0 / 2 + k3, 1, ?_, Or.inr rfl⟩
      simp only [Prod.mk.injEq]
      refine ⟨?_, ?_, ?_, ?_⟩ <;> omega
  · simp only [z_m, Prod.mk.injEq]
    refine ⟨?_, ?_, ?_, ?_⟩ <;> grind
