/-! PURE: primitive numbers -/
set_option maxRecDepth 100000
theorem Hz_iff {v : Z4} : Hz v ↔ v.2.1 % 2 = v.1 % 2 ∧ v.2.2.1 % 2 = v.1 % 2 ∧ v.2.2.2 % 2 = v.1 % 2 := by
  obtain ⟨a, b, c, d⟩ := v
  constructor
  · rintro ⟨x, y, z, w, e, h, he⟩
    simp only [Prod.mk.injEq] at h
    dsimp only
    omega
  · intro h
    dsimp only at h
    refine ⟨a / 2, b / 2, c / 2, d / 2, a % 2, ?_, by omega⟩
    simp only [Prod.mk.injEq]
    omega
def z_dv (m : Nat) (v : Z4) : Prop := ∃ w, Hz w ∧ v = z_sc m w
def z_g (v : Z4) : Nat := Nat.gcd (Nat.gcd v.1.natAbs v.2.1.natAbs) (Nat.gcd v.2.2.1.natAbs v.2.2.2.natAbs)
theorem odd_or : ∀ g : Nat, 0 < g → (∃ k, g = 2 ^ k) ∨ ∃ d, d % 2 = 1 ∧ 3 ≤ d ∧ d ∣ g := by
  intro g
  induction g using Nat.strongRecOn with
  | _ g ih =>
    intro h
    by_cases h2 : g % 2 = 0
    · rcases ih (g / 2) (by omega) (by omega) with ⟨k, hk⟩ | ⟨d, h3, h4, h5⟩
      · exact Or.inl ⟨k + 1, by rw [Nat.pow_succ, ← hk]; omega⟩
      · exact Or.inr ⟨d, h3, h4, Nat.dvd_trans h5 ⟨2, by omega⟩⟩
    · by_cases h1 : g = 1
      · exact Or.inl ⟨0, h1⟩
      · exact Or.inr ⟨g, by omega, by omega, Nat.dvd_refl g⟩
theorem odd_pow {d k : Nat} (h : d ∣ 2 ^ k) (ho : d % 2 = 1) : d = 1 := by
  have := Nat.Coprime.dvd_of_dvd_mul_right (k := d) (n := 2 ^ k) (m := 1) (Nat.Coprime.pow_right k (by
    rw [Nat.coprime_comm, Nat.coprime_iff_gcd_eq_one, Nat.gcd_rec, ho]; rfl)) (by simpa using h)
  exact Nat.dvd_one.mp this
theorem z_dv_g {m : Nat} {v : Z4} (h : z_dv m v) : m ∣ z_g v := by
  obtain ⟨w, -, rfl⟩ := h
  simp only [z_g, z_sc, Int.natAbs_mul, Int.natAbs_natCast]
  exact Nat.dvd_gcd (Nat.dvd_gcd ⟨_, rfl⟩ ⟨_, rfl⟩) (Nat.dvd_gcd ⟨_, rfl⟩ ⟨_, rfl⟩)
theorem z_dv_odd {m : Nat} {v : Z4} (hv : Hz v) (h : m ∣ z_g v) (ho : m % 2 = 1) : z_dv m v := by
  have h1 := Nat.dvd_trans h (Nat.gcd_dvd_left _ _)
  have h2 := Nat.dvd_trans h (Nat.gcd_dvd_right _ _)
  obtain ⟨w0, e0⟩ := Int.ofNat_dvd_left.mpr (Nat.dvd_trans h1 (Nat.gcd_dvd_left _ _))
  obtain ⟨w1, e1⟩ := Int.ofNat_dvd_left.mpr (Nat.dvd_trans h1 (Nat.gcd_dvd_right _ _))
  obtain ⟨w2, e2⟩ := Int.ofNat_dvd_left.mpr (Nat.dvd_trans h2 (Nat.gcd_dvd_left _ _))
  obtain ⟨w3, e3⟩ := Int.ofNat_dvd_left.mpr (Nat.dvd_trans h2 (Nat.gcd_dvd_right _ _))
  obtain ⟨a, b, c, d⟩ := v
  dsimp only at e0 e1 e2 e3
  rw [Hz_iff] at hv
  dsimp only at hv
  have key : ∀ x y : Int, x = m * y → x % 2 = y % 2 := by
    intro x y hx
    rw [hx, Int.mul_emod, show (m : Int) % 2 = 1 by omega, Int.one_mul, Int.emod_emod_of_dvd _ (by decide)]
  have k0 := key _ _ e0
  have k1 := key _ _ e1
  have k2 := key _ _ e2
  have k3 := key _ _ e3
  refine ⟨(w0, w1, w2, w3), Hz_iff.mpr (by dsimp only; omega), ?_⟩
  simp only [z_sc, Prod.mk.injEq]
  exact ⟨e0, e1, e2, e3⟩
theorem z_dv_half {m : Nat} {v : Z4} (h : z_dv (2 * m) v) : z_dv 2 v := by
  obtain ⟨w, hw, rfl⟩ := h
  obtain ⟨x, y, z, u, e, rfl, he⟩ := hw
  refine ⟨z_sc m (2 * x + e, 2 * y + e, 2 * z + e, 2 * u + e), ?_, ?_⟩
  · rw [Hz_iff]
    simp only [z_sc]
    have key : ∀ t : Int, (m * (2 * t + e)) % 2 = (m * e) % 2 := by
      intro t
      have : (m : Int) * (2 * t + e) = 2 * (m * t) + m * e := by grind
      omega
    rw [key, key, key, key]
    exact ⟨rfl, rfl, rfl⟩
  · simp only [z_sc, Prod.mk.injEq]
    refine ⟨?_, ?_, ?_, ?_⟩ <;> (push_cast; grind)
theorem al_z {v : Z4} (hv : Hz v) (h0 : 0 < z_g v) : (∀ m : Nat, 2 ≤ m → ¬ z_dv m v) ↔ ((∃ k, z_g v = 2 ^ k) ∧ ¬ z_dv 2 v) := by
  constructor
  · intro h
    refine ⟨?_, h 2 (Nat.le_refl 2)⟩
    rcases odd_or _ h0 with hk | ⟨d, h1, h2, h3⟩
    · exact hk
    · exact absurd (z_dv_odd hv h3 h1) (h d (by omega))
  · rintro ⟨⟨k, hk⟩, h2⟩ m hm hz
    rcases (show m % 2 = 0 ∨ m % 2 = 1 by omega) with h | h
    · exact h2 (z_dv_half (m := m / 2) (by rw [show 2 * (m / 2) = m by omega]; exact hz))
    · have h3 := z_dv_g hz
      rw [hk] at h3
      have := odd_pow h3 h
      omega
