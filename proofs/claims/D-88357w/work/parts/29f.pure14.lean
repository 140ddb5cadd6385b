/-! PURE: one-sided divisors -/
set_option maxRecDepth 100000
theorem z_m_assoc (a b c : Z4) : z_m (z_m a b) c = z_m a (z_m b c) := by
  obtain ⟨a0, a1, a2, a3⟩ := a
  obtain ⟨b0, b1, b2, b3⟩ := b
  obtain ⟨c0, c1, c2, c3⟩ := c
  simp only [z_m, Prod.mk.injEq]
  refine ⟨?_, ?_, ?_, ?_⟩ <;> grind
def z_add (v w : Z4) : Z4 := (v.1 + w.1, v.2.1 + w.2.1, v.2.2.1 + w.2.2.1, v.2.2.2 + w.2.2.2)
theorem z_m_addL (s b x : Z4) : z_m (z_add s b) x = z_add (z_m s x) (z_m b x) := by
  obtain ⟨s0, s1, s2, s3⟩ := s
  obtain ⟨b0, b1, b2, b3⟩ := b
  obtain ⟨x0, x1, x2, x3⟩ := x
  simp only [z_m, z_add, Prod.mk.injEq]
  refine ⟨?_, ?_, ?_, ?_⟩ <;> grind
theorem z_m_addR (s b x : Z4) : z_m x (z_add s b) = z_add (z_m x s) (z_m x b) := by
  obtain ⟨s0, s1, s2, s3⟩ := s
  obtain ⟨b0, b1, b2, b3⟩ := b
  obtain ⟨x0, x1, x2, x3⟩ := x
  simp only [z_m, z_add, Prod.mk.injEq]
  refine ⟨?_, ?_, ?_, ?_⟩ <;> grind
theorem z_2_inj {v w : Z4} (h : z_2 v = z_2 w) : v = w := by
  obtain ⟨s0, s1, s2, s3⟩ := v
  obtain ⟨b0, b1, b2, b3⟩ := w
  simp only [z_2, Prod.mk.injEq] at h ⊢
  omega
theorem z_2_add (v w : Z4) : z_2 (z_add v w) = z_add (z_2 v) (z_2 w) := by
  obtain ⟨s0, s1, s2, s3⟩ := v
  obtain ⟨b0, b1, b2, b3⟩ := w
  simp only [z_2, z_add, Prod.mk.injEq]
  omega
theorem z_sub_add (v w : Z4) : z_add (z_sub v w) w = v := by
  obtain ⟨s0, s1, s2, s3⟩ := v
  obtain ⟨b0, b1, b2, b3⟩ := w
  simp only [z_sub, z_add, Prod.mk.injEq]
  omega
theorem Hz_add {v w : Z4} (h : Hz v) (g : Hz w) : Hz (z_add v w) := by
  rw [Hz_iff] at *
  simp only [z_add]
  omega
/-- f divides v, on a side -/
def z_ld (sd : Int32) (f v : Z4) : Prop := ∃ w, Hz w ∧ (if sd = 0 then z_m w f else z_m f w) = z_2 v
theorem ld_refl (sd : Int32) (f : Z4) : z_ld sd f f := by
  refine ⟨(2, 0, 0, 0), ⟨1, 0, 0, 0, 0, by simp, Or.inl rfl⟩, ?_⟩
  obtain ⟨a, b, c, d⟩ := f
  split <;> simp only [z_m, z_2, Prod.mk.injEq] <;> omega
theorem ld_0 (sd : Int32) (f : Z4) : z_ld sd f (0, 0, 0, 0) := by
  refine ⟨(0, 0, 0, 0), ⟨0, 0, 0, 0, 0, by simp, Or.inl rfl⟩, ?_⟩
  obtain ⟨a, b, c, d⟩ := f
  split <;> simp only [z_m, z_2, Prod.mk.injEq] <;> omega
theorem ld_add {sd : Int32} {f v w : Z4} (h : z_ld sd f v) (g : z_ld sd f w) : z_ld sd f (z_add v w) := by
  obtain ⟨a, ha, ea⟩ := h
  obtain ⟨b, hb, eb⟩ := g
  refine ⟨z_add a b, Hz_add ha hb, ?_⟩
  rw [z_2_add, ← ea, ← eb]
  split
  · rw [z_m_addL]
  · rw [z_m_addR]
theorem ld_mul {sd : Int32} {f y q b : Z4} (h : z_ld sd f y) (zq : Hz q) (hb : (if sd = 0 then z_m q y else z_m y q) = z_2 b) : z_ld sd f b := by
  obtain ⟨w, hw, e⟩ := h
  by_cases hs : sd = 0
  · rw [if_pos hs] at e hb
    obtain ⟨u, zu, hu⟩ := Hz_mul zq hw
    have hu : z_m q w = z_2 u := hu
    refine ⟨u, zu, ?_⟩
    rw [if_pos hs]
    apply z_2_inj
    rw [← z_m_2L, ← hu, z_m_assoc, e, z_m_2R, hb]
  · rw [if_neg hs] at e hb
    obtain ⟨u, zu, hu⟩ := Hz_mul hw zq
    have hu : z_m w q = z_2 u := hu
    refine ⟨u, zu, ?_⟩
    rw [if_neg hs]
    apply z_2_inj
    rw [← z_m_2R, ← hu, ← z_m_assoc, e, z_m_2L, hb]
