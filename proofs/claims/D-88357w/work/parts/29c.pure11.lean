/-! PURE: the entries of a turn -/
theorem div24 {x : Int64} (h : x.toInt.natAbs < 2 ^ 60) : (2 * x) / 4 = x / 2 := by
  apply Int64.toInt_inj.mp
  have e : (2 * x).toInt = 2 * x.toInt := by
    rw [Int64.toInt_mul, show (2 : Int64).toInt = 2 from rfl]; apply b64 <;> omega
  rw [Int64.toInt_div, Int64.toInt_div, e, show (2 : Int64).toInt = 2 from rfl, show (4 : Int64).toInt = 2 * 2 from rfl, Int.mul_tdiv_mul_of_pos _ _ (by decide)]
def v_ent (v : Q4) (i j : Nat) : Int64 :=
  if i = j then (v.1 * v.1 - v.2.1 * v.2.1 - v.2.2.1 * v.2.2.1 - v.2.2.2 * v.2.2.2 + 2 * q_part v (nI (i + 1)) * q_part v (nI (i + 1))) / 4
  else (q_part v (nI (i + 1)) * q_part v (nI (j + 1)) + (if j = (i + 1) % 3 then -v.1 * q_part v (nI (3 - i - j + 1)) else v.1 * q_part v (nI (3 - i - j + 1)))) / 2
theorem part_g (g : AI) (s i : Nat) (hi : i < 3) : q_part (rq g s) (nI (i + 1)) = (g (4 * s + 1 + i)).toInt64 := by
  rcases (show i = 0 ∨ i = 1 ∨ i = 2 by omega) with rfl | rfl | rfl
  · rfl
  · rfl
  · rfl
theorem ent_g (g : AI) (s i j : Nat) (hi : i < 3) (hj : j < 3) : m_ent g s i j = v_ent (rq g s) i j := by
  unfold m_ent v_ent
  rw [part_g g s i hi, part_g g s j hj]
  by_cases h : i = j
  · rw [if_pos h, if_pos h]
  · rw [if_neg h, if_neg h, part_g g s (3 - i - j) (by omega)]
    rfl
theorem part_bd {v : Q4} {B : Nat} (h : q_bd B v) (k : Int32) : (q_part v k).toInt.natAbs ≤ B := by
  obtain ⟨h0, h1, h2, h3⟩ := h
  unfold q_part
  split
  · exact h0
  · split
    · exact h1
    · split
      · exact h2
      · exact h3
theorem ent_c {v : Q4} {i j : Nat} (hi : i < 3) (hj : j < 3) (hv : q_bd 46341 v) : c_ent v i j / 4 = v_ent v i j := by
  unfold c_ent v_ent
  have e : ∀ k : Nat, nI k + 1 = nI (k + 1) := fun k => nI_add k 1
  rw [e, e, e]
  by_cases h : i = j
  · rw [if_pos h, if_pos h]
    congr 1
    simp only [q_sq]
    generalize q_part v (nI (i + 1)) = p
    grind
  · rw [if_neg h, if_neg h]
    have hs : ((j + 3 - i) % 3 = 1) ↔ j = (i + 1) % 3 := by omega
    have hp := part_bd hv (nI (i + 1))
    have hq := part_bd hv (nI (j + 1))
    have hr := part_bd hv (nI (3 - i - j + 1))
    have ha := hv.1
    generalize q_part v (nI (i + 1)) = p at *
    generalize q_part v (nI (j + 1)) = q at *
    generalize q_part v (nI (3 - i - j + 1)) = r at *
    generalize v.1 = a at *
    obtain ⟨-, b1⟩ := pm hp hq (by decide)
    obtain ⟨-, b2⟩ := pm ha hr (by decide)
    obtain ⟨-, b3⟩ := pa b1 b2 (by decide)
    obtain ⟨-, b4⟩ := ps b1 b2 (by decide)
    by_cases h3 : j = (i + 1) % 3
    · rw [if_pos (hs.mpr h3), if_pos h3]
      have e1 : p * q + -1 * a * r = p * q - a * r := by grind
      have e2 : p * q + -a * r = p * q - a * r := by grind
      rw [e1, e2]
      exact div24 (by omega)
    · rw [if_neg (fun z => h3 (hs.mp z)), if_neg h3]
      have e1 : p * q + 1 * a * r = p * q + a * r := by grind
      rw [e1]
      exact div24 (by omega)
