/-! PURE: both sides divide alike -/
set_option maxRecDepth 100000
theorem i64_neg_iff (x : Int64) : (¬ 0 ≤ x) ↔ x.toBitVec.msb = true := by
  rw [Int64.le_iff_toInt_le, BitVec.msb_eq_toInt]
  have h0 : (0 : Int64).toInt = 0 := by decide
  have h1 : x.toInt = x.toBitVec.toInt := rfl
  rw [h0, h1, decide_eq_true_iff]
  omega
theorem xor_neg {a b : Int64} (hb : 0 < b) : (¬ 0 ≤ a ^^^ b) ↔ ¬ 0 ≤ a := by
  rw [i64_neg_iff, i64_neg_iff, Int64.toBitVec_xor, BitVec.msb_xor]
  have h : b.toBitVec.msb = false := by
    rw [BitVec.msb_eq_toInt, decide_eq_false_iff_not]
    rw [Int64.lt_iff_toInt_lt] at hb
    have h0 : (0 : Int64).toInt = 0 := by decide
    have h1 : b.toInt = b.toBitVec.toInt := rfl
    omega
  rw [h]
  simp
theorem fl_fd {a b : Int64} (hb : 0 < b) : p_fl a b = p_fd a b := by
  unfold p_fl p_fd
  have e1 : (a - a / b * b = 0) ↔ (a / b * b = a) := by
    constructor
    · intro h; grind
    · intro h; rw [h]; grind
  have e2 := xor_neg (a := a) hb
  by_cases h1 : a / b * b = a <;> by_cases h2 : 0 ≤ a
  · simp [e1.mpr h1, h1]
  · simp [e1.mpr h1, h1]
  · have h3 : 0 ≤ a ^^^ b := Classical.byContradiction fun z => e2.mp z h2
    simp [h2, h3]
  · have h3 : ¬ 0 ≤ a ^^^ b := e2.mpr h2
    have h4 : ¬ a - a / b * b = 0 := fun z => h1 (e1.mp z)
    simp [h1, h2, h3, h4]
theorem de_even {n x : Int64} (hn : 0 < 2 * n) : d_e n x = p_even x n := by rw [d_e, p_even, fl_fd hn]
theorem do_odd {n x : Int64} (hn : 0 < 2 * n) : d_o n x = p_odd x n := by rw [d_o, p_odd, fl_fd hn]
theorem doff_c {n x : Int64} (hn : 0 < 2 * n) : d_off n x = c_off n x := by
  rw [d_off, c_off, p_even, fl_fd hn]
  grind
theorem doth_c {n x : Int64} (hn : 0 < 2 * n) : d_oth n x = c_oth n x := by rw [d_oth, c_oth, p_odd, fl_fd hn]
theorem near_eq {n : Int64} {w : Q4} (hn : 0 < 2 * n) : nearM n w = nearC n w := by
  have hw : d_whole n w = c_whole n w := by simp only [d_whole, c_whole, doff_c hn]
  have hh : d_half n w = c_half n w := by simp only [d_half, c_half, doth_c hn]
  unfold nearM nearC
  rw [hw, hh]
  simp only [de_even hn, do_odd hn]
theorem plus_sub (v w : Q4) : q_plus v w (-1) = q_sub v w := by
  simp only [q_plus, q_sub, Prod.mk.injEq]
  refine ⟨?_, ?_, ?_, ?_⟩ <;> grind
theorem plus_add (v w : Q4) : q_plus v w 1 = q_add v w := by
  simp only [q_plus, q_add, Prod.mk.injEq]
  refine ⟨?_, ?_, ?_, ?_⟩ <;> grind
theorem dw_db (sd : Int32) (v t : Q4) : d_w sd v t = d_b sd v (q_mirror t) := rfl
theorem dq_c {sd : Int32} {v t : Q4} (hn : 0 < 2 * q_norm t) : d_q sd v t = nearC (q_norm t) (d_b sd v (q_mirror t)) := by
  rw [d_q, near_eq hn, dw_db]
theorem er_dr {sd : Int32} {v t : Q4} (hn : 0 < 2 * q_norm t) : e_r sd v t = d_r sd v t := by
  rw [e_r, d_r, dq_c hn, plus_sub]
/-- along a run of the division both sides go alike -/
def eucBoth (sd : Int32) : Nat → Q4 → Q4 → Prop
  | 0, _, y => q_null y = true ∧ q_nz y = true
  | n + 1, x, y => (q_null y = true ∧ q_nz y = true) ∨ (q_null y = false ∧ q_nz y = false ∧ 0 < 2 * q_norm y ∧ eucBoth sd n y (d_r sd x y))
theorem eucBoth_1 {sd : Int32} : ∀ {n : Nat} {x y : Q4}, eucBoth sd n x y → eucOk sd n x y
  | 0, _, _, h => h.1
  | n + 1, x, y, h => by
    rcases h with h | ⟨h1, -, h3, h4⟩
    · exact Or.inl h.1
    · exact Or.inr ⟨h1, fun z => by rw [z] at h3; exact absurd h3 (by decide), eucBoth_1 h4⟩
theorem eucBoth_2 {sd : Int32} : ∀ {n : Nat} {x y : Q4}, eucBoth sd n x y → eucCOk sd n x y
  | 0, _, _, h => h.2
  | n + 1, x, y, h => by
    rcases h with h | ⟨-, h2, h3, h4⟩
    · exact Or.inl h.2
    · exact Or.inr ⟨h2, fun z => by rw [z] at h3; exact absurd h3 (by decide), by rw [er_dr h3]; exact eucBoth_2 h4⟩
theorem eucBoth_3 {sd : Int32} : ∀ {n : Nat} {x y : Q4}, eucBoth sd n x y → eucC sd n x y = euc sd n x y
  | 0, _, _, _ => rfl
  | n + 1, x, y, h => by
    rcases h with h | ⟨h1, h2, h3, h4⟩
    · simp [eucC, euc, h.1, h.2]
    · simp only [eucC, euc, h1, h2, Bool.false_eq_true, if_false]
      rw [er_dr h3]
      exact eucBoth_3 h4
