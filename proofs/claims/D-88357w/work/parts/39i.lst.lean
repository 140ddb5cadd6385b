/-! WHOLE NUMBERS WITH A SIGN, and the rows of the listing -/
def iZ (z : Int) : Int32 := Int32.ofInt z
theorem iZ_n (n : Nat) : nI n = iZ n := rfl
theorem zadd {x y : Int32} {a b : Int} (h : x = iZ a) (g : y = iZ b) : x + y = iZ (a + b) := by rw [h, g]; exact (Int32.ofInt_add a b).symm
theorem zsub {x y : Int32} {a b : Int} (h : x = iZ a) (g : y = iZ b) : x - y = iZ (a - b) := by rw [h, g]; exact (Int32.ofInt_sub a b).symm
theorem zmul {x y : Int32} {a b : Int} (h : x = iZ a) (g : y = iZ b) : x * y = iZ (a * b) := by rw [h, g]; exact (Int32.ofInt_mul a b).symm
theorem zneg {x : Int32} {a : Int} (h : x = iZ a) : -x = iZ (-a) := by rw [h]; exact (Int32.ofInt_neg a).symm
def rg (a : Int) : Prop := -2 ^ 31 ≤ a ∧ a < 2 ^ 31
theorem iZ_t {a : Int} (h : -2 ^ 31 ≤ a ∧ a < 2 ^ 31) : (iZ a).toInt = a := Int32.toInt_ofInt_of_le (by omega) (by omega)
theorem ltz_y {x y : Int32} {a b : Int} (h : x = iZ a) (g : y = iZ b) (ha : -2 ^ 31 ≤ a ∧ a < 2 ^ 31) (hb : -2 ^ 31 ≤ b ∧ b < 2 ^ 31) (q : x < y) : a < b := by
  rw [h, g, Int32.lt_iff_toInt_lt, iZ_t ha, iZ_t hb] at q; exact q
theorem ltz_no {x y : Int32} {a b : Int} (h : x = iZ a) (g : y = iZ b) (ha : -2 ^ 31 ≤ a ∧ a < 2 ^ 31) (hb : -2 ^ 31 ≤ b ∧ b < 2 ^ 31) (q : ¬ x < y) : b ≤ a := by
  rw [h, g, Int32.lt_iff_toInt_lt, iZ_t ha, iZ_t hb] at q; omega
theorem lez_y {x y : Int32} {a b : Int} (h : x = iZ a) (g : y = iZ b) (ha : -2 ^ 31 ≤ a ∧ a < 2 ^ 31) (hb : -2 ^ 31 ≤ b ∧ b < 2 ^ 31) (q : x ≤ y) : a ≤ b := by
  rw [h, g, Int32.le_iff_toInt_le, iZ_t ha, iZ_t hb] at q; exact q
theorem lez_no {x y : Int32} {a b : Int} (h : x = iZ a) (g : y = iZ b) (ha : -2 ^ 31 ≤ a ∧ a < 2 ^ 31) (hb : -2 ^ 31 ≤ b ∧ b < 2 ^ 31) (q : ¬ x ≤ y) : b < a := by
  rw [h, g, Int32.le_iff_toInt_le, iZ_t ha, iZ_t hb] at q; omega
theorem eqz_y {x y : Int32} {a b : Int} (h : x = iZ a) (g : y = iZ b) (ha : -2 ^ 31 ≤ a ∧ a < 2 ^ 31) (hb : -2 ^ 31 ≤ b ∧ b < 2 ^ 31) (q : x = y) : a = b := by
  rw [h, g] at q
  have := congrArg Int32.toInt q
  rw [iZ_t ha, iZ_t hb] at this
  exact this
theorem eqz_no {x y : Int32} {a b : Int} (h : x = iZ a) (g : y = iZ b) (_ : -2 ^ 31 ≤ a ∧ a < 2 ^ 31) (_ : -2 ^ 31 ≤ b ∧ b < 2 ^ 31) (q : ¬ x = y) : ¬ a = b := fun e => q (by rw [h, g, e])
def rm2 (a : Int) : Int := a.tmod 2
theorem rm2_0 (a : Int) : rm2 a = 0 ↔ a % 2 = 0 := by
  unfold rm2
  constructor
  · intro h
    exact Int.emod_eq_zero_of_dvd (Int.dvd_of_tmod_eq_zero h)
  · intro h
    exact Int.tmod_eq_zero_of_dvd (Int.dvd_of_emod_eq_zero h)
theorem rm2_bd (a : Int) : -2 < rm2 a ∧ rm2 a < 2 := by
  have h1 := Int.tmod_lt_of_pos a (show (0 : Int) < 2 by decide)
  have h2 := Int.lt_tmod_of_pos a (show (0 : Int) < 2 by decide)
  unfold rm2
  omega
theorem remz2 {x : Int32} {a : Int} (h : x = iZ a) (ha : -2 ^ 31 ≤ a ∧ a < 2 ^ 31) : x - x / 2 * 2 = iZ (rm2 a) := by
  have e1 : (2 : Int32).toInt = 2 := by decide
  have e2 : (x / 2).toInt = a.tdiv 2 := by
    rw [Int32.toInt_div, e1, h, iZ_t ha]
    have h1 := Int.tdiv_le_self (b := 2) (a := a)
    have h3 : (a.tdiv 2) * 2 + a.tmod 2 = a := Int.tdiv_mul_add_tmod a 2
    have h4 := rm2_bd a
    unfold rm2 at h4
    apply Int.bmod_eq_of_le <;> omega
  have h3 : (a.tdiv 2) * 2 + a.tmod 2 = a := Int.tdiv_mul_add_tmod a 2
  have h4 := rm2_bd a
  have e3 : x / 2 = iZ (a.tdiv 2) := by
    apply Int32.toInt_inj.mp
    rw [e2, iZ_t (by unfold rm2 at h4; omega)]
  rw [h] at e3 ⊢
  rw [e3, zsub rfl (zmul rfl (show (2 : Int32) = iZ 2 from rfl))]
  congr 1
  unfold rm2
  omega
theorem sqz {a : Int} (h1 : -28 ≤ a) (h2 : a ≤ 28) : 0 ≤ a * a ∧ a * a ≤ 784 := by
  have h0 := toNat_sq a
  have h3 : a * a ≤ 28 * 28 := by
    rcases Int.le_total 0 a with h | h
    · exact Int.mul_le_mul h2 h2 h (by decide)
    · have := Int.mul_le_mul (show -a ≤ 28 by omega) (show -a ≤ 28 by omega) (show (0 : Int) ≤ -a by omega) (by decide)
      rw [Int.neg_mul_neg] at this
      exact this
  omega
theorem okQ_iff {N a b c d : Int} : okQ N a b c d = true ↔ (a * a + b * b + c * c + d * d = N ∧ (a - b) % 2 = 0 ∧ (a - c) % 2 = 0 ∧ (a - d) % 2 = 0) := by
  simp only [okQ, Bool.and_eq_true, decide_eq_true_eq, and_assoc]
theorem okQ_f {N a b c d : Int} (h : ¬ (a * a + b * b + c * c + d * d = N ∧ (a - b) % 2 = 0 ∧ (a - c) % 2 = 0 ∧ (a - d) % 2 = 0)) : okQ N a b c d = false := by
  cases hq : okQ N a b c d with
  | false => rfl
  | true => exact absurd (okQ_iff.mp hq) h
section DS
variable {N a b c lf : Int} {M : Nat}
theorem ds_neg (hN : lf = N - a * a - b * b - c * c) (h : lf < 0) : ds N M a b c = [] := ds_none (fun d => okQ_f (fun z => by have := toNat_sq d; omega))
theorem ds_par (h : ¬ (a - c) % 2 = 0) : ds N M a b c = [] := ds_none (fun d => okQ_f (fun z => h z.2.2.1))
theorem ds_parb (h : ¬ (a - b) % 2 = 0) : ds N M a b c = [] := ds_none (fun d => okQ_f (fun z => h z.2.1))
theorem ds_nsq (hN : lf = N - a * a - b * b - c * c) {d : Nat} (h1 : ∀ e : Nat, e < d → ((e * e : Nat) : Int) < lf) (h2 : ¬ ((d * d : Nat) : Int) = lf) (h3 : lf ≤ ((d * d : Nat) : Int)) : ds N M a b c = [] := by
  refine ds_none (fun x => okQ_f (fun z => ?_))
  have h4 : ((x.natAbs * x.natAbs : Nat) : Int) = x * x := Int.natAbs_mul_self
  rcases Nat.lt_or_ge x.natAbs d with h | h
  · have := h1 _ h
    omega
  · have := Nat.mul_le_mul h h
    omega
theorem ds_npar (hN : lf = N - a * a - b * b - c * c) {d : Nat} (h1 : ((d * d : Nat) : Int) = lf) (h2 : ¬ ((d : Int) - a) % 2 = 0) : ds N M a b c = [] := by
  refine ds_none (fun x => okQ_f (fun z => ?_))
  have h4 : x * x = (d : Int) * d := by
    have : ((d * d : Nat) : Int) = (d : Int) * d := by push_cast; rfl
    omega
  rcases sq_inj (by omega) h4 with h | h
  · rw [h] at z; omega
  · rw [h] at z; omega
theorem ds_sq (hN : lf = N - a * a - b * b - c * c) (hab : (a - b) % 2 = 0) (hac : (a - c) % 2 = 0) (hM : N < ((M + 1) * (M + 1) : Nat)) {d : Nat} (h1 : ((d * d : Nat) : Int) = lf) (h2 : ((d : Int) - a) % 2 = 0) : ds N M a b c = if 0 < d then [(d : Int), -(d : Int)] else [0] := by
  have e1 : ((d * d : Nat) : Int) = (d : Int) * d := by push_cast; rfl
  have ok : okQ N a b c d = true := okQ_iff.mpr ⟨by omega, hab, hac, by omega⟩
  by_cases h : 0 < d
  · rw [if_pos h]
    refine ds_pos h ?_ ok
    rcases Nat.lt_or_ge M d with q | q
    · have := Nat.mul_le_mul (show M + 1 ≤ d from q) (show M + 1 ≤ d from q)
      have a1 := toNat_sq a
      have a2 := toNat_sq b
      have a3 := toNat_sq c
      omega
    · exact q
  · rw [if_neg h]
    obtain rfl : d = 0 := by omega
    exact ds_zero ok
end DS
