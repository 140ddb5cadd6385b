/-! NUMBERS: places in arrays -/
set_option maxRecDepth 100000
def p_in (v lo hi : Int64) : Bool := !decide (v < lo) && !decide (hi < v)
theorem in_nI {x : Int32} {hi : Int64} {n : Nat} (hn : hi.toInt < n) (h : p_in x.toInt64 0 hi = true) : ∃ j : Nat, j < n ∧ x = nI j := by
  simp only [p_in, Bool.and_eq_true, Bool.not_eq_true', decide_eq_false_iff_not, Int64.lt_iff_toInt_lt, Int32.toInt_toInt64] at h
  have h0 : (0 : Int64).toInt = 0 := by decide
  have h1 : ¬ x < 0 := by
    rw [Int32.lt_iff_toInt_lt]
    have h2 : (0 : Int32).toInt = 0 := by decide
    omega
  obtain ⟨j, hj, rfl⟩ := nI_of h1
  refine ⟨j, ?_, rfl⟩
  have h3 := nI_toInt hj
  omega
theorem vin_nI {i : Int32} {a n : Nat} (h : i = nI a) (ha : a < n) (hn : n < 2 ^ 31) : vp_in i n := by
  rw [h]; exact vp_in_nI ha hn
theorem cl_nI {α : Type} (f : Nat → α) {i : Int32} {a : Nat} (h : i = nI a) (ha : a < 2 ^ 31) : f i.toNatClampNeg = f a := by
  rw [h, nI_clamp ha]
theorem cn_nI {i : Int32} {a : Nat} (h : i = nI a) (ha : a < 2 ^ 31) : i.toNatClampNeg = a := by
  rw [h, nI_clamp ha]
theorem ix4 {j k : Nat} {x : Int32} (hc : x = nI k) : 4 * nI j + x = nI (4 * j + k) := by
  rw [hc, show (4 : Int32) = nI 4 from rfl, pk_mul, nI_add]
theorem ix4' {j k : Nat} {x : Int32} (hc : x = nI k) : nI (4 * j) + x = nI (4 * j + k) := by
  rw [hc, nI_add]
theorem ix16 {j k : Nat} {x : Int32} (hc : x = nI k) : 16 * nI j + x = nI (16 * j + k) := by
  rw [hc, show (16 : Int32) = nI 16 from rfl, pk_mul, nI_add]
theorem m4_0 {j : Nat} : 4 * nI j = nI (4 * j) := by
  rw [show (4 : Int32) = nI 4 from rfl, pk_mul]
/-- a quad of ints in an int array, as longs -/
def rq (g : Nat → Int32) (j : Nat) : Q4 := ((g (4 * j)).toInt64, (g (4 * j + 1)).toInt64, (g (4 * j + 2)).toInt64, (g (4 * j + 3)).toInt64)
/-- a quad stored into an int array -/
def wq (g : Nat → Int32) (j : Nat) (v : Q4) : Nat → Int32 := upd (upd (upd (upd g (4 * j) v.1.toInt32) (4 * j + 1) v.2.1.toInt32) (4 * j + 2) v.2.2.1.toInt32) (4 * j + 3) v.2.2.2.toInt32
abbrev mO (ad : Nat → Nat) (nf mo : Int32) : va_E := .inr (4, [.ref (ad 0), .ref (ad 1), .ref (ad 2), .ref (ad 3), .ref (ad 4), .int nf, .ref (ad 6), .ref (ad 7), .ref (ad 8), .ref (ad 9), .ref (ad 10), .ref (ad 11), .ref (ad 12), .ref (ad 13), .ref (ad 14), .ref (ad 15), .ref (ad 16), .int mo])
abbrev aI (ca : Nat → ClassId) (n : Nat) (f : Nat → Int32) : va_E := .inl (ca 1, n, .inl f)
abbrev aL (ca : Nat → ClassId) (n : Nat) (f : Nat → Int64) : va_E := .inl (ca 2, n, .inr (.inl f))
theorem eq_add {x y : Int32} {a b : Nat} (h : x = nI a) (g : y = nI b) : x + y = nI (a + b) := by rw [h, g, nI_add]
theorem eq_mul {x y : Int32} {a b : Nat} (h : x = nI a) (g : y = nI b) : x * y = nI (a * b) := by rw [h, g, pk_mul]
theorem eq_sub {x y : Int32} {a b : Nat} (h : x = nI a) (g : y = nI b) (hb : b ≤ a) : x - y = nI (a - b) := by rw [h, g, pk_sub hb]
theorem lt_n {x y : Int32} {a b : Nat} (h : x = nI a) (g : y = nI b) (ha : a < 2 ^ 31) (hb : b < 2 ^ 31) : x < y ↔ a < b := by rw [h, g, nI_ltI ha hb]
theorem le_n {x y : Int32} {a b : Nat} (h : x = nI a) (g : y = nI b) (ha : a < 2 ^ 31) (hb : b < 2 ^ 31) : x ≤ y ↔ a ≤ b := by rw [h, g, nI_leI ha hb]
theorem sq_lt {k b : Nat} (h : k ≤ b) : k * k ≤ b * b := Nat.mul_le_mul h h
theorem root_le {k a b : Nat} (h : k * k ≤ a) (hb : a < (b + 1) * (b + 1)) : k ≤ b := by
  rcases Nat.lt_or_ge b k with q | q
  · have := sq_lt (show b + 1 ≤ k from q)
    omega
  · exact q
theorem lt_y {x y : Int32} {a b : Nat} (h : x = nI a) (g : y = nI b) (ha : a < 2 ^ 31) (hb : b < 2 ^ 31) (q : x < y) : a < b := (lt_n h g ha hb).mp q
theorem lt_no {x y : Int32} {a b : Nat} (h : x = nI a) (g : y = nI b) (ha : a < 2 ^ 31) (hb : b < 2 ^ 31) (q : ¬ x < y) : b ≤ a := Nat.le_of_not_lt fun z => q ((lt_n h g ha hb).mpr z)
theorem le_y {x y : Int32} {a b : Nat} (h : x = nI a) (g : y = nI b) (ha : a < 2 ^ 31) (hb : b < 2 ^ 31) (q : x ≤ y) : a ≤ b := (le_n h g ha hb).mp q
theorem le_no {x y : Int32} {a b : Nat} (h : x = nI a) (g : y = nI b) (ha : a < 2 ^ 31) (hb : b < 2 ^ 31) (q : ¬ x ≤ y) : b < a := Nat.lt_of_not_le fun z => q ((le_n h g ha hb).mpr z)
theorem eq_y {x y : Int32} {a b : Nat} (h : x = nI a) (g : y = nI b) (ha : a < 2 ^ 31) (hb : b < 2 ^ 31) (q : x = y) : a = b := (nI_eq ha hb).mp (h.symm.trans (q.trans g))
theorem eq_no {x y : Int32} {a b : Nat} (h : x = nI a) (g : y = nI b) (ha : a < 2 ^ 31) (hb : b < 2 ^ 31) (q : ¬ x = y) : a ≠ b := fun z => q (by rw [h, g, z])
theorem absL_neg {a : Int64} (h : ¬ 0 ≤ a) (hb : a.toInt.natAbs < 2 ^ 31) : -a = lN a.toInt.natAbs := by
  rw [Int64.le_iff_toInt_le] at h
  have h0 : (0 : Int64).toInt = 0 := by decide
  apply Int64.toInt_inj.mp
  rw [pk_lT (by omega), Int64.toInt_neg]
  have h2 : (-a.toInt).bmod (2 ^ 64) = -a.toInt := by
    apply Int.bmod_eq_of_le <;> omega
  rw [h2]
  omega
theorem absL_pos {a : Int64} (h : 0 ≤ a) (hb : a.toInt.natAbs < 2 ^ 31) : a = lN a.toInt.natAbs := by
  rw [Int64.le_iff_toInt_le] at h
  have h0 : (0 : Int64).toInt = 0 := by decide
  apply Int64.toInt_inj.mp
  rw [pk_lT (by omega)]
  omega
theorem lN_z {y : Nat} (hy : y < 2 ^ 63) (h : lN y = 0) : y = 0 := (pk_lEQ hy (by decide)).mp h
theorem lN_nz {y : Nat} (h : ¬ lN y = 0) : y ≠ 0 := fun z => h (by rw [z]; rfl)
theorem gcd_st (x y : Nat) : Nat.gcd y (x % y) = Nat.gcd x y := by
  rw [Nat.gcd_comm y (x % y), ← Nat.gcd_rec, Nat.gcd_comm]
def gN (v : Q4) : Nat := Nat.gcd (Nat.gcd v.1.toInt.natAbs v.2.1.toInt.natAbs) (Nat.gcd v.2.2.1.toInt.natAbs v.2.2.2.toInt.natAbs)
def q_half (v : Q4) : Q4 := (v.1 / 2, v.2.1 / 2, v.2.2.1 / 2, v.2.2.2 / 2)
def q_bd (B : Nat) (v : Q4) : Prop := v.1.toInt.natAbs ≤ B ∧ v.2.1.toInt.natAbs ≤ B ∧ v.2.2.1.toInt.natAbs ≤ B ∧ v.2.2.2.toInt.natAbs ≤ B
theorem gcd_lt {x y B : Nat} (hx : x < B) (hy : y < B) : Nat.gcd x y < B := by
  rcases Nat.eq_zero_or_pos x with h | h
  · rw [h, Nat.gcd_zero_left]; exact hy
  · exact Nat.lt_of_le_of_lt (Nat.gcd_le_left y h) hx
theorem gN_lt {v : Q4} {B : Nat} (h : q_bd B v) : gN v < B + 1 := by
  obtain ⟨h1, h2, h3, h4⟩ := h
  exact gcd_lt (gcd_lt (by omega) (by omega)) (gcd_lt (by omega) (by omega))
theorem lN_na {x : Nat} (h : x < 2 ^ 63) : (lN x).toInt.natAbs = x := by rw [pk_lT h]; rfl
theorem i64_na0 {x : Int64} (h : x.toInt.natAbs = 0) : x = 0 := by
  apply Int64.toInt_inj.mp
  have h0 : (0 : Int64).toInt = 0 := by decide
  omega
theorem gcd_0 {x y : Nat} (h : Nat.gcd x y = 0) : x = 0 ∧ y = 0 := ⟨Nat.eq_zero_of_gcd_eq_zero_left h, Nat.eq_zero_of_gcd_eq_zero_right h⟩
theorem gN_0 {v : Q4} (h : gN v = 0) : v.1 = 0 ∧ v.2.1 = 0 ∧ v.2.2.1 = 0 ∧ v.2.2.2 = 0 := by
  obtain ⟨h1, h2⟩ := gcd_0 h
  obtain ⟨a, b⟩ := gcd_0 h1
  obtain ⟨c, d⟩ := gcd_0 h2
  exact ⟨i64_na0 a, i64_na0 b, i64_na0 c, i64_na0 d⟩
theorem odd_p2 : ∀ (k i g : Nat), g % 2 = 1 → g * 2 ^ i = 2 ^ k → g = 1
  | 0, i, g, _, h => by
    have h1 : g * 2 ^ i = 1 := h
    exact Nat.eq_one_of_mul_eq_one_right h1
  | k + 1, 0, g, hg, h => by
    rw [Nat.pow_zero, Nat.mul_one, Nat.pow_succ] at h
    omega
  | k + 1, i + 1, g, hg, h => by
    refine odd_p2 k i g hg ?_
    rw [Nat.pow_succ, Nat.pow_succ, ← Nat.mul_assoc] at h
    exact Nat.eq_of_mul_eq_mul_right (by decide) h
/-- the first place with a property, from i on, m places -/
def fstF (f : Nat → Bool) : Nat → Nat → Option Nat
  | _, 0 => none
  | i, m + 1 => if f i then some i else fstF f (i + 1) m
def oI (o : Option Nat) : Int32 := match o with
  | some k => nI k
  | none => -4
theorem fstF_y {f : Nat → Bool} {i m : Nat} (hm : 0 < m) (h : f i = true) : fstF f i m = some i := by
  obtain ⟨k, rfl⟩ : ∃ k, m = k + 1 := ⟨m - 1, by omega⟩
  simp [fstF, h]
theorem fstF_n {f : Nat → Bool} {i m : Nat} (hm : 0 < m) (h : f i = false) : fstF f i m = fstF f (i + 1) (m - 1) := by
  obtain ⟨k, rfl⟩ : ∃ k, m = k + 1 := ⟨m - 1, by omega⟩
  simp [fstF, h]
def isPr (p : Int) : Prop := 1 < p ∧ ∀ d : Nat, 2 ≤ d → (d * d : Int) ≤ p → ¬ p % d = 0
theorem isPr_n {P : Nat} : isPr (P : Int) ↔ 1 < P ∧ ∀ d : Nat, 2 ≤ d → d * d ≤ P → ¬ P % d = 0 := by
  unfold isPr
  constructor
  · rintro ⟨h1, h2⟩
    exact ⟨by omega, fun d hd hl z => h2 d hd (by exact_mod_cast hl) (by exact_mod_cast z)⟩
  · rintro ⟨h1, h2⟩
    exact ⟨by omega, fun d hd hl z => h2 d hd (by exact_mod_cast hl) (by exact_mod_cast z)⟩
theorem lN_sqle {P d : Nat} (hP : P < 2 ^ 62) (hd : d ≤ 2 ^ 31) : (lN d * lN d ≤ lN P) ↔ d * d ≤ P := by
  rw [lN_mul]
  have : d * d ≤ 2 ^ 31 * 2 ^ 31 := Nat.mul_le_mul hd hd
  exact pk_lLE (by omega) (by omega)
theorem lN_sqlt {P d : Nat} (hP : P < 2 ^ 62) (hd : d ≤ 2 ^ 31) : (lN P < lN d * lN d) ↔ P < d * d := by
  rw [lN_mul]
  have : d * d ≤ 2 ^ 31 * 2 ^ 31 := Nat.mul_le_mul hd hd
  exact pk_lLT (by omega) (by omega)
theorem l_le1 {p : Int64} (h : p ≤ 1) : p < 4 := by
  rw [Int64.le_iff_toInt_le] at h
  rw [Int64.lt_iff_toInt_lt]
  have h1 : (1 : Int64).toInt = 1 := by decide
  have h4 : (4 : Int64).toInt = 4 := by decide
  omega
theorem l_gt1 {p : Int64} (h : ¬ p ≤ 1) (hb : p.toInt < 2 ^ 40) : ∃ P : Nat, P < 2 ^ 40 ∧ 1 < P ∧ p = lN P := by
  rw [Int64.le_iff_toInt_le] at h
  have h1 : (1 : Int64).toInt = 1 := by decide
  obtain ⟨k, hk, rfl⟩ := pk_lOf (x := p) (by rw [Int64.lt_iff_toInt_lt]; have h0 : (0 : Int64).toInt = 0 := by decide
                                             omega)
  rw [pk_lT hk] at h hb
  exact ⟨k, by omega, by omega, rfl⟩
theorem pr_ext {P d : Nat} (h : ∀ e : Nat, 2 ≤ e → e < d → ¬ P % e = 0) (hd : ¬ P % d = 0) : ∀ e : Nat, 2 ≤ e → e < d + 1 → ¬ P % e = 0 := by
  intro e h1 h2
  rcases Nat.lt_or_ge e d with q | q
  · exact h e h1 q
  · have : e = d := by omega
    subst this
    exact hd
theorem pr_le1 {p : Int64} (h : p ≤ 1) : ¬ isPr p.toInt := by
  intro z
  have h1 := z.1
  rw [Int64.le_iff_toInt_le] at h
  have h3 : (1 : Int64).toInt = 1 := by decide
  omega
theorem eq_add0 {x : Int32} {a : Nat} (h : x = nI a) : x + 0 = nI a := by rw [h]; exact nI_add a 0
theorem sd01 {d : Int32} (h : p_in d.toInt64 0 1 = true) : d = 0 ∨ d = 1 := by
  obtain ⟨j, hj, rfl⟩ := in_nI (n := 2) (by decide) h
  rcases Nat.lt_or_ge j 1 with q | q
  · left; rw [show j = 0 by omega]; rfl
  · right; rw [show j = 1 by omega]; rfl
theorem sd0 {d : Int32} (h : p_in d.toInt64 0 1 = true) (h1 : ¬ d = 1) : d = 0 := (sd01 h).resolve_right h1
theorem sd1 {d : Int32} (h1 : d = 1) : ¬ d = 0 := by rw [h1]; decide
