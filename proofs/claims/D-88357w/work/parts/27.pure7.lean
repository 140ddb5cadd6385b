/-! PURE: the rest, exactly -/
set_option maxRecDepth 100000
theorem Hz_bar {v : Z4} (h : Hz v) : Hz (z_bar v) := by
  obtain ⟨x, y, z, w, e, rfl, he⟩ := h
  refine ⟨x, -y - e, -z - e, -w - e, e, ?_, he⟩
  simp only [z_bar, Prod.mk.injEq]
  refine ⟨?_, ?_, ?_, ?_⟩ <;> first | trivial | omega
theorem Hz_sub {v w : Z4} (h : Hz v) (g : Hz w) : Hz (z_sub v w) := by
  obtain ⟨x, y, z, u, e, rfl, he⟩ := h
  obtain ⟨a, b, c, d, f, rfl, hf⟩ := g
  rcases he with rfl | rfl <;> rcases hf with rfl | rfl
  · refine ⟨x - a, y - b, z - c, u - d, 0, ?_, Or.inl rfl⟩
    simp only [z_sub, Prod.mk.injEq]; omega
  · refine ⟨x - a - 1, y - b - 1, z - c - 1, u - d - 1, 1, ?_, Or.inr rfl⟩
    simp only [z_sub, Prod.mk.injEq]; omega
  · refine ⟨x - a, y - b, z - c, u - d, 1, ?_, Or.inr rfl⟩
    simp only [z_sub, Prod.mk.injEq]; omega
  · refine ⟨x - a, y - b, z - c, u - d, 0, ?_, Or.inl rfl⟩
    simp only [z_sub, Prod.mk.injEq]; omega
theorem z_mirror {t : Q4} {C : Nat} (ht : q_bd C t) (hC : C < 2 ^ 62) : z4 (q_mirror t) = z_bar (z4 t) ∧ q_bd C (q_mirror t) := by
  obtain ⟨a, b, c, d⟩ := t
  obtain ⟨h0, h1, h2, h3⟩ := ht
  dsimp only at h0 h1 h2 h3
  obtain ⟨e1, f1⟩ := pn h1 hC
  obtain ⟨e2, f2⟩ := pn h2 hC
  obtain ⟨e3, f3⟩ := pn h3 hC
  simp only [q_mirror, z4, z_bar, q_bd, Prod.mk.injEq]
  exact ⟨⟨trivial, e1, e2, e3⟩, h0, f1, f2, f3⟩
theorem z_qsq {t : Q4} {C : Nat} (ht : q_bd C t) (hC : C * C < 2 ^ 59) : (q_sq t).toInt = z_sq (z4 t) ∧ (q_sq t).toInt.natAbs ≤ 4 * (C * C) := by
  obtain ⟨a, b, c, d⟩ := t
  obtain ⟨h0, h1, h2, h3⟩ := ht
  obtain ⟨-, -, -, -, -, -, -, -, h⟩ := pdot h0 h1 h2 h3 h0 h1 h2 h3 hC
  exact h
theorem z_norm {t : Q4} {C : Nat} (ht : q_bd C t) (hC : C * C < 2 ^ 59) (zt : Hz (z4 t)) : z_sq (z4 t) = 4 * (q_norm t).toInt := by
  obtain ⟨k, hk⟩ := z_sq_4 zt
  obtain ⟨h, hb⟩ := z_qsq ht hC
  have := pquart (x := q_sq t) (r := k) (by rw [h, hk]) (by omega)
  rw [q_norm, this, hk]
theorem z_sq_nn (v : Z4) : 0 ≤ z_sq v := by
  have h0 := sq_nn v.1
  have h1 := sq_nn v.2.1
  have h2 := sq_nn v.2.2.1
  have h3 := sq_nn v.2.2.2
  simp only [z_sq]
  omega
/-- a part is no greater than the root of the square -/
theorem z_part {v : Z4} {M : Int} (hM : 0 ≤ M) (h : z_sq v ≤ M * M) : -M ≤ v.1 ∧ v.1 ≤ M ∧ -M ≤ v.2.1 ∧ v.2.1 ≤ M ∧ -M ≤ v.2.2.1 ∧ v.2.2.1 ≤ M ∧ -M ≤ v.2.2.2 ∧ v.2.2.2 ≤ M := by
  have h0 := sq_nn v.1
  have h1 := sq_nn v.2.1
  have h2 := sq_nn v.2.2.1
  have h3 := sq_nn v.2.2.2
  simp only [z_sq] at h
  have key : ∀ x : Int, x * x ≤ M * M → -M ≤ x ∧ x ≤ M := by
    intro x hx
    constructor
    · apply Classical.byContradiction
      intro hc
      have h5 : (M + 1) * (M + 1) ≤ (-x) * (-x) := Int.mul_le_mul (by omega) (by omega) (by omega) (by omega)
      have h6 : (-x) * (-x) = x * x := by grind
      have h7 : (M + 1) * (M + 1) = M * M + 2 * M + 1 := by grind
      omega
    · apply Classical.byContradiction
      intro hc
      have h5 : (M + 1) * (M + 1) ≤ x * x := Int.mul_le_mul (by omega) (by omega) (by omega) (by omega)
      have h7 : (M + 1) * (M + 1) = M * M + 2 * M + 1 := by grind
      omega
  obtain ⟨a1, a2⟩ := key v.1 (by omega)
  obtain ⟨b1, b2⟩ := key v.2.1 (by omega)
  obtain ⟨c1, c2⟩ := key v.2.2.1 (by omega)
  obtain ⟨d1, d2⟩ := key v.2.2.2 (by omega)
  exact ⟨a1, a2, b1, b2, c1, c2, d1, d2⟩
theorem near_bd {n : Int64} {w : Q4} (hn : 0 < n.toInt) (hN : n.toInt < 2 ^ 29) {W Q : Nat} (hw : q_bd W w) (hW : W < 2 ^ 50) (hQ : (W : Int) ≤ n.toInt * Q) : q_bd (Q + 2) (nearM n w) := by
  obtain ⟨-, h⟩ := near_half hn hN hw hW
  generalize nearM n w = q at h ⊢
  have h2 : z_sq (z_sub (z4 w) (z_sc n.toInt (z4 q))) ≤ (2 * n.toInt) * (2 * n.toInt) := by
    have : (2 * n.toInt) * (2 * n.toInt) = 4 * (n.toInt * n.toInt) := by grind
    have := sq_nn n.toInt
    omega
  obtain ⟨a1, a2, b1, b2, c1, c2, d1, d2⟩ := z_part (by omega) h2
  obtain ⟨w0, w1, w2, w3⟩ := w
  obtain ⟨q0, q1, q2, q3⟩ := q
  obtain ⟨h0, h1, h2, h3⟩ := hw
  simp only [z_sub, z_sc, z4] at a1 a2 b1 b2 c1 c2 d1 d2
  dsimp only at h0 h1 h2 h3
  have key : ∀ x y : Int, y.natAbs ≤ W → -(2 * n.toInt) ≤ y - n.toInt * x → y - n.toInt * x ≤ 2 * n.toInt → x.natAbs ≤ Q + 2 := by
    intro x y hy g1 g2
    have e1 : ¬ (Q + 3 : Int) ≤ x := by
      intro hc
      have h5 : n.toInt * (Q + 3) ≤ n.toInt * x := Int.mul_le_mul_of_nonneg_left hc (by omega)
      have h6 : n.toInt * (Q + 3) = n.toInt * Q + 3 * n.toInt := by grind
      omega
    have e2 : ¬ x ≤ -(Q + 3 : Int) := by
      intro hc
      have h5 : n.toInt * x ≤ n.toInt * (-(Q + 3)) := Int.mul_le_mul_of_nonneg_left hc (by omega)
      have h6 : n.toInt * (-(Q + 3)) = -(n.toInt * Q) - 3 * n.toInt := by grind
      omega
    omega
  exact ⟨key _ _ h0 a1 a2, key _ _ h1 b1 b2, key _ _ h2 c1 c2, key _ _ h3 d1 d2⟩
theorem sub_z {v w : Q4} {B C : Nat} (hv : q_bd B v) (hw : q_bd C w) (h : B + C < 2 ^ 62) : z4 (q_sub v w) = z_sub (z4 v) (z4 w) := by
  obtain ⟨v0, v1, v2, v3⟩ := v
  obtain ⟨w0, w1, w2, w3⟩ := w
  obtain ⟨h0, h1, h2, h3⟩ := hv
  obtain ⟨g0, g1, g2, g3⟩ := hw
  simp only [z4, q_sub, z_sub, Prod.mk.injEq]
  exact ⟨(ps h0 g0 h).1, (ps h1 g1 h).1, (ps h2 g2 h).1, (ps h3 g3 h).1⟩
/-- the bound of a product -/
theorem times_bd {p q : Q4} {B C : Nat} (hp : q_bd B p) (hq : q_bd C q) (h : B * C < 2 ^ 59) (zp : Hz (z4 p)) (zq : Hz (z4 q)) : q_bd (2 * (B * C)) (q_times p q) := by
  obtain ⟨-, he⟩ := times_z hp hq h zp zq
  obtain ⟨p0, p1, p2, p3⟩ := p
  obtain ⟨q0, q1, q2, q3⟩ := q
  obtain ⟨hp0, hp1, hp2, hp3⟩ := hp
  obtain ⟨hq0, hq1, hq2, hq3⟩ := hq
  dsimp only at hp0 hp1 hp2 hp3 hq0 hq1 hq2 hq3
  obtain ⟨a0, b0, -⟩ := pdot hp0 hp1 hp2 hp3 hq0 hq1 hq2 hq3 h
  obtain ⟨-, -, a1, b1, -⟩ := pdot hp0 hp1 hp2 hp3 hq1 hq0 hq3 hq2 h
  obtain ⟨-, -, -, -, a2, b2, -⟩ := pdot hp0 hp1 hp2 hp3 hq2 hq3 hq0 hq1 h
  obtain ⟨-, -, -, -, -, -, a3, b3, -⟩ := pdot hp0 hp1 hp2 hp3 hq3 hq2 hq1 hq0 h
  generalize q_times (p0, p1, p2, p3) (q0, q1, q2, q3) = r at he ⊢
  simp only [z_m, z4, Prod.mk.injEq] at he
  obtain ⟨e0, e1, e2, e3⟩ := he
  rw [e0] at a0
  rw [e1] at a1
  rw [e2] at a2
  rw [e3] at a3
  rw [a0] at b0
  rw [a1] at b1
  rw [a2] at b2
  rw [a3] at b3
  refine ⟨?_, ?_, ?_, ?_⟩ <;> omega
/-- THE REST: whole, and of at most half the norm -/
theorem rest_z {sd : Int32} {v t : Q4} {B C W Q : Nat} (hv : q_bd B v) (ht : q_bd C t) (zv : Hz (z4 v)) (zt : Hz (z4 t)) (hB : B < 2 ^ 31) (hC : C ≤ 46341) (h0 : 0 < z_sq (z4 t)) (hT : z_sq (z4 t) < 2 ^ 31) (hw : q_bd W (d_w sd v t)) (hW : W < 2 ^ 50) (hQ : 0 < (q_norm t).toInt → (W : Int) ≤ (q_norm t).toInt * Q) (hWC : (Q + 2) * C < 2 ^ 59) : 0 < (q_norm t).toInt ∧ (q_norm t).toInt < 2 ^ 29 ∧ Hz (z4 (d_r sd v t)) ∧ 2 * z_sq (z4 (d_r sd v t)) ≤ z_sq (z4 t) ∧ ∃ q b : Z4, Hz q ∧ (if sd = 0 then z_m q (z4 t) else z_m (z4 t) q) = z_2 b ∧ z4 (d_r sd v t) = z_sub (z4 v) b := by
  have hCC : C * C ≤ 46341 * 46341 := Nat.mul_le_mul hC hC
  have hBC : B * C < 2 ^ 59 := by
    have : B * C ≤ 2 ^ 31 * 46341 := Nat.mul_le_mul (by omega) hC
    omega
  obtain ⟨hm, hmb⟩ := z_mirror ht (by omega)
  have zm : Hz (z4 (q_mirror t)) := by rw [hm]; exact Hz_bar zt
  have hn := z_norm ht (by omega) zt
  obtain ⟨hq, hqb⟩ := z_qsq ht (by omega)
  have n0 : 0 < (q_norm t).toInt := by omega
  have n1 : (q_norm t).toInt < 2 ^ 29 := by omega
  obtain ⟨zq, hh⟩ := near_half n0 n1 hw hW
  have hqB := near_bd n0 n1 hw hW (hQ n0)
  refine ⟨n0, n1, ?_⟩
  unfold d_r
  rw [show nearM (q_norm t) (d_w sd v t) = d_q sd v t from rfl] at zq hh hqB
  generalize d_q sd v t = q at *
  by_cases hs : sd = 0
  · have ew : d_w sd v t = q_times v (q_mirror t) := if_pos hs
    have eb : d_b sd q t = q_times q t := if_pos hs
    obtain ⟨zw, mw⟩ := times_z hv hmb hBC zv zm
    obtain ⟨zb, mb⟩ := times_z hqB ht hWC zq zt
    have bb := times_bd hqB ht hWC zq zt
    rw [eb, sub_z hv bb (by omega)]
    rw [ew] at hh
    rw [hm] at mw
    refine ⟨Hz_sub zv zb, ?_, z4 q, _, zq, by rw [if_pos hs]; exact mb, rfl⟩
    have k := z_halfR hn mw mb
    rw [k] at hh
    have : (q_norm t).toInt * z_sq (z_sub (z4 v) (z4 (q_times q t))) ≤ (q_norm t).toInt * (2 * (q_norm t).toInt) := by
      have : (q_norm t).toInt * (2 * (q_norm t).toInt) = 2 * ((q_norm t).toInt * (q_norm t).toInt) := by grind
      omega
    have := Int.le_of_mul_le_mul_left this n0
    omega
  · have ew : d_w sd v t = q_times (q_mirror t) v := if_neg hs
    have eb : d_b sd q t = q_times t q := if_neg hs
    obtain ⟨zw, mw⟩ := times_z hmb hv (by rw [Nat.mul_comm]; exact hBC) zm zv
    obtain ⟨zb, mb⟩ := times_z ht hqB (by rw [Nat.mul_comm]; exact hWC) zt zq
    have bb := times_bd ht hqB (by rw [Nat.mul_comm]; exact hWC) zt zq
    rw [eb, sub_z hv bb (by have := Nat.mul_comm C (Q + 2); omega)]
    rw [ew] at hh
    rw [hm] at mw
    refine ⟨Hz_sub zv zb, ?_, z4 q, _, zq, by rw [if_neg hs]; exact mb, rfl⟩
    have k := z_halfL hn mw mb
    rw [k] at hh
    have : (q_norm t).toInt * z_sq (z_sub (z4 v) (z4 (q_times t q))) ≤ (q_norm t).toInt * (2 * (q_norm t).toInt) := by
      have : (q_norm t).toInt * (2 * (q_norm t).toInt) = 2 * ((q_norm t).toInt * (q_norm t).toInt) := by grind
      omega
    have := Int.le_of_mul_le_mul_left this n0
    omega
theorem bd_z {v : Q4} (h : z_sq (z4 v) < 2 ^ 31) : q_bd 46341 v := by
  obtain ⟨a1, a2, b1, b2, c1, c2, d1, d2⟩ := z_part (M := 46341) (by omega) (by omega) (v := z4 v)
  simp only [z4] at a1 a2 b1 b2 c1 c2 d1 d2
  refine ⟨?_, ?_, ?_, ?_⟩ <;> omega
theorem z_0 {v : Z4} (h : z_sq v = 0) : v = (0, 0, 0, 0) := by
  obtain ⟨a1, a2, b1, b2, c1, c2, d1, d2⟩ := z_part (M := 0) (by omega) (by omega) (v := v)
  obtain ⟨a, b, c, d⟩ := v
  simp only [Prod.mk.injEq]
  dsimp only at a1 a2 b1 b2 c1 c2 d1 d2
  omega
theorem null_z {v : Q4} (h : z_sq (z4 v) < 2 ^ 31) : (q_null v = true ↔ z_sq (z4 v) = 0) ∧ q_nz v = q_null v := by
  have hb := bd_z h
  obtain ⟨hq, -⟩ := z_qsq hb (by decide)
  have e1 : q_nz v = true ↔ z_sq (z4 v) = 0 := by
    rw [q_nz, decide_eq_true_iff, ← Int64.toInt_inj, hq]
    exact Iff.rfl
  have e2 : q_null v = true ↔ z_sq (z4 v) = 0 := by
    obtain ⟨a, b, c, d⟩ := v
    simp only [q_null, Bool.and_eq_true, decide_eq_true_iff]
    constructor
    · rintro ⟨⟨⟨rfl, rfl⟩, rfl⟩, rfl⟩
      rfl
    · intro hz
      have := z_0 hz
      simp only [z4, Prod.mk.injEq] at this
      obtain ⟨h0, h1, h2, h3⟩ := this
      exact ⟨⟨⟨Int64.toInt_inj.mp h0, Int64.toInt_inj.mp h1⟩, Int64.toInt_inj.mp h2⟩, Int64.toInt_inj.mp h3⟩
  exact ⟨e2, Bool.eq_iff_iff.mpr (e1.trans e2.symm)⟩
theorem n_pos {n : Int64} (h0 : 0 < n.toInt) (h1 : n.toInt < 2 ^ 29) : 0 < 2 * n := by
  rw [Int64.lt_iff_toInt_lt, Int64.toInt_mul, show (2 : Int64).toInt = 2 from rfl, show (0 : Int64).toInt = 0 from rfl, b64 (by omega) (by omega)]
  omega
theorem w_bd {sd : Int32} {v t : Q4} {B C : Nat} (hv : q_bd B v) (ht : q_bd C t) (zv : Hz (z4 v)) (zt : Hz (z4 t)) (hC : C < 2 ^ 62) (h : B * C < 2 ^ 59) : q_bd (2 * (B * C)) (d_w sd v t) := by
  obtain ⟨hm, hmb⟩ := z_mirror ht hC
  have zm : Hz (z4 (q_mirror t)) := by rw [hm]; exact Hz_bar zt
  unfold d_w
  split
  · exact times_bd hv hmb h zv zm
  · rw [Nat.mul_comm B C]
    exact times_bd hmb hv (by rw [Nat.mul_comm]; exact h) zm zv
theorem pos_mul {n : Int} {W : Nat} (h : 0 < n) : (W : Int) ≤ n * W := by
  have h7 : 1 * (W : Int) ≤ n * W := Int.mul_le_mul_of_nonneg_right (by omega) (by omega)
  omega
/-- THE RUN of the division ends, and both sides go alike -/
theorem euc_runs {sd : Int32} : ∀ (k : Nat) {x y : Q4}, Hz (z4 x) → Hz (z4 y) → z_sq (z4 x) < 2 ^ 31 → z_sq (z4 y) < 2 ^ 31 → z_sq (z4 y) < 2 ^ k → eucBoth sd k x y
  | 0, x, y, _, _, _, h2, h3 => by
    obtain ⟨e1, e2⟩ := null_z h2
    have := z_sq_nn (z4 y)
    have h : q_null y = true := e1.mpr (by omega)
    exact ⟨h, by rw [e2]; exact h⟩
  | k + 1, x, y, zx, zy, h1, h2, h3 => by
    obtain ⟨e1, e2⟩ := null_z h2
    by_cases h : q_null y = true
    · exact Or.inl ⟨h, by rw [e2]; exact h⟩
    · have hf : q_null y = false := by simpa using h
      have hp : 0 < z_sq (z4 y) := by
        have := z_sq_nn (z4 y)
        have h4 : ¬ z_sq (z4 y) = 0 := fun z => h (e1.mpr z)
        omega
      have hw := w_bd (sd := sd) (bd_z h1) (bd_z h2) zx zy (by decide) (by decide)
      obtain ⟨n0, n1, zr, hr, -⟩ := rest_z (bd_z h1) (bd_z h2) zx zy (by decide) (by decide) hp h2 hw (by decide) (fun z => pos_mul z) (by decide)
      have h5 : (2 : Int) ^ (k + 1) = 2 * 2 ^ k := by rw [Int.pow_succ, Int.mul_comm]
      exact Or.inr ⟨hf, by rw [e2]; exact hf, n_pos n0 n1, euc_runs k zy zr h2 (by omega) (by omega)⟩
/-- the same from a whole number, of at most the norm: the first step of way -/
theorem euc_way {sd : Int32} {k : Nat} {x y : Q4} {p : Int} (hx : z4 x = (2 * p, 0, 0, 0)) (zy : Hz (z4 y)) (h2 : z_sq (z4 y) < 2 ^ 31) (h3 : z_sq (z4 y) < 2 ^ k) (hp0 : 0 ≤ p) (hp : p ≤ (q_norm y).toInt) : eucBoth sd (k + 1) x y := by
  obtain ⟨e1, e2⟩ := null_z h2
  by_cases h : q_null y = true
  · exact Or.inl ⟨h, by rw [e2]; exact h⟩
  · have hf : q_null y = false := by simpa using h
    have hpos : 0 < z_sq (z4 y) := by
      have := z_sq_nn (z4 y)
      have h4 : ¬ z_sq (z4 y) = 0 := fun z => h (e1.mpr z)
      omega
    have hb := bd_z h2
    have hn := z_norm hb (by decide) zy
    obtain ⟨hm, hmb⟩ := z_mirror hb (by decide)
    have zm : Hz (z4 (q_mirror y)) := by rw [hm]; exact Hz_bar zy
    have zx : Hz (z4 x) := ⟨p, 0, 0, 0, 0, by rw [hx]; simp, Or.inl rfl⟩
    have hxb : q_bd (2 ^ 30) x := by
      obtain ⟨x0, x1, x2, x3⟩ := x
      simp only [z4, Prod.mk.injEq] at hx
      obtain ⟨g0, g1, g2, g3⟩ := hx
      refine ⟨?_, ?_, ?_, ?_⟩ <;> dsimp only <;> omega
    have hw : q_bd (p.toNat * 46341) (d_w sd x y) := by
      have key : ∀ m r : Int, m.natAbs ≤ 46341 → 2 * p * m = 2 * r → r.natAbs ≤ p.toNat * 46341 := by
        intro m r hm he
        have : r = p * m := by
          have : 2 * p * m = 2 * (p * m) := by grind
          omega
        rw [this, Int.natAbs_mul]
        exact Nat.mul_le_mul (by omega) hm
      obtain ⟨m0, m1, m2, m3⟩ := hmb
      unfold d_w
      split
      · obtain ⟨-, he⟩ := times_z hxb ⟨m0, m1, m2, m3⟩ (by decide) zx zm
        rw [hx] at he
        generalize q_times x (q_mirror y) = r at he ⊢
        simp only [z_m, z4, Prod.mk.injEq] at he
        obtain ⟨g0, g1, g2, g3⟩ := he
        exact ⟨key _ _ m0 (by omega), key _ _ m1 (by omega), key _ _ m2 (by omega), key _ _ m3 (by omega)⟩
      · obtain ⟨-, he⟩ := times_z ⟨m0, m1, m2, m3⟩ hxb (by decide) zm zx
        rw [hx] at he
        generalize q_times (q_mirror y) x = r at he ⊢
        simp only [z_m, z4, Prod.mk.injEq, Int.mul_comm _ (2 * p)] at he
        obtain ⟨g0, g1, g2, g3⟩ := he
        exact ⟨key _ _ m0 (by omega), key _ _ m1 (by omega), key _ _ m2 (by omega), key _ _ m3 (by omega)⟩
    obtain ⟨n0, n1, zr, hr, -⟩ := rest_z (Q := 46341) hxb hb zx zy (by decide) (by decide) hpos h2 hw (by omega) (fun z => by
      have : (p : Int) * 46341 ≤ (q_norm y).toInt * 46341 := Int.mul_le_mul_of_nonneg_right hp (by decide)
      omega) (by decide)
    exact Or.inr ⟨hf, by rw [e2]; exact hf, n_pos n0 n1, euc_runs k zy zr h2 (by omega) (by omega)⟩
