/-! PURE: ways: the factor divides exactly -/
set_option maxRecDepth 100000
theorem euc_dw {sd : Int32} {k : Nat} {x y : Q4} {p : Int} (hx : z4 x = (2 * p, 0, 0, 0)) (zy : Hz (z4 y)) (h2 : z_sq (z4 y) < 2 ^ 31) (h3 : z_sq (z4 y) < 2 ^ k) (hp0 : 0 ≤ p) (hp : p < 2 ^ 29) (hpos : 0 < z_sq (z4 y)) : Hz (z4 (euc sd (k + 1) x y)) ∧ z_sq (z4 (euc sd (k + 1) x y)) < 2 ^ 31 ∧ z_ld sd (z4 (euc sd (k + 1) x y)) (z4 y) := by
  obtain ⟨e1, e2⟩ := null_z h2
  have h : ¬ q_null y = true := fun z => by have := e1.mp z; omega
  have hf : q_null y = false := by simpa using h
  have hn := z_norm (bd_z h2) (by decide) zy
  obtain ⟨C, hb, hC⟩ := max_bd (v := y)
  have hC2 : C ≤ 46341 := by
    apply Classical.byContradiction
    intro hc
    have : (46342 : Int) * 46342 ≤ C * C := Int.mul_le_mul (by omega) (by omega) (by omega) (by omega)
    omega
  obtain ⟨zx, hxb, hw⟩ := w_whole (sd := sd) hx zy hb hC2 hp0 hp
  obtain ⟨N, hN⟩ : ∃ N : Nat, (q_norm y).toInt = N := ⟨(q_norm y).toInt.toNat, by omega⟩
  have hN0 : 0 < N := by omega
  have hCN : C * C ≤ 4 * N := by
    have : ((C * C : Nat) : Int) ≤ 4 * N := by push_cast; omega
    omega
  have hWb : p.toNat * C ≤ 2 ^ 29 * 46341 := Nat.mul_le_mul (by omega) hC2
  have hq1 : p.toNat * C ≤ N * (p.toNat * C / N + 1) := by
    have := Nat.div_add_mod (p.toNat * C) N
    have := Nat.mod_lt (p.toNat * C) hN0
    rw [Nat.mul_add]
    omega
  have hq2 : (p.toNat * C / N + 1 + 2) * C < 2 ^ 59 := by
    have a1 : p.toNat * C / N * N ≤ p.toNat * C := Nat.div_mul_le_self _ _
    have a2 : p.toNat * C * C ≤ (p.toNat * 4) * N := by
      rw [Nat.mul_assoc, Nat.mul_assoc]; exact Nat.mul_le_mul_left _ hCN
    have a3 : p.toNat * C / N * C ≤ p.toNat * 4 := by
      refine Nat.le_of_mul_le_mul_right (c := N) ?_ hN0
      refine Nat.le_trans ?_ a2
      rw [Nat.mul_right_comm]
      exact Nat.mul_le_mul_right C a1
    have a4 : (p.toNat * C / N + 1 + 2) * C = p.toNat * C / N * C + 3 * C := by rw [Nat.add_assoc, Nat.add_mul]
    omega
  obtain ⟨n0, n1, zr, hr, -⟩ := rest_z (Q := p.toNat * C / N + 1) hxb hb zx zy (by decide) hC2 hpos h2 hw (by omega) (fun _ => by
    rw [hN]; exact_mod_cast hq1) hq2
  simp only [euc, hf, Bool.false_eq_true, if_false]
  obtain ⟨i1, i2, i3, -⟩ := euc_dv (sd := sd) k zy zr h2 (by omega) (by omega)
  exact ⟨i1, i2, i3⟩
theorem bst_mem (un : AI) (sd : Int32) (x : Q4) : ∀ n, bst un sd x n = x ∨ ∃ i, i < n ∧ bst un sd x n = d_b sd (rq un i) x
  | 0 => Or.inl rfl
  | n + 1 => by
    simp only [bst]
    split
    · exact Or.inr ⟨n, by omega, rfl⟩
    · rcases bst_mem un sd x n with h | ⟨i, hi, h⟩
      · exact Or.inl h
      · exact Or.inr ⟨i, by omega, h⟩
/-- the units are units -/
def UnOk (un : AI) : Prop := ∀ i, i < 24 → Hz (z4 (rq un i)) ∧ z_sq (z4 (rq un i)) = 4
theorem z_m_bar (u : Z4) : z_m u (z_bar u) = (z_sq u, 0, 0, 0) := by
  obtain ⟨a, b, c, d⟩ := u
  simp only [z_m, z_bar, z_sq, Prod.mk.injEq]
  refine ⟨?_, ?_, ?_, ?_⟩ <;> grind
theorem z_m_sc (n : Int) (w : Z4) : z_m (n, 0, 0, 0) w = z_sc n w := by
  obtain ⟨a, b, c, d⟩ := w
  simp only [z_m, z_sc, Prod.mk.injEq]
  refine ⟨?_, ?_, ?_, ?_⟩ <;> grind
theorem z_m_scR (n : Int) (v w : Z4) : z_m v (z_sc n w) = z_sc n (z_m v w) := by
  obtain ⟨a, b, c, d⟩ := v
  obtain ⟨e, f, g, h⟩ := w
  simp only [z_m, z_sc, Prod.mk.injEq]
  refine ⟨?_, ?_, ?_, ?_⟩ <;> grind
theorem z_sc_2 (v : Z4) : z_sc 4 v = z_2 (z_2 v) := by
  obtain ⟨a, b, c, d⟩ := v
  simp only [z_2, z_sc, Prod.mk.injEq]
  omega
theorem z_sc_42 (n : Int) (v : Z4) : z_sc (4 * n) v = z_2 (z_2 (z_sc n v)) := by
  obtain ⟨a, b, c, d⟩ := v
  simp only [z_2, z_sc, Prod.mk.injEq]
  refine ⟨?_, ?_, ?_, ?_⟩ <;> grind
/-- what a step of the way takes as its factor -/
def w_f (un : AI) (p : Int64) (lf : Q4) : Q4 := bst un 1 (euc 1 40 (2 * p, 0, 0, 0) lf) 24
def q_dvs (v : Q4) (n : Int64) : Q4 := (v.1 / n, v.2.1 / n, v.2.2.1 / n, v.2.2.2 / n)
/-- and what it leaves -/
def w_l (f lf : Q4) : Q4 := q_dvs (q_times (q_mirror f) lf) (q_norm f)
theorem wf_z {un : AI} {p : Int64} {v : Q4} (hu : UnOk un) (zv : Hz (z4 v)) (h2 : z_sq (z4 v) < 2 ^ 31) (hpos : 0 < z_sq (z4 v)) (hp0 : 0 ≤ p.toInt) (hp : p.toInt < 2 ^ 29) :
    Hz (z4 (w_f un p v)) ∧ ∃ w, Hz w ∧ z_m (z4 (w_f un p v)) w = z_2 (z4 v) := by
  have hx : z4 ((2 * p, 0, 0, 0) : Q4) = (2 * p.toInt, 0, 0, 0) := by
    have h := pm (x := 2) (y := p) (B := 2) (C := 2 ^ 29) (by decide) (by omega) (by decide)
    show ((2 * p).toInt, (0 : Int64).toInt, (0 : Int64).toInt, (0 : Int64).toInt) = _
    rw [h.1]
    rfl
  obtain ⟨i1, i2, w, hw, hm⟩ := euc_dw (sd := 1) (k := 39) hx zv h2 (by omega) hp0 hp hpos
  rw [if_neg (by decide)] at hm
  unfold w_f
  generalize euc 1 40 (2 * p, 0, 0, 0) v = s at i1 i2 hm ⊢
  rcases bst_mem un 1 s 24 with h | ⟨i, hi, h⟩
  · rw [h]
    exact ⟨i1, w, hw, hm⟩
  · rw [h]
    have he : d_b 1 (rq un i) s = q_times s (rq un i) := rfl
    rw [he]
    obtain ⟨zu, hu4⟩ := hu i hi
    obtain ⟨zt, ht⟩ := times_z (bd_z i2) (bd_z (v := rq un i) (by omega)) (by decide) i1 zu
    have ht : z_m (z4 s) (z4 (rq un i)) = z_2 (z4 (q_times s (rq un i))) := ht
    refine ⟨zt, ?_⟩
    obtain ⟨w', zw', hw'⟩ := Hz_mul (Hz_bar zu) hw
    have hw' : z_m (z_bar (z4 (rq un i))) w = z_2 w' := hw'
    refine ⟨w', zw', ?_⟩
    apply z_2_inj
    apply z_2_inj
    rw [← z_m_2R, ← hw', ← z_m_2L, ← ht, z_m_assoc, ← z_m_assoc (z4 (rq un i)), z_m_bar, hu4, z_m_sc, z_m_scR, hm, z_sc_2]
theorem q_ext {v w : Q4} (h : z4 v = z4 w) : v = w := by
  obtain ⟨a, b, c, d⟩ := v
  obtain ⟨e, f, g, k⟩ := w
  simp only [z4, Prod.mk.injEq] at h
  obtain ⟨h1, h2, h3, h4⟩ := h
  rw [Int64.toInt_inj] at h1 h2 h3 h4
  rw [h1, h2, h3, h4]
theorem ex_div {x n : Int64} {w : Int} (hn : 0 < n.toInt) (h : x.toInt = n.toInt * w) (hx : x.toInt.natAbs < 2 ^ 62) : (x / n).toInt = w := by
  rw [Int64.toInt_div, h, Int.mul_tdiv_cancel_left _ (by omega)]
  refine b64 ?_ ?_
  · have : w.natAbs ≤ x.toInt.natAbs := by
      rw [h, Int.natAbs_mul]
      exact Nat.le_mul_of_pos_left _ (by omega)
    omega
  · have : w.natAbs ≤ x.toInt.natAbs := by
      rw [h, Int.natAbs_mul]
      exact Nat.le_mul_of_pos_left _ (by omega)
    omega
theorem hz_4 {w : Z4} (h : Hz w) (h0 : 0 < z_sq w) : 4 ≤ z_sq w := by
  obtain ⟨k, hk⟩ := z_sq_4 h
  omega
/-- a step of the way -/
theorem way_z {un : AI} {p : Int64} {v : Q4} (hu : UnOk un) (zv : Hz (z4 v)) (h2 : z_sq (z4 v) < 2 ^ 31) (hpos : 0 < z_sq (z4 v)) (hp0 : 0 ≤ p.toInt) (hp : p.toInt < 2 ^ 29) :
    eucBoth 1 40 (2 * p, 0, 0, 0) v ∧ 0 < (q_norm (w_f un p v)).toInt ∧ (q_norm (w_f un p v)).toInt < 2 ^ 29 ∧ Hz (z4 (w_f un p v)) ∧ w_l (w_f un p v) v = d_q 1 v (w_f un p v) ∧ Hz (z4 (w_l (w_f un p v) v)) ∧ z_sq (z4 (w_l (w_f un p v) v)) ≤ z_sq (z4 v) ∧ 0 < z_sq (z4 (w_l (w_f un p v) v)) := by
  have hx : z4 ((2 * p, 0, 0, 0) : Q4) = (2 * p.toInt, 0, 0, 0) := by
    have h := pm (x := 2) (y := p) (B := 2) (C := 2 ^ 29) (by decide) (by omega) (by decide)
    show ((2 * p).toInt, (0 : Int64).toInt, (0 : Int64).toInt, (0 : Int64).toInt) = _
    rw [h.1]
    rfl
  obtain ⟨zf, w, zw, hw⟩ := wf_z hu zv h2 hpos hp0 hp
  refine ⟨euc_whole (k := 39) hx zv h2 (by omega) hp0 hp, ?_⟩
  generalize w_f un p v = f at zf hw ⊢
  have hs : z_sq (z4 f) * z_sq w = 4 * z_sq (z4 v) := by rw [← z_mul, hw, z_2_sq]
  have f0 := z_sq_nn (z4 f)
  have w0 := z_sq_nn w
  have fp : 0 < z_sq (z4 f) := by
    rcases Int.lt_or_eq_of_le f0 with h | h
    · exact h
    · rw [← h, Int.zero_mul] at hs; omega
  have wp : 0 < z_sq w := by
    rcases Int.lt_or_eq_of_le w0 with h | h
    · exact h
    · rw [← h, Int.mul_zero] at hs; omega
  have f4 := hz_4 zf fp
  have w4 := hz_4 zw wp
  have hfl : z_sq (z4 f) ≤ z_sq (z4 v) := by
    have : z_sq (z4 f) * 4 ≤ z_sq (z4 f) * z_sq w := Int.mul_le_mul_of_nonneg_left w4 f0
    omega
  have hwl : z_sq w ≤ z_sq (z4 v) := by
    have : 4 * z_sq w ≤ z_sq (z4 f) * z_sq w := Int.mul_le_mul_of_nonneg_right f4 w0
    omega
  have hf31 : z_sq (z4 f) < 2 ^ 31 := by omega
  have hn := z_norm (bd_z hf31) (by decide) zf
  have hn0 : 0 < (q_norm f).toInt := by omega
  have hn1 : (q_norm f).toInt < 2 ^ 29 := by omega
  obtain ⟨hm, hmb⟩ := z_mirror (bd_z hf31) (by decide)
  have zm : Hz (z4 (q_mirror f)) := by rw [hm]; exact Hz_bar zf
  obtain ⟨zW, hW⟩ := times_z hmb (bd_z h2) (by decide) zm zv
  have hWb := times_bd hmb (bd_z h2) (by decide) zm zv
  have hW : z_m (z4 (q_mirror f)) (z4 v) = z_2 (z4 (q_times (q_mirror f) v)) := hW
  have hex : z4 (q_times (q_mirror f) v) = z_sc (q_norm f).toInt w := by
    apply z_2_inj
    apply z_2_inj
    rw [← hW, ← z_m_2R, ← hw, hm, z_m_barL, hn, z_sc_42]
  have hne := near_exact hn0 hn1 hWb (by decide) zw hex
  have hdv : z4 (w_l f v) = w := by
    unfold w_l
    generalize q_times (q_mirror f) v = W at hex hWb
    obtain ⟨W0, W1, W2, W3⟩ := W
    obtain ⟨v0, v1, v2, v3⟩ := w
    obtain ⟨b0, b1, b2, b3⟩ := hWb
    simp only [z4, z_sc, Prod.mk.injEq] at hex
    obtain ⟨g0, g1, g2, g3⟩ := hex
    simp only [q_dvs, z4, Prod.mk.injEq]
    exact ⟨ex_div hn0 g0 (Nat.lt_of_le_of_lt b0 (by decide)), ex_div hn0 g1 (Nat.lt_of_le_of_lt b1 (by decide)), ex_div hn0 g2 (Nat.lt_of_le_of_lt b2 (by decide)), ex_div hn0 g3 (Nat.lt_of_le_of_lt b3 (by decide))⟩
  refine ⟨hn0, hn1, zf, ?_, by rw [hdv]; exact zw, by rw [hdv]; exact hwl, by rw [hdv]; exact wp⟩
  apply q_ext
  rw [hdv]
  exact hne.symm
/-- what is left behind k steps -/
def lfW (un : AI) (f : AL) (v : Q4) : Nat → Q4
  | 0 => v
  | k + 1 => w_l (w_f un (f k) (lfW un f v k)) (lfW un f v k)
def w4L (fc : AL) (k : Nat) (v : Q4) : AL := vp_updL (vp_updL (vp_updL (vp_updL fc (4 * k) v.1) (4 * k + 1) v.2.1) (4 * k + 2) v.2.2.1) (4 * k + 3) v.2.2.2
/-- the factors behind k steps -/
def fcW (un : AI) (f : AL) (v : Q4) (fc : AL) : Nat → AL
  | 0 => fc
  | k + 1 => w4L (fcW un f v fc k) k (w_f un (f k) (lfW un f v k))
theorem lfW_z {un : AI} {f : AL} {v : Q4} {n : Nat} (hu : UnOk un) (zv : Hz (z4 v)) (h2 : z_sq (z4 v) < 2 ^ 31) (hpos : 0 < z_sq (z4 v)) (hp : ∀ i, i < n → 0 ≤ (f i).toInt ∧ (f i).toInt < 2 ^ 29) : ∀ k, k ≤ n → Hz (z4 (lfW un f v k)) ∧ z_sq (z4 (lfW un f v k)) < 2 ^ 31 ∧ 0 < z_sq (z4 (lfW un f v k))
  | 0, _ => ⟨zv, h2, hpos⟩
  | k + 1, hk => by
    obtain ⟨h1, h3, h4⟩ := lfW_z hu zv h2 hpos hp k (by omega)
    obtain ⟨-, -, -, -, -, a1, a2, a3⟩ := way_z hu h1 h3 h4 (hp k (by omega)).1 (hp k (by omega)).2
    exact ⟨a1, by simp only [lfW]; omega, a3⟩
theorem fq_w4 (fc : AL) (k : Nat) (v : Q4) : fq (w4L fc k v) k = v := by
  obtain ⟨a, b, c, d⟩ := v
  simp only [fq, w4L, vp_updL, Prod.mk.injEq]
  refine ⟨?_, ?_, ?_, ?_⟩
  · rw [if_neg (by omega), if_neg (by omega), if_neg (by omega), if_pos trivial]
  · rw [if_neg (by omega), if_neg (by omega), if_pos trivial]
  · rw [if_neg (by omega), if_pos trivial]
  · rw [if_pos trivial]
theorem fq_w4n (fc : AL) {i k : Nat} (v : Q4) (h : i ≠ k) : fq (w4L fc k v) i = fq fc i := by
  simp only [fq, w4L, vp_updL, Prod.mk.injEq]
  refine ⟨?_, ?_, ?_, ?_⟩ <;> rw [if_neg (by omega), if_neg (by omega), if_neg (by omega), if_neg (by omega)]
theorem fcW_k {un : AI} {f : AL} {v : Q4} {fc : AL} : ∀ {n k : Nat}, k < n → fq (fcW un f v fc n) k = w_f un (f k) (lfW un f v k)
  | n + 1, k, h => by
    simp only [fcW]
    by_cases e : k = n
    · rw [e, fq_w4]
    · rw [fq_w4n _ _ e]
      exact fcW_k (by omega)
/-- the way's answer, its number of factors, its factors -/
noncomputable def m_way (kd sz : AI) (sh : AL) (g un : AI) (nf : Int32) (fc : AL) (s r i n : Int32) : Int32 × Int32 × AL :=
  if p_in s.toInt64 0 15 then
    if p_in r.toInt64 0 5 then
      if n = 0 then (-1, nf, fc)
      else if n ≤ 12 then
        if 0 ≤ kd r.toNatClampNeg then
          if 0 ≤ n then
            if m_ag kd sz r.toNatClampNeg i n = 0 then
            @ite _ (m_prim (rq g s.toNatClampNeg) ∧ wR (fun k => sh (16 * r.toNatClampNeg + i.toNatClampNeg + k)) 0 n.toNatClampNeg (q_norm (rq g s.toNatClampNeg)).toInt.toNat) (Classical.propDecidable _)
              (n, n, w4L (fcW un (fun k => sh (16 * r.toNatClampNeg + i.toNatClampNeg + k)) (rq g s.toNatClampNeg) fc (n.toNatClampNeg - 1)) (n.toNatClampNeg - 1) (lfW un (fun k => sh (16 * r.toNatClampNeg + i.toNatClampNeg + k)) (rq g s.toNatClampNeg) (n.toNatClampNeg - 1)))
              (-2, nf, fc)
            else (-12, nf, fc)
          else (-13, nf, fc)
        else (-11, nf, fc)
      else (-1, nf, fc)
    else (-1, nf, fc)
  else (-1, nf, fc)
/-- primes with a product are not greater than it -/
theorem wR_all {f : AL} : ∀ {m k M : Nat}, wR f k m M → ∀ j, j < m → 0 ≤ (f (k + j)).toInt ∧ (f (k + j)).toInt ≤ M
  | m + 1, k, M, h, j, hj => by
    obtain ⟨a1, a2, -⟩ := wR_le h
    obtain ⟨h1, M', h2, h3⟩ := h
    match j, hj with
    | 0, _ => exact ⟨by show 0 ≤ (f k).toInt; omega, a2⟩
    | j + 1, hj =>
      have h4 := wR_all h3 j (by omega)
      rw [show k + (j + 1) = k + 1 + j by omega]
      refine ⟨h4.1, ?_⟩
      have : 1 * (M' : Int) ≤ (f k).toInt * M' := Int.mul_le_mul_of_nonneg_right (by omega) (by omega)
      omega
theorem wR_mul {f : AL} {k m M P : Nat} {p : Int} (hp : (f k).toInt = p) (h0 : 0 ≤ p) (hpr : isPr p) : (∃ Q, P = M * Q ∧ wR f k (m + 1) Q) ↔ ∃ Q, P = (M * p.toNat) * Q ∧ wR f (k + 1) m Q := by
  have ep : ((p.toNat : Nat) : Int) = p := Int.toNat_of_nonneg h0
  constructor
  · rintro ⟨Q, h1, -, Q', h2, h3⟩
    refine ⟨Q', ?_, h3⟩
    have : Q = p.toNat * Q' := by
      have h4 : ((Q : Nat) : Int) = ((p.toNat * Q' : Nat) : Int) := by rw [h2, hp, Int.natCast_mul, ep]
      exact_mod_cast h4
    rw [h1, this, Nat.mul_assoc]
  · rintro ⟨Q', h1, h3⟩
    refine ⟨p.toNat * Q', by rw [h1, Nat.mul_assoc], by rw [hp]; exact hpr, Q', ?_, h3⟩
    rw [hp, Int.natCast_mul, ep]
set_option maxRecDepth 100000 in
set_option maxHeartbeats 4000000 in
theorem unC_tab : ∀ i : Fin 24, okU (rq unC i.val) = true ∧ q_low (rq unC i.val) = true := by decide +kernel
theorem unC_ok : UnOk unC := by
  intro i hi
  obtain ⟨h1, h2⟩ := unC_tab ⟨i, hi⟩
  simp only [okU, Bool.and_eq_true, decide_eq_true_iff] at h1
  obtain ⟨h3, h4⟩ := h1
  refine ⟨one_z.mp (by rw [← al_one]; exact h4), ?_⟩
  have h5 := (z_qsq (low_bd h2) (by decide)).1
  rw [← h5]
  have : q_sq (rq unC i) = 4 := h3
  rw [this]
  rfl
