/-! PURE: the run from a whole number, whatever the norm -/
set_option maxRecDepth 100000
theorem max_bd {v : Q4} : ∃ C : Nat, q_bd C v ∧ (C : Int) * C ≤ z_sq (z4 v) := by
  obtain ⟨a, b, c, d⟩ := v
  have h0 := sq_nn a.toInt
  have h1 := sq_nn b.toInt
  have h2 := sq_nn c.toInt
  have h3 := sq_nn d.toInt
  have na : ∀ x : Int, (x.natAbs : Int) * x.natAbs = x * x := fun x => Int.natAbs_mul_self
  refine ⟨max (max a.toInt.natAbs b.toInt.natAbs) (max c.toInt.natAbs d.toInt.natAbs), ⟨by dsimp only; omega, by dsimp only; omega, by dsimp only; omega, by dsimp only; omega⟩, ?_⟩
  simp only [z_sq, z4]
  rcases (show max (max a.toInt.natAbs b.toInt.natAbs) (max c.toInt.natAbs d.toInt.natAbs) = a.toInt.natAbs ∨ max (max a.toInt.natAbs b.toInt.natAbs) (max c.toInt.natAbs d.toInt.natAbs) = b.toInt.natAbs ∨ max (max a.toInt.natAbs b.toInt.natAbs) (max c.toInt.natAbs d.toInt.natAbs) = c.toInt.natAbs ∨ max (max a.toInt.natAbs b.toInt.natAbs) (max c.toInt.natAbs d.toInt.natAbs) = d.toInt.natAbs by omega) with h | h | h | h <;> rw [h, na] <;> omega
theorem w_whole {sd : Int32} {x y : Q4} {p : Int} {C : Nat} (hx : z4 x = (2 * p, 0, 0, 0)) (zy : Hz (z4 y)) (hb : q_bd C y) (hC : C ≤ 46341) (hp0 : 0 ≤ p) (hp : p < 2 ^ 29) : Hz (z4 x) ∧ q_bd (2 ^ 30) x ∧ q_bd (p.toNat * C) (d_w sd x y) := by
  obtain ⟨hm, hmb⟩ := z_mirror hb (by omega)
  have zm : Hz (z4 (q_mirror y)) := by rw [hm]; exact Hz_bar zy
  have zx : Hz (z4 x) := ⟨p, 0, 0, 0, 0, by rw [hx]; simp, Or.inl rfl⟩
  have hxb : q_bd (2 ^ 30) x := by
    obtain ⟨x0, x1, x2, x3⟩ := x
    simp only [z4, Prod.mk.injEq] at hx
    obtain ⟨g0, g1, g2, g3⟩ := hx
    refine ⟨?_, ?_, ?_, ?_⟩ <;> dsimp only <;> omega
  have hBC : 2 ^ 30 * C < 2 ^ 59 := by omega
  have key : ∀ m r : Int, m.natAbs ≤ C → 2 * p * m = 2 * r → r.natAbs ≤ p.toNat * C := by
    intro m r hm he
    have : r = p * m := by
      have : 2 * p * m = 2 * (p * m) := by grind
      omega
    rw [this, Int.natAbs_mul]
    exact Nat.mul_le_mul (by omega) hm
  refine ⟨zx, hxb, ?_⟩
  obtain ⟨m0, m1, m2, m3⟩ := hmb
  unfold d_w
  split
  · obtain ⟨-, he⟩ := times_z hxb ⟨m0, m1, m2, m3⟩ hBC zx zm
    rw [hx] at he
    generalize q_times x (q_mirror y) = r at he ⊢
    simp only [z_m, z4, Prod.mk.injEq] at he
    obtain ⟨g0, g1, g2, g3⟩ := he
    exact ⟨key _ _ m0 (by omega), key _ _ m1 (by omega), key _ _ m2 (by omega), key _ _ m3 (by omega)⟩
  · obtain ⟨-, he⟩ := times_z ⟨m0, m1, m2, m3⟩ hxb (by rw [Nat.mul_comm]; exact hBC) zm zx
    rw [hx] at he
    generalize q_times (q_mirror y) x = r at he ⊢
    simp only [z_m, z4, Prod.mk.injEq, Int.mul_comm _ (2 * p)] at he
    obtain ⟨g0, g1, g2, g3⟩ := he
    exact ⟨key _ _ m0 (by omega), key _ _ m1 (by omega), key _ _ m2 (by omega), key _ _ m3 (by omega)⟩
theorem euc_whole {sd : Int32} {k : Nat} {x y : Q4} {p : Int} (hx : z4 x = (2 * p, 0, 0, 0)) (zy : Hz (z4 y)) (h2 : z_sq (z4 y) < 2 ^ 31) (h3 : z_sq (z4 y) < 2 ^ k) (hp0 : 0 ≤ p) (hp : p < 2 ^ 29) : eucBoth sd (k + 1) x y := by
  obtain ⟨e1, e2⟩ := null_z h2
  by_cases h : q_null y = true
  · exact Or.inl ⟨h, by rw [e2]; exact h⟩
  · have hf : q_null y = false := by simpa using h
    have hpos : 0 < z_sq (z4 y) := by
      have := z_sq_nn (z4 y)
      have h4 : ¬ z_sq (z4 y) = 0 := fun z => h (e1.mpr z)
      omega
    have hn := z_norm (bd_z h2) (by decide) zy
    obtain ⟨C, hb, hC⟩ := max_bd (v := y)
    have hC2 : C ≤ 46341 := by
      apply Classical.byContradiction
      intro hc
      have : (46342 : Int) * 46342 ≤ C * C := Int.mul_le_mul (by omega) (by omega) (by omega) (by omega)
      omega
    obtain ⟨zx, hxb, hw⟩ := w_whole (sd := sd) hx zy hb hC2 hp0 hp
    obtain ⟨N, hN⟩ : ∃ N : Nat, (q_norm y).toInt = N := ⟨(q_norm y).toInt.toNat, by omega⟩
    have hN0 : 0 < N := by omega
    have hCN : C * C ≤ 4 * N := by
      have : ((C * C : Nat) : Int) ≤ 4 * N := by push_cast; omega
      omega
    have hWb : p.toNat * C ≤ 2 ^ 29 * 46341 := Nat.mul_le_mul (by omega) hC2
    have hq1 : p.toNat * C ≤ N * (p.toNat * C / N + 1) := by
      have := Nat.div_add_mod (p.toNat * C) N
      have := Nat.mod_lt (p.toNat * C) hN0
      rw [Nat.mul_add]
      omega
    have hq2 : (p.toNat * C / N + 1 + 2) * C < 2 ^ 59 := by
      have a1 : p.toNat * C / N * N ≤ p.toNat * C := Nat.div_mul_le_self _ _
      have a2 : p.toNat * C * C ≤ (p.toNat * 4) * N := by
        rw [Nat.mul_assoc, Nat.mul_assoc]; exact Nat.mul_le_mul_left _ hCN
      have a3 : p.toNat * C / N * C ≤ p.toNat * 4 := by
        refine Nat.le_of_mul_le_mul_right (c := N) ?_ hN0
        refine Nat.le_trans ?_ a2
        rw [Nat.mul_right_comm]
        exact Nat.mul_le_mul_right C a1
      have a4 : (p.toNat * C / N + 1 + 2) * C = p.toNat * C / N * C + 3 * C := by rw [Nat.add_assoc, Nat.add_mul]
      omega
    obtain ⟨n0, n1, zr, hr, -⟩ := rest_z (Q := p.toNat * C / N + 1) hxb hb zx zy (by decide) hC2 hpos h2 hw (by omega) (fun _ => by
      rw [hN]; exact_mod_cast hq1) hq2
    exact Or.inr ⟨hf, by rw [e2]; exact hf, n_pos n0 n1, euc_runs k zy zr h2 (by omega) (by omega)⟩
