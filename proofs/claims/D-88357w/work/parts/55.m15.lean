noncomputable def wayIf (c : Prop) (a b : Int32 × Int32 × AL) : Int32 × Int32 × AL := @ite _ c (Classical.propDecidable c) a b
theorem wayIf_y {c : Prop} {a b : Int32 × Int32 × AL} (h : c) : wayIf c a b = a := if_pos h
theorem wayIf_n {c : Prop} {a b : Int32 × Int32 × AL} (h : ¬ c) : wayIf c a b = b := if_neg h
abbrev wP (v : Q4) : Nat := (q_norm v).toInt.toNat
abbrev wSh (sh : AL) (jr ia : Nat) : AL := fun k => sh (16 * jr + ia + k)
theorem way_in {kd sz : AI} {sh : AL} {g un : AI} {nf : Int32} {fc : AL} {js jr ia nn : Nat} (h1 : p_in (nI js).toInt64 0 15 = true) (h2 : p_in (nI jr).toInt64 0 5 = true) (hjs : js < 16) (hjr : jr < 6) (hia : ia ≤ 16) (hn1 : 0 < nn) (hn2 : nn ≤ 12) (h3 : 0 ≤ kd jr) (h4 : m_ag kd sz jr (nI ia) (nI nn) = 0) :
    m_way kd sz sh g un nf fc (nI js) (nI jr) (nI ia) (nI nn) = wayIf (m_prim (rq g js) ∧ wR (wSh sh jr ia) 0 nn (wP (rq g js))) (nI nn, nI nn, w4L (fcW un (wSh sh jr ia) (rq g js) fc (nn - 1)) (nn - 1) (lfW un (wSh sh jr ia) (rq g js) (nn - 1))) (-2, nf, fc) := by
  have e1 : ¬ nI nn = 0 := fun z => absurd (eq_y (a := nn) (b := 0) rfl rfl (by omega) (by omega) z) (by omega)
  have e2 : nI nn ≤ 12 := nI_le (b := 12) hn2 (by decide)
  have e3 : 0 ≤ nI nn := nI_pos' (by omega)
  rw [m_way, if_pos h1, if_pos h2, if_neg e1, if_pos e2, nI_clamp (show jr < 2 ^ 31 by omega), if_pos h3, if_pos e3, if_pos h4, nI_clamp (show js < 2 ^ 31 by omega), nI_clamp (show ia < 2 ^ 31 by omega), nI_clamp (show nn < 2 ^ 31 by omega)]
  rfl
theorem norm_P {g : AI} {j : Nat} (hR : okR g) (hj : j < 16) : q_norm (rq g j) = lN (wP (rq g j)) ∧ wP (rq g j) < 2 ^ 29 ∧ z_sq (z4 (rq g j)) = 4 * (wP (rq g j) : Int) := by
  have h := hR.sq hj
  have hn := z_norm (bd_z h) (by decide) (hR.hz hj)
  have h0 := z_sq_nn (z4 (rq g j))
  have h1 : ((wP (rq g j) : Nat) : Int) = (q_norm (rq g j)).toInt := Int.toNat_of_nonneg (by omega)
  refine ⟨?_, by omega, by omega⟩
  rw [← Int64.toInt_inj, pk_lT (by omega), h1]
theorem prim_pos {g : AI} {j : Nat} (hR : okR g) (hj : j < 16) (h : m_prim (rq g j)) : 0 < z_sq (z4 (rq g j)) := by
  have h1 := null_z (hR.sq hj)
  have h0 := z_sq_nn (z4 (rq g j))
  have h2 : ¬ z_sq (z4 (rq g j)) = 0 := fun z => by have := h1.1.mpr z; rw [h.1] at this; exact absurd this (by decide)
  omega
theorem lP_40 {x : Int64} {P : Nat} (hP : P < 2 ^ 29) (h : ¬ lN P < x) : x.toInt ≤ P := by
  rw [Int64.lt_iff_toInt_lt, pk_lT (by omega)] at h
  omega
theorem lP_no {x : Int64} {P : Nat} (hP : P < 2 ^ 29) (h : lN P < x) : (P : Int) < x.toInt := by
  rw [Int64.lt_iff_toInt_lt, pk_lT (by omega)] at h
  omega
theorem lN_mulN {x : Int64} {M P : Nat} (h0 : 0 ≤ x.toInt) (h1 : x.toInt ≤ P) (hP : P < 2 ^ 29) (hM : M ≤ P) : lN M * x = lN (M * x.toInt.toNat) := by
  have h2 := pm (x := lN M) (y := x) (B := 2 ^ 29) (C := 2 ^ 29) (by rw [pk_lT (by omega)]; omega) (by omega) (by decide)
  rw [← Int64.toInt_inj, h2.1, pk_lT (by omega), pk_lT ?_, Int.natCast_mul, Int.toNat_of_nonneg h0]
  have : M * x.toInt.toNat ≤ 2 ^ 29 * 2 ^ 29 := Nat.mul_le_mul (by omega) (by omega)
  omega
theorem lMP_le {x : Int64} {M P : Nat} (h1 : x.toInt ≤ P) (hP : P < 2 ^ 29) (hM : M ≤ P) : M * x.toInt.toNat < 2 ^ 59 := by
  have : M * x.toInt.toNat ≤ 2 ^ 29 * 2 ^ 29 := Nat.mul_le_mul (by omega) (by omega)
  omega
/-- the primes' run: what is still asked -/
def wQ (f : AL) (k m M P : Nat) : Prop := ∃ Q, P = M * Q ∧ wR f k m Q
theorem wQ_le {f : AL} {k m M P : Nat} (hM : 0 < M) (h : wQ f k (m + 1) M P) : 1 < (f k).toInt ∧ (f k).toInt ≤ P ∧ M * (f k).toInt.toNat ≤ P ∧ isPr (f k).toInt := by
  obtain ⟨Q, h1, h2⟩ := h
  obtain ⟨a1, a2, -⟩ := wR_le h2
  obtain ⟨b1, Q', b2, b3⟩ := h2
  have b4 := wR_pos _ _ _ b3
  have ep : (((f k).toInt.toNat : Nat) : Int) = (f k).toInt := Int.toNat_of_nonneg (by omega)
  have e : Q = (f k).toInt.toNat * Q' := by
    have h4 : ((Q : Nat) : Int) = (((f k).toInt.toNat * Q' : Nat) : Int) := by rw [b2, Int.natCast_mul, ep]
    exact_mod_cast h4
  have c1 : Q ≤ P := by rw [h1]; exact Nat.le_mul_of_pos_left _ hM
  refine ⟨a1, by omega, ?_, b1⟩
  rw [h1, e]
  exact Nat.mul_le_mul_left _ (Nat.le_mul_of_pos_right _ b4)
theorem wQ_st {f : AL} {k m M P : Nat} (hpr : isPr (f k).toInt) : wQ f k (m + 1) M P ↔ wQ f (k + 1) m (M * (f k).toInt.toNat) P := wR_mul rfl (by have := hpr.1; omega) hpr
theorem wQ_e {f : AL} {k M P : Nat} : wQ f k 0 M P ↔ M = P := by
  constructor
  · rintro ⟨Q, h1, h2⟩
    have h2 : Q = 1 := h2
    rw [h1, h2, Nat.mul_one]
  · intro h
    exact ⟨1, by omega, rfl⟩
theorem wQ_0 {f : AL} {m P : Nat} : wQ f 0 m 1 P ↔ wR f 0 m P := by
  constructor
  · rintro ⟨Q, h1, h2⟩
    rw [Nat.one_mul] at h1
    rw [h1]; exact h2
  · intro h
    exact ⟨P, by omega, h⟩
theorem n_nn {n : Int32} (h0 : ¬ n = 0) (h1 : n ≤ 12) (h2 : 0 ≤ n) : ∃ nn : Nat, n = nI nn ∧ 0 < nn ∧ nn ≤ 12 := by
  obtain ⟨a, ha, rfl⟩ := nI_of (x := n) (fun z => absurd h2 (not_le_of_lt32 z))
  rw [show (12 : Int32) = nI 12 from rfl, nI_leI ha (by decide)] at h1
  refine ⟨a, rfl, ?_, h1⟩
  rcases Nat.eq_zero_or_pos a with h | h
  · exact absurd (by rw [h]; rfl) h0
  · exact h
theorem q_bd_le {B C : Nat} {v : Q4} (h : q_bd B v) (hc : B ≤ C) : q_bd C v := ⟨Nat.le_trans h.1 hc, Nat.le_trans h.2.1 hc, Nat.le_trans h.2.2.1 hc, Nat.le_trans h.2.2.2 hc⟩
theorem norm_nz {n : Int64} (h : 0 < n.toInt) : ¬ n = 0 := fun z => by rw [z] at h; exact absurd h (by decide)
/-- what the steps of the way need -/
def wOk (un : AI) (f : AL) (v : Q4) (nn : Nat) : Prop := ∀ k, k < nn → eucOk 1 40 (2 * f k, 0, 0, 0) (lfW un f v k) ∧ ¬ q_norm (w_f un (f k) (lfW un f v k)) = 0
theorem wOk_of {g un : AI} {f : AL} {j nn : Nat} (hR : okR g) (hU : UnOk un) (hj : j < 16) (h1 : m_prim (rq g j)) (h2 : wR f 0 nn (wP (rq g j))) : wOk un f (rq g j) nn := by
  obtain ⟨-, hP, -⟩ := norm_P hR hj
  have hp : ∀ i, i < nn → 0 ≤ (f i).toInt ∧ (f i).toInt < 2 ^ 29 := fun i hi => by
    have := wR_all h2 i hi
    rw [Nat.zero_add] at this
    omega
  intro k hk
  obtain ⟨a1, a2, a3⟩ := lfW_z hU (hR.hz hj) (hR.sq hj) (prim_pos hR hj h1) hp k (by omega)
  obtain ⟨b1, b2, -⟩ := way_z hU a1 a2 a3 (hp k hk).1 (hp k hk).2
  exact ⟨eucBoth_1 b1, norm_nz b2⟩
set_option maxHeartbeats 4000000 in
set_option maxRecDepth 100000 in
theorem lp_X5_way2 {KN : State → Prop} (hk : KNok KN) {l : Launch} {D : va_G} {ca : Nat → ClassId} (o : Nat) (ad : Nat → Nat) (nf : Int32) (mo : Int32) (kd : AI) (sz : AI) (sh : AL) (g : AI) (un : AI) (fc : AL) (js : Nat) (jr : Nat) (ia : Nat) (nn : Nat) (hjs : js < 16) (hjr : jr < 6) (hia : ia + nn ≤ 16) (hn1 : 0 < nn) (hn2 : nn ≤ 12) (hP9 : wP (rq g js) < 2 ^ 29) (hsp : m_way kd sz sh g un nf fc (nI js) (nI jr) (nI ia) (nI nn) = wayIf (m_prim (rq g js) ∧ wR (wSh sh jr ia) 0 nn (wP (rq g js))) (nI nn, nI nn, w4L (fcW un (wSh sh jr ia) (rq g js) fc (nn - 1)) (nn - 1) (lfW un (wSh sh jr ia) (rq g js) (nn - 1))) (-2, nf, fc)) (hC : (m_prim (rq g js) ∧ wR (wSh sh jr ia) 0 nn (wP (rq g js)))) (hW : wOk un (wSh sh jr ia) (rq g js) nn) {p : Program} {e : Env} {s : State} {m : MethodId} {below : List Frame} {meth : Method} {c : Code} {A : Nat → Prop}  (hx : p.tables.exec = Jvm.exec) (hb : c.code = cX5_way) (hr : meth.sig.returnType = (some .int)) (hts : ∀ w ∈ lw_all, w.before ([.ref o, .int (nI js), .int (nI jr), .int (nI ia), .int (nI nn)] : List Value).toArray s = true) (hown : s.vm.findClass yX5_way.cls = some m.cls) (hlocks : meth.locks = false) (hnm : meth.name = yX5_way.name) (hml : c.maxLocals = 14) (hK : va_K D vwCl (tysG ca) s) (hN : KN s) (hA : ∀ q, s.heap.size ≤ q → A q)  :
    ∀ (n : Nat) (k : Nat) (fv : AL) (lv : Q4) (x : Q4) (y : Q4) (z : Q4) (rs : Q4) (bs : Q4) (qt : Q4) (w0 : Q4) (tv : Q4), (k ≤ nn - 1) → (fv = fcW un (wSh sh jr ia) (rq g js) fc k) → (lv = lfW un (wSh sh jr ia) (rq g js) k) → (nn < n + k) →  ∀ (H : Heap) (locs : List Loc) (ls : Array Slot), va_P D vwCl [(o, mO ad nf mo), (ad 0, aI ca 6 kd), (ad 1, aI ca 6 sz), (ad 2, aL ca 96 sh), (ad 3, aI ca 64 g), (ad 4, aI ca 96 un), (ad 6, aL ca 48 fv), (ad 8, a4 ca x), (ad 9, a4 ca y), (ad 10, a4 ca z), (ad 11, a4 ca rs), (ad 12, a4 ca bs), (ad 13, a4 ca qt), (ad 14, a4 ca w0), (ad 15, a4 ca tv), (ad 16, a4 ca lv)] H → va_D A [(o, mO ad nf mo), (ad 0, aI ca 6 kd), (ad 1, aI ca 6 sz), (ad 2, aL ca 96 sh), (ad 3, aI ca 64 g), (ad 4, aI ca 96 un), (ad 6, aL ca 48 fv), (ad 8, a4 ca x), (ad 9, a4 ca y), (ad 10, a4 ca z), (ad 11, a4 ca rs), (ad 12, a4 ca bs), (ad 13, a4 ca qt), (ad 14, a4 ca w0), (ad 15, a4 ca tv), (ad 16, a4 ca lv)] → va_S A s.heap H locs → lv_has ls 14 [(0, .ref o), (2, .int (nI jr)), (3, .int (nI ia)), (4, .int (nI nn)), (10, .int (nI k))] → W p l e ({ frames := 3, cells := 0, slots := 0, locals := 81 }) s m ([.ref o, .int (nI js), .int (nI jr), .int (nI ia), .int (nI nn)] : List Value).toArray below meth c H locs 0 0 (MQ below (qI D (fun (r : Int32) (u : Int32 × AL × Q4 × Q4 × Q4 × Q4 × Q4 × Q4 × Q4 × Q4 × Q4) => (r, u.1, u.2.1) = m_way kd sz sh g un nf fc (nI js) (nI jr) (nI ia) (nI nn)) (fun u => [(o, mO ad u.1 mo), (ad 0, aI ca 6 kd), (ad 1, aI ca 6 sz), (ad 2, aL ca 96 sh), (ad 3, aI ca 64 g), (ad 4, aI ca 96 un), (ad 6, aL ca 48 u.2.1), (ad 8, a4 ca u.2.2.1), (ad 9, a4 ca u.2.2.2.1), (ad 10, a4 ca u.2.2.2.2.1), (ad 11, a4 ca u.2.2.2.2.2.1), (ad 12, a4 ca u.2.2.2.2.2.2.1), (ad 13, a4 ca u.2.2.2.2.2.2.2.1), (ad 14, a4 ca u.2.2.2.2.2.2.2.2.1), (ad 15, a4 ca u.2.2.2.2.2.2.2.2.2.1), (ad 16, a4 ca u.2.2.2.2.2.2.2.2.2.2)]) (fun u H => True) A) ([.ref o, .int (nI js), .int (nI jr), .int (nI ia), .int (nI nn)] : List Value).toArray s 0 0 A) (F0 m 199 ls []) := by
  intro n
  induction n with
  | zero =>
    intro k fv lv x y z rs bs qt w0 tv hkn hfv hlv hfuel H locs ls hP hD hS hl 
    exact absurd hfuel (by omega)
  | succ n ih =>
    intro k fv lv x y z rs bs qt w0 tv hkn hfv hlv hfuel H locs ls hP hD hS hl 
    refine lv_iload hx hb dX5_way_199 (lv_at hl 4 rfl) ?_
    refine lv_iload hx hb dX5_way_201 (lv_at hl 3 rfl) ?_
    refine lv_iconst (v := 1) hx hb dX5_way_203 (by decide) ?_
    refine lv_isub hx hb dX5_way_204 ?_
    refine lv_topi (fun z_1 ez_1 => ?_)
    obtain rfl : z_1 = nI (nn - 1) := ez_1.trans (eq_sub (a := nn) (b := 1) rfl rfl (by omega))
    refine lv_icmp_ge (tgt := 376) hx hb dX5_way_205 (by decide) (fun c_2 => ?_) (fun c_2 => ?_)
    · have c_2 := le_y (a := nn - 1) (b := k) rfl rfl (by omega) (by omega) c_2
      refine lv_iconst (v := 0) hx hb dX5_way_376 (by decide) ?_
      refine lv_istore (lv' := [(10, .int 0), (0, .ref o), (2, .int (nI jr)), (3, .int (nI ia)), (4, .int (nI nn))]) hx hb dX5_way_377 hl (by decide) rfl (fun ls hl => ?_)
      refine lv_iload hx hb dX5_way_379 (lv_at hl 0 rfl) ?_
      refine lv_iconst (v := 4) hx hb dX5_way_381 (by decide) ?_
      refine lv_icmp_ge (tgt := 412) hx hb dX5_way_382 (by decide) (fun c_3 => absurd c_3 (by decide)) (fun c_3 => ?_)
      refine lv_aload_n hx hb dX5_way_385 rfl (lv_at hl 1 rfl) ?_
      refine va_get (D := D) (ci := 4) (v := .ref (ad 6)) (C := RX5) (T := TX5) (N := 18) hx hb hts in_X5 hown hK hP 0 rfl rfl 6 (by decide) (hts _ q579) (fun _ h9 => h9) rfl dX5_way_386 ?_
      refine lv_iconst (v := 4) hx hb dX5_way_389 (by decide) ?_
      refine lv_iload hx hb dX5_way_390 (lv_at hl 4 rfl) ?_
      refine lv_imul hx hb dX5_way_392 ?_
      refine lv_iconst (v := 4) hx hb dX5_way_393 (by decide) ?_
      refine lv_isub hx hb dX5_way_394 ?_
      refine lv_topi (fun z_4 ez_4 => ?_)
      obtain rfl : z_4 = nI (4 * (nn - 1)) := ez_4.trans ((eq_sub (a := 4 * nn) (b := 4) (eq_mul (a := 4) (b := nn) rfl rfl) rfl (by omega)).trans (congrArg nI (by omega)))
      refine lv_iload hx hb dX5_way_395 (lv_at hl 0 rfl) ?_
      refine lv_iadd hx hb dX5_way_397 ?_
      refine lv_aload_n hx hb dX5_way_398 rfl (lv_at hl 1 rfl) ?_
      refine va_get (D := D) (ci := 4) (v := .ref (ad 16)) (C := RX5) (T := TX5) (N := 18) hx hb hts in_X5 hown hK hP 0 rfl rfl 16 (by decide) (hts _ q589) (fun _ h9 => h9) rfl dX5_way_399 ?_
      refine lv_iload hx hb dX5_way_402 (lv_at hl 0 rfl) ?_
      refine va_lald hx hb hK hP 15 2 rfl rfl (vin (by decide)) dX5_way_404 ?_
      refine lv_topl (fun z_5 ez_5 => ?_)
      obtain rfl : z_5 = lv.1 := ez_5.trans rfl
      refine va_last hx hb hK hP hD hS 6 2 rfl rfl (vin_nI (a := 4 * (nn - 1)) (eq_add0 rfl) (by omega) (by omega)) dX5_way_405 (fun H locs hP hD hS => ?_)
      rw [cn_nI (i := (nI (4 * (nn - 1))) + 0) (a := 4 * (nn - 1)) (eq_add0 rfl) (by omega)] at hP hD
      have hP : va_P D vwCl [(o, mO ad nf mo), (ad 0, aI ca 6 kd), (ad 1, aI ca 6 sz), (ad 2, aL ca 96 sh), (ad 3, aI ca 64 g), (ad 4, aI ca 96 un), (ad 6, aL ca 48 (vp_updL fv (4 * (nn - 1)) lv.1)), (ad 8, a4 ca x), (ad 9, a4 ca y), (ad 10, a4 ca z), (ad 11, a4 ca rs), (ad 12, a4 ca bs), (ad 13, a4 ca qt), (ad 14, a4 ca w0), (ad 15, a4 ca tv), (ad 16, a4 ca lv)] H := hP
      have hD : va_D A [(o, mO ad nf mo), (ad 0, aI ca 6 kd), (ad 1, aI ca 6 sz), (ad 2, aL ca 96 sh), (ad 3, aI ca 64 g), (ad 4, aI ca 96 un), (ad 6, aL ca 48 (vp_updL fv (4 * (nn - 1)) lv.1)), (ad 8, a4 ca x), (ad 9, a4 ca y), (ad 10, a4 ca z), (ad 11, a4 ca rs), (ad 12, a4 ca bs), (ad 13, a4 ca qt), (ad 14, a4 ca w0), (ad 15, a4 ca tv), (ad 16, a4 ca lv)] := hD
      refine lv_iinc (v := 1) (lv' := [(10, .int 1), (0, .ref o), (2, .int (nI jr)), (3, .int (nI ia)), (4, .int (nI nn))]) hx hb dX5_way_406 hl (k := 0) rfl (by decide) (by decide) rfl (fun ls hl => ?_)
      refine lv_goto (tgt := 379) hx hb dX5_way_409 (by decide) ?_
      refine lv_iload hx hb dX5_way_379 (lv_at hl 0 rfl) ?_
      refine lv_iconst (v := 4) hx hb dX5_way_381 (by decide) ?_
      refine lv_icmp_ge (tgt := 412) hx hb dX5_way_382 (by decide) (fun c_6 => absurd c_6 (by decide)) (fun c_6 => ?_)
      refine lv_aload_n hx hb dX5_way_385 rfl (lv_at hl 1 rfl) ?_
      refine va_get (D := D) (ci := 4) (v := .ref (ad 6)) (C := RX5) (T := TX5) (N := 18) hx hb hts in_X5 hown hK hP 0 rfl rfl 6 (by decide) (hts _ q579) (fun _ h9 => h9) rfl dX5_way_386 ?_
      refine lv_iconst (v := 4) hx hb dX5_way_389 (by decide) ?_
      refine lv_iload hx hb dX5_way_390 (lv_at hl 4 rfl) ?_
      refine lv_imul hx hb dX5_way_392 ?_
      refine lv_iconst (v := 4) hx hb dX5_way_393 (by decide) ?_
      refine lv_isub hx hb dX5_way_394 ?_
      refine lv_topi (fun z_7 ez_7 => ?_)
      obtain rfl : z_7 = nI (4 * (nn - 1)) := ez_7.trans ((eq_sub (a := 4 * nn) (b := 4) (eq_mul (a := 4) (b := nn) rfl rfl) rfl (by omega)).trans (congrArg nI (by omega)))
      refine lv_iload hx hb dX5_way_395 (lv_at hl 0 rfl) ?_
      refine lv_iadd hx hb dX5_way_397 ?_
      refine lv_aload_n hx hb dX5_way_398 rfl (lv_at hl 1 rfl) ?_
      refine va_get (D := D) (ci := 4) (v := .ref (ad 16)) (C := RX5) (T := TX5) (N := 18) hx hb hts in_X5 hown hK hP 0 rfl rfl 16 (by decide) (hts _ q589) (fun _ h9 => h9) rfl dX5_way_399 ?_
      refine lv_iload hx hb dX5_way_402 (lv_at hl 0 rfl) ?_
      refine va_lald hx hb hK hP 15 2 rfl rfl (vin (by decide)) dX5_way_404 ?_
      refine lv_topl (fun z_8 ez_8 => ?_)
      obtain rfl : z_8 = lv.2.1 := ez_8.trans rfl
      refine va_last hx hb hK hP hD hS 6 2 rfl rfl (vin_nI (a := (4 * (nn - 1)) + 1) (eq_add rfl rfl) (by omega) (by omega)) dX5_way_405 (fun H locs hP hD hS => ?_)
      rw [cn_nI (i := (nI (4 * (nn - 1))) + 1) (a := (4 * (nn - 1)) + 1) (eq_add rfl rfl) (by omega)] at hP hD
      have hP : va_P D vwCl [(o, mO ad nf mo), (ad 0, aI ca 6 kd), (ad 1, aI ca 6 sz), (ad 2, aL ca 96 sh), (ad 3, aI ca 64 g), (ad 4, aI ca 96 un), (ad 6, aL ca 48 (vp_updL (vp_updL fv (4 * (nn - 1)) lv.1) ((4 * (nn - 1)) + 1) lv.2.1)), (ad 8, a4 ca x), (ad 9, a4 ca y), (ad 10, a4 ca z), (ad 11, a4 ca rs), (ad 12, a4 ca bs), (ad 13, a4 ca qt), (ad 14, a4 ca w0), (ad 15, a4 ca tv), (ad 16, a4 ca lv)] H := hP
      have hD : va_D A [(o, mO ad nf mo), (ad 0, aI ca 6 kd), (ad 1, aI ca 6 sz), (ad 2, aL ca 96 sh), (ad 3, aI ca 64 g), (ad 4, aI ca 96 un), (ad 6, aL ca 48 (vp_updL (vp_updL fv (4 * (nn - 1)) lv.1) ((4 * (nn - 1)) + 1) lv.2.1)), (ad 8, a4 ca x), (ad 9, a4 ca y), (ad 10, a4 ca z), (ad 11, a4 ca rs), (ad 12, a4 ca bs), (ad 13, a4 ca qt), (ad 14, a4 ca w0), (ad 15, a4 ca tv), (ad 16, a4 ca lv)] := hD
      refine lv_iinc (v := 2) (lv' := [(10, .int 2), (0, .ref o), (2, .int (nI jr)), (3, .int (nI ia)), (4, .int (nI nn))]) hx hb dX5_way_406 hl (k := 0) rfl (by decide) (by decide) rfl (fun ls hl => ?_)
      refine lv_goto (tgt := 379) hx hb dX5_way_409 (by decide) ?_
      refine lv_iload hx hb dX5_way_379 (lv_at hl 0 rfl) ?_
      refine lv_iconst (v := 4) hx hb dX5_way_381 (by decide) ?_
      refine lv_icmp_ge (tgt := 412) hx hb dX5_way_382 (by decide) (fun c_9 => absurd c_9 (by decide)) (fun c_9 => ?_)
      refine lv_aload_n hx hb dX5_way_385 rfl (lv_at hl 1 rfl) ?_
      refine va_get (D := D) (ci := 4) (v := .ref (ad 6)) (C := RX5) (T := TX5) (N := 18) hx hb hts in_X5 hown hK hP 0 rfl rfl 6 (by decide) (hts _ q579) (fun _ h9 => h9) rfl dX5_way_386 ?_
      refine lv_iconst (v := 4) hx hb dX5_way_389 (by decide) ?_
      refine lv_iload hx hb dX5_way_390 (lv_at hl 4 rfl) ?_
      refine lv_imul hx hb dX5_way_392 ?_
      refine lv_iconst (v := 4) hx hb dX5_way_393 (by decide) ?_
      refine lv_isub hx hb dX5_way_394 ?_
      refine lv_topi (fun z_10 ez_10 => ?_)
      obtain rfl : z_10 = nI (4 * (nn - 1)) := ez_10.trans ((eq_sub (a := 4 * nn) (b := 4) (eq_mul (a := 4) (b := nn) rfl rfl) rfl (by omega)).trans (congrArg nI (by omega)))
      refine lv_iload hx hb dX5_way_395 (lv_at hl 0 rfl) ?_
      refine lv_iadd hx hb dX5_way_397 ?_
      refine lv_aload_n hx hb dX5_way_398 rfl (lv_at hl 1 rfl) ?_
      refine va_get (D := D) (ci := 4) (v := .ref (ad 16)) (C := RX5) (T := TX5) (N := 18) hx hb hts in_X5 hown hK hP 0 rfl rfl 16 (by decide) (hts _ q589) (fun _ h9 => h9) rfl dX5_way_399 ?_
      refine lv_iload hx hb dX5_way_402 (lv_at hl 0 rfl) ?_
      refine va_lald hx hb hK hP 15 2 rfl rfl (vin (by decide)) dX5_way_404 ?_
      refine lv_topl (fun z_11 ez_11 => ?_)
      obtain rfl : z_11 = lv.2.2.1 := ez_11.trans rfl
      refine va_last hx hb hK hP hD hS 6 2 rfl rfl (vin_nI (a := (4 * (nn - 1)) + 2) (eq_add rfl rfl) (by omega) (by omega)) dX5_way_405 (fun H locs hP hD hS => ?_)
      rw [cn_nI (i := (nI (4 * (nn - 1))) + 2) (a := (4 * (nn - 1)) + 2) (eq_add rfl rfl) (by omega)] at hP hD
      have hP : va_P D vwCl [(o, mO ad nf mo), (ad 0, aI ca 6 kd), (ad 1, aI ca 6 sz), (ad 2, aL ca 96 sh), (ad 3, aI ca 64 g), (ad 4, aI ca 96 un), (ad 6, aL ca 48 (vp_updL (vp_updL (vp_updL fv (4 * (nn - 1)) lv.1) ((4 * (nn - 1)) + 1) lv.2.1) ((4 * (nn - 1)) + 2) lv.2.2.1)), (ad 8, a4 ca x), (ad 9, a4 ca y), (ad 10, a4 ca z), (ad 11, a4 ca rs), (ad 12, a4 ca bs), (ad 13, a4 ca qt), (ad 14, a4 ca w0), (ad 15, a4 ca tv), (ad 16, a4 ca lv)] H := hP
      have hD : va_D A [(o, mO ad nf mo), (ad 0, aI ca 6 kd), (ad 1, aI ca 6 sz), (ad 2, aL ca 96 sh), (ad 3, aI ca 64 g), (ad 4, aI ca 96 un), (ad 6, aL ca 48 (vp_updL (vp_updL (vp_updL fv (4 * (nn - 1)) lv.1) ((4 * (nn - 1)) + 1) lv.2.1) ((4 * (nn - 1)) + 2) lv.2.2.1)), (ad 8, a4 ca x), (ad 9, a4 ca y), (ad 10, a4 ca z), (ad 11, a4 ca rs), (ad 12, a4 ca bs), (ad 13, a4 ca qt), (ad 14, a4 ca w0), (ad 15, a4 ca tv), (ad 16, a4 ca lv)] := hD
      refine lv_iinc (v := 3) (lv' := [(10, .int 3), (0, .ref o), (2, .int (nI jr)), (3, .int (nI ia)), (4, .int (nI nn))]) hx hb dX5_way_406 hl (k := 0) rfl (by decide) (by decide) rfl (fun ls hl => ?_)
      refine lv_goto (tgt := 379) hx hb dX5_way_409 (by decide) ?_
      refine lv_iload hx hb dX5_way_379 (lv_at hl 0 rfl) ?_
      refine lv_iconst (v := 4) hx hb dX5_way_381 (by decide) ?_
      refine lv_icmp_ge (tgt := 412) hx hb dX5_way_382 (by decide) (fun c_12 => absurd c_12 (by decide)) (fun c_12 => ?_)
      refine lv_aload_n hx hb dX5_way_385 rfl (lv_at hl 1 rfl) ?_
      refine va_get (D := D) (ci := 4) (v := .ref (ad 6)) (C := RX5) (T := TX5) (N := 18) hx hb hts in_X5 hown hK hP 0 rfl rfl 6 (by decide) (hts _ q579) (fun _ h9 => h9) rfl dX5_way_386 ?_
      refine lv_iconst (v := 4) hx hb dX5_way_389 (by decide) ?_
      refine lv_iload hx hb dX5_way_390 (lv_at hl 4 rfl) ?_
      refine lv_imul hx hb dX5_way_392 ?_
      refine lv_iconst (v := 4) hx hb dX5_way_393 (by decide) ?_
      refine lv_isub hx hb dX5_way_394 ?_
      refine lv_topi (fun z_13 ez_13 => ?_)
      obtain rfl : z_13 = nI (4 * (nn - 1)) := ez_13.trans ((eq_sub (a := 4 * nn) (b := 4) (eq_mul (a := 4) (b := nn) rfl rfl) rfl (by omega)).trans (congrArg nI (by omega)))
      refine lv_iload hx hb dX5_way_395 (lv_at hl 0 rfl) ?_
      refine lv_iadd hx hb dX5_way_397 ?_
      refine lv_aload_n hx hb dX5_way_398 rfl (lv_at hl 1 rfl) ?_
      refine va_get (D := D) (ci := 4) (v := .ref (ad 16)) (C := RX5) (T := TX5) (N := 18) hx hb hts in_X5 hown hK hP 0 rfl rfl 16 (by decide) (hts _ q589) (fun _ h9 => h9) rfl dX5_way_399 ?_
      refine lv_iload hx hb dX5_way_402 (lv_at hl 0 rfl) ?_
      refine va_lald hx hb hK hP 15 2 rfl rfl (vin (by decide)) dX5_way_404 ?_
      refine lv_topl (fun z_14 ez_14 => ?_)
      obtain rfl : z_14 = lv.2.2.2 := ez_14.trans rfl
      refine va_last hx hb hK hP hD hS 6 2 rfl rfl (vin_nI (a := (4 * (nn - 1)) + 3) (eq_add rfl rfl) (by omega) (by omega)) dX5_way_405 (fun H locs hP hD hS => ?_)
      rw [cn_nI (i := (nI (4 * (nn - 1))) + 3) (a := (4 * (nn - 1)) + 3) (eq_add rfl rfl) (by omega)] at hP hD
      have hP : va_P D vwCl [(o, mO ad nf mo), (ad 0, aI ca 6 kd), (ad 1, aI ca 6 sz), (ad 2, aL ca 96 sh), (ad 3, aI ca 64 g), (ad 4, aI ca 96 un), (ad 6, aL ca 48 (vp_updL (vp_updL (vp_updL (vp_updL fv (4 * (nn - 1)) lv.1) ((4 * (nn - 1)) + 1) lv.2.1) ((4 * (nn - 1)) + 2) lv.2.2.1) ((4 * (nn - 1)) + 3) lv.2.2.2)), (ad 8, a4 ca x), (ad 9, a4 ca y), (ad 10, a4 ca z), (ad 11, a4 ca rs), (ad 12, a4 ca bs), (ad 13, a4 ca qt), (ad 14, a4 ca w0), (ad 15, a4 ca tv), (ad 16, a4 ca lv)] H := hP
      have hD : va_D A [(o, mO ad nf mo), (ad 0, aI ca 6 kd), (ad 1, aI ca 6 sz), (ad 2, aL ca 96 sh), (ad 3, aI ca 64 g), (ad 4, aI ca 96 un), (ad 6, aL ca 48 (vp_updL (vp_updL (vp_updL (vp_updL fv (4 * (nn - 1)) lv.1) ((4 * (nn - 1)) + 1) lv.2.1) ((4 * (nn - 1)) + 2) lv.2.2.1) ((4 * (nn - 1)) + 3) lv.2.2.2)), (ad 8, a4 ca x), (ad 9, a4 ca y), (ad 10, a4 ca z), (ad 11, a4 ca rs), (ad 12, a4 ca bs), (ad 13, a4 ca qt), (ad 14, a4 ca w0), (ad 15, a4 ca tv), (ad 16, a4 ca lv)] := hD
      refine lv_iinc (v := 4) (lv' := [(10, .int 4), (0, .ref o), (2, .int (nI jr)), (3, .int (nI ia)), (4, .int (nI nn))]) hx hb dX5_way_406 hl (k := 0) rfl (by decide) (by decide) rfl (fun ls hl => ?_)
      refine lv_goto (tgt := 379) hx hb dX5_way_409 (by decide) ?_
      refine lv_iload hx hb dX5_way_379 (lv_at hl 0 rfl) ?_
      refine lv_iconst (v := 4) hx hb dX5_way_381 (by decide) ?_
      refine lv_icmp_ge (tgt := 412) hx hb dX5_way_382 (by decide) (fun c_15 => ?_) (fun c_15 => absurd (by decide) c_15)
      refine lv_aload_n hx hb dX5_way_412 rfl (lv_at hl 1 rfl) ?_
      refine lv_iload hx hb dX5_way_413 (lv_at hl 4 rfl) ?_
      refine va_put (D := D) (ci := 4) (v := .int (nI nn)) (ty := .int) (C := RX5) (T := TX5) (N := 18) hx hb hts in_X5 tyX5 tyX5_ok nmX5 hown hK hP hD hS 0 rfl rfl 5 (by decide) (hts _ q578) (fun _ h9 => h9) rfl (by decide +kernel) rfl rfl (Nat.le_of_ble_eq_true rfl) dX5_way_415 (fun H locs hP hD hS => ?_)
      have hP : va_P D vwCl [(o, .inr (4, [.ref (ad 0), .ref (ad 1), .ref (ad 2), .ref (ad 3), .ref (ad 4), .int (nI nn), .ref (ad 6), .ref (ad 7), .ref (ad 8), .ref (ad 9), .ref (ad 10), .ref (ad 11), .ref (ad 12), .ref (ad 13), .ref (ad 14), .ref (ad 15), .ref (ad 16), .int mo])), (ad 0, aI ca 6 kd), (ad 1, aI ca 6 sz), (ad 2, aL ca 96 sh), (ad 3, aI ca 64 g), (ad 4, aI ca 96 un), (ad 6, aL ca 48 (vp_updL (vp_updL (vp_updL (vp_updL fv (4 * (nn - 1)) lv.1) ((4 * (nn - 1)) + 1) lv.2.1) ((4 * (nn - 1)) + 2) lv.2.2.1) ((4 * (nn - 1)) + 3) lv.2.2.2)), (ad 8, a4 ca x), (ad 9, a4 ca y), (ad 10, a4 ca z), (ad 11, a4 ca rs), (ad 12, a4 ca bs), (ad 13, a4 ca qt), (ad 14, a4 ca w0), (ad 15, a4 ca tv), (ad 16, a4 ca lv)] H := hP
      have hD : va_D A [(o, .inr (4, [.ref (ad 0), .ref (ad 1), .ref (ad 2), .ref (ad 3), .ref (ad 4), .int (nI nn), .ref (ad 6), .ref (ad 7), .ref (ad 8), .ref (ad 9), .ref (ad 10), .ref (ad 11), .ref (ad 12), .ref (ad 13), .ref (ad 14), .ref (ad 15), .ref (ad 16), .int mo])), (ad 0, aI ca 6 kd), (ad 1, aI ca 6 sz), (ad 2, aL ca 96 sh), (ad 3, aI ca 64 g), (ad 4, aI ca 96 un), (ad 6, aL ca 48 (vp_updL (vp_updL (vp_updL (vp_updL fv (4 * (nn - 1)) lv.1) ((4 * (nn - 1)) + 1) lv.2.1) ((4 * (nn - 1)) + 2) lv.2.2.1) ((4 * (nn - 1)) + 3) lv.2.2.2)), (ad 8, a4 ca x), (ad 9, a4 ca y), (ad 10, a4 ca z), (ad 11, a4 ca rs), (ad 12, a4 ca bs), (ad 13, a4 ca qt), (ad 14, a4 ca w0), (ad 15, a4 ca tv), (ad 16, a4 ca lv)] := hD
      refine lv_iload hx hb dX5_way_418 (lv_at hl 4 rfl) ?_
      exact k_iret ((nI nn), (vp_updL (vp_updL (vp_updL (vp_updL fv (4 * (nn - 1)) lv.1) ((4 * (nn - 1)) + 1) lv.2.1) ((4 * (nn - 1)) + 2) lv.2.2.1) ((4 * (nn - 1)) + 3) lv.2.2.2), x, y, z, rs, bs, qt, w0, tv, lv) hx hb hr hlocks (by rw [hsp, wayIf_y hC, ← show k = nn - 1 by omega, ← hfv, ← hlv]; rfl) hP hD trivial hS (Nat.le_of_ble_eq_true rfl) (Nat.le_of_ble_eq_true rfl) dX5_way_420
    · have c_2 := le_no (a := nn - 1) (b := k) rfl rfl (by omega) (by omega) c_2
      refine lv_iconst (v := 0) hx hb dX5_way_208 (by decide) ?_
      refine lv_istore (lv' := [(11, .int 0), (0, .ref o), (2, .int (nI jr)), (3, .int (nI ia)), (4, .int (nI nn)), (10, .int (nI k))]) hx hb dX5_way_209 hl (by decide) rfl (fun ls hl => ?_)
      refine lv_iload hx hb dX5_way_211 (lv_at hl 0 rfl) ?_
      refine lv_iconst (v := 4) hx hb dX5_way_213 (by decide) ?_
      refine lv_icmp_ge (tgt := 257) hx hb dX5_way_214 (by decide) (fun c_16 => absurd c_16 (by decide)) (fun c_16 => ?_)
      refine lv_aload_n hx hb dX5_way_217 rfl (lv_at hl 1 rfl) ?_
      refine va_get (D := D) (ci := 4) (v := .ref (ad 8)) (C := RX5) (T := TX5) (N := 18) hx hb hts in_X5 hown hK hP 0 rfl rfl 8 (by decide) (hts _ q581) (fun _ h9 => h9) rfl dX5_way_218 ?_
      refine lv_iload hx hb dX5_way_221 (lv_at hl 0 rfl) ?_
      refine lv_iload hx hb dX5_way_223 (lv_at hl 0 rfl) ?_
      refine lv_if_ne (tgt := 249) hx hb dX5_way_225 (by decide) (fun c_17 => absurd (by decide) c_17) (fun c_17 => ?_)
      refine lv_ldc2 hx hb hown (hts _ q639) dX5_way_228 ?_
      refine lv_aload_n hx hb dX5_way_231 rfl (lv_at hl 1 rfl) ?_
      refine va_get (D := D) (ci := 4) (v := .ref (ad 2)) (C := RX5) (T := TX5) (N := 18) hx hb hts in_X5 hown hK hP 0 rfl rfl 2 (by decide) (hts _ q575) (fun _ h9 => h9) rfl dX5_way_232 ?_
      refine lv_bipush (v := 16) hx hb dX5_way_235 (by decide) ?_
      refine lv_iload_n hx hb dX5_way_237 rfl (lv_at hl 2 rfl) ?_
      refine lv_imul hx hb dX5_way_238 ?_
      refine lv_iload_n hx hb dX5_way_239 rfl (lv_at hl 3 rfl) ?_
      refine lv_iadd hx hb dX5_way_240 ?_
      refine lv_iload hx hb dX5_way_241 (lv_at hl 5 rfl) ?_
      refine lv_iadd hx hb dX5_way_243 ?_
      refine va_lald hx hb hK hP 3 2 rfl rfl (vin_nI (a := ((16 * jr) + ia) + k) (eq_add (eq_add (eq_mul rfl rfl) rfl) rfl) (by omega) (by omega)) dX5_way_244 ?_
      refine lv_topl (fun z_18 ez_18 => ?_)
      obtain rfl : z_18 = sh (((16 * jr) + ia) + k) := ez_18.trans (cl_nI (a := ((16 * jr) + ia) + k) sh (eq_add (eq_add (eq_mul rfl rfl) rfl) rfl) (by omega))
      refine lv_lmul hx hb dX5_way_245 ?_
      refine lv_goto (tgt := 250) hx hb dX5_way_246 (by decide) ?_
      refine va_last hx hb hK hP hD hS 7 2 rfl rfl (vin (by decide)) dX5_way_250 (fun H locs hP hD hS => ?_)
      rw [L4_s0] at hP hD
      have hP : va_P D vwCl [(o, mO ad nf mo), (ad 0, aI ca 6 kd), (ad 1, aI ca 6 sz), (ad 2, aL ca 96 sh), (ad 3, aI ca 64 g), (ad 4, aI ca 96 un), (ad 6, aL ca 48 fv), (ad 8, a4 ca (2 * (sh (((16 * jr) + ia) + k)), x.2.1, x.2.2.1, x.2.2.2)), (ad 9, a4 ca y), (ad 10, a4 ca z), (ad 11, a4 ca rs), (ad 12, a4 ca bs), (ad 13, a4 ca qt), (ad 14, a4 ca w0), (ad 15, a4 ca tv), (ad 16, a4 ca lv)] H := hP
      have hD : va_D A [(o, mO ad nf mo), (ad 0, aI ca 6 kd), (ad 1, aI ca 6 sz), (ad 2, aL ca 96 sh), (ad 3, aI ca 64 g), (ad 4, aI ca 96 un), (ad 6, aL ca 48 fv), (ad 8, a4 ca (2 * (sh (((16 * jr) + ia) + k)), x.2.1, x.2.2.1, x.2.2.2)), (ad 9, a4 ca y), (ad 10, a4 ca z), (ad 11, a4 ca rs), (ad 12, a4 ca bs), (ad 13, a4 ca qt), (ad 14, a4 ca w0), (ad 15, a4 ca tv), (ad 16, a4 ca lv)] := hD
      refine lv_iinc (v := 1) (lv' := [(11, .int 1), (0, .ref o), (2, .int (nI jr)), (3, .int (nI ia)), (4, .int (nI nn)), (10, .int (nI k))]) hx hb dX5_way_251 hl (k := 0) rfl (by decide) (by decide) rfl (fun ls hl => ?_)
      refine lv_goto (tgt := 211) hx hb dX5_way_254 (by decide) ?_
      refine lv_iload hx hb dX5_way_211 (lv_at hl 0 rfl) ?_
      refine lv_iconst (v := 4) hx hb dX5_way_213 (by decide) ?_
      refine lv_icmp_ge (tgt := 257) hx hb dX5_way_214 (by decide) (fun c_19 => absurd c_19 (by decide)) (fun c_19 => ?_)
      refine lv_aload_n hx hb dX5_way_217 rfl (lv_at hl 1 rfl) ?_
      refine va_get (D := D) (ci := 4) (v := .ref (ad 8)) (C := RX5) (T := TX5) (N := 18) hx hb hts in_X5 hown hK hP 0 rfl rfl 8 (by decide) (hts _ q581) (fun _ h9 => h9) rfl dX5_way_218 ?_
      refine lv_iload hx hb dX5_way_221 (lv_at hl 0 rfl) ?_
      refine lv_iload hx hb dX5_way_223 (lv_at hl 0 rfl) ?_
      refine lv_if_ne (tgt := 249) hx hb dX5_way_225 (by decide) (fun c_20 => ?_) (fun c_20 => absurd c_20 (by decide))
      refine lv_lconst (v := 0) hx hb dX5_way_249 (by decide) ?_
      refine va_last hx hb hK hP hD hS 7 2 rfl rfl (vin (by decide)) dX5_way_250 (fun H locs hP hD hS => ?_)
      rw [L4_s1] at hP hD
      have hP : va_P D vwCl [(o, mO ad nf mo), (ad 0, aI ca 6 kd), (ad 1, aI ca 6 sz), (ad 2, aL ca 96 sh), (ad 3, aI ca 64 g), (ad 4, aI ca 96 un), (ad 6, aL ca 48 fv), (ad 8, a4 ca (2 * (sh (((16 * jr) + ia) + k)), 0, x.2.2.1, x.2.2.2)), (ad 9, a4 ca y), (ad 10, a4 ca z), (ad 11, a4 ca rs), (ad 12, a4 ca bs), (ad 13, a4 ca qt), (ad 14, a4 ca w0), (ad 15, a4 ca tv), (ad 16, a4 ca lv)] H := hP
      have hD : va_D A [(o, mO ad nf mo), (ad 0, aI ca 6 kd), (ad 1, aI ca 6 sz), (ad 2, aL ca 96 sh), (ad 3, aI ca 64 g), (ad 4, aI ca 96 un), (ad 6, aL ca 48 fv), (ad 8, a4 ca (2 * (sh (((16 * jr) + ia) + k)), 0, x.2.2.1, x.2.2.2)), (ad 9, a4 ca y), (ad 10, a4 ca z), (ad 11, a4 ca rs), (ad 12, a4 ca bs), (ad 13, a4 ca qt), (ad 14, a4 ca w0), (ad 15, a4 ca tv), (ad 16, a4 ca lv)] := hD
      refine lv_iinc (v := 2) (lv' := [(11, .int 2), (0, .ref o), (2, .int (nI jr)), (3, .int (nI ia)), (4, .int (nI nn)), (10, .int (nI k))]) hx hb dX5_way_251 hl (k := 0) rfl (by decide) (by decide) rfl (fun ls hl => ?_)
      refine lv_goto (tgt := 211) hx hb dX5_way_254 (by decide) ?_
      refine lv_iload hx hb dX5_way_211 (lv_at hl 0 rfl) ?_
      refine lv_iconst (v := 4) hx hb dX5_way_213 (by decide) ?_
      refine lv_icmp_ge (tgt := 257) hx hb dX5_way_214 (by decide) (fun c_21 => absurd c_21 (by decide)) (fun c_21 => ?_)
      refine lv_aload_n hx hb dX5_way_217 rfl (lv_at hl 1 rfl) ?_
      refine va_get (D := D) (ci := 4) (v := .ref (ad 8)) (C := RX5) (T := TX5) (N := 18) hx hb hts in_X5 hown hK hP 0 rfl rfl 8 (by decide) (hts _ q581) (fun _ h9 => h9) rfl dX5_way_218 ?_
      refine lv_iload hx hb dX5_way_221 (lv_at hl 0 rfl) ?_
      refine lv_iload hx hb dX5_way_223 (lv_at hl 0 rfl) ?_
      refine lv_if_ne (tgt := 249) hx hb dX5_way_225 (by decide) (fun c_22 => ?_) (fun c_22 => absurd c_22 (by decide))
      refine lv_lconst (v := 0) hx hb dX5_way_249 (by decide) ?_
      refine va_last hx hb hK hP hD hS 7 2 rfl rfl (vin (by decide)) dX5_way_250 (fun H locs hP hD hS => ?_)
      rw [L4_s2] at hP hD
      have hP : va_P D vwCl [(o, mO ad nf mo), (ad 0, aI ca 6 kd), (ad 1, aI ca 6 sz), (ad 2, aL ca 96 sh), (ad 3, aI ca 64 g), (ad 4, aI ca 96 un), (ad 6, aL ca 48 fv), (ad 8, a4 ca (2 * (sh (((16 * jr) + ia) + k)), 0, 0, x.2.2.2)), (ad 9, a4 ca y), (ad 10, a4 ca z), (ad 11, a4 ca rs), (ad 12, a4 ca bs), (ad 13, a4 ca qt), (ad 14, a4 ca w0), (ad 15, a4 ca tv), (ad 16, a4 ca lv)] H := hP
      have hD : va_D A [(o, mO ad nf mo), (ad 0, aI ca 6 kd), (ad 1, aI ca 6 sz), (ad 2, aL ca 96 sh), (ad 3, aI ca 64 g), (ad 4, aI ca 96 un), (ad 6, aL ca 48 fv), (ad 8, a4 ca (2 * (sh (((16 * jr) + ia) + k)), 0, 0, x.2.2.2)), (ad 9, a4 ca y), (ad 10, a4 ca z), (ad 11, a4 ca rs), (ad 12, a4 ca bs), (ad 13, a4 ca qt), (ad 14, a4 ca w0), (ad 15, a4 ca tv), (ad 16, a4 ca lv)] := hD
      refine lv_iinc (v := 3) (lv' := [(11, .int 3), (0, .ref o), (2, .int (nI jr)), (3, .int (nI ia)), (4, .int (nI nn)), (10, .int (nI k))]) hx hb dX5_way_251 hl (k := 0) rfl (by decide) (by decide) rfl (fun ls hl => ?_)
      refine lv_goto (tgt := 211) hx hb dX5_way_254 (by decide) ?_
      refine lv_iload hx hb dX5_way_211 (lv_at hl 0 rfl) ?_
      refine lv_iconst (v := 4) hx hb dX5_way_213 (by decide) ?_
      refine lv_icmp_ge (tgt := 257) hx hb dX5_way_214 (by decide) (fun c_23 => absurd c_23 (by decide)) (fun c_23 => ?_)
      refine lv_aload_n hx hb dX5_way_217 rfl (lv_at hl 1 rfl) ?_
      refine va_get (D := D) (ci := 4) (v := .ref (ad 8)) (C := RX5) (T := TX5) (N := 18) hx hb hts in_X5 hown hK hP 0 rfl rfl 8 (by decide) (hts _ q581) (fun _ h9 => h9) rfl dX5_way_218 ?_
      refine lv_iload hx hb dX5_way_221 (lv_at hl 0 rfl) ?_
      refine lv_iload hx hb dX5_way_223 (lv_at hl 0 rfl) ?_
      refine lv_if_ne (tgt := 249) hx hb dX5_way_225 (by decide) (fun c_24 => ?_) (fun c_24 => absurd c_24 (by decide))
      refine lv_lconst (v := 0) hx hb dX5_way_249 (by decide) ?_
      refine va_last hx hb hK hP hD hS 7 2 rfl rfl (vin (by decide)) dX5_way_250 (fun H locs hP hD hS => ?_)
      rw [L4_s3] at hP hD
      have hP : va_P D vwCl [(o, mO ad nf mo), (ad 0, aI ca 6 kd), (ad 1, aI ca 6 sz), (ad 2, aL ca 96 sh), (ad 3, aI ca 64 g), (ad 4, aI ca 96 un), (ad 6, aL ca 48 fv), (ad 8, a4 ca (2 * (sh (((16 * jr) + ia) + k)), 0, 0, 0)), (ad 9, a4 ca y), (ad 10, a4 ca z), (ad 11, a4 ca rs), (ad 12, a4 ca bs), (ad 13, a4 ca qt), (ad 14, a4 ca w0), (ad 15, a4 ca tv), (ad 16, a4 ca lv)] H := hP
      have hD : va_D A [(o, mO ad nf mo), (ad 0, aI ca 6 kd), (ad 1, aI ca 6 sz), (ad 2, aL ca 96 sh), (ad 3, aI ca 64 g), (ad 4, aI ca 96 un), (ad 6, aL ca 48 fv), (ad 8, a4 ca (2 * (sh (((16 * jr) + ia) + k)), 0, 0, 0)), (ad 9, a4 ca y), (ad 10, a4 ca z), (ad 11, a4 ca rs), (ad 12, a4 ca bs), (ad 13, a4 ca qt), (ad 14, a4 ca w0), (ad 15, a4 ca tv), (ad 16, a4 ca lv)] := hD
      refine lv_iinc (v := 4) (lv' := [(11, .int 4), (0, .ref o), (2, .int (nI jr)), (3, .int (nI ia)), (4, .int (nI nn)), (10, .int (nI k))]) hx hb dX5_way_251 hl (k := 0) rfl (by decide) (by decide) rfl (fun ls hl => ?_)
      refine lv_goto (tgt := 211) hx hb dX5_way_254 (by decide) ?_
      refine lv_iload hx hb dX5_way_211 (lv_at hl 0 rfl) ?_
      refine lv_iconst (v := 4) hx hb dX5_way_213 (by decide) ?_
      refine lv_icmp_ge (tgt := 257) hx hb dX5_way_214 (by decide) (fun c_25 => ?_) (fun c_25 => absurd (by decide) c_25)
      refine lv_aload_n hx hb dX5_way_257 rfl (lv_at hl 1 rfl) ?_
      refine va_get (D := D) (ci := 4) (v := .ref (ad 9)) (C := RX5) (T := TX5) (N := 18) hx hb hts in_X5 hown hK hP 0 rfl rfl 9 (by decide) (hts _ q582) (fun _ h9 => h9) rfl dX5_way_258 ?_
      refine lv_aload_n hx hb dX5_way_261 rfl (lv_at hl 1 rfl) ?_
      refine va_get (D := D) (ci := 4) (v := .ref (ad 16)) (C := RX5) (T := TX5) (N := 18) hx hb hts in_X5 hown hK hP 0 rfl rfl 16 (by decide) (hts _ q589) (fun _ h9 => h9) rfl dX5_way_262 ?_
      refine k_callv (wr := [(o, mO ad nf mo), (ad 0, aI ca 6 kd), (ad 1, aI ca 6 sz), (ad 2, aL ca 96 sh), (ad 3, aI ca 64 g), (ad 4, aI ca 96 un), (ad 6, aL ca 48 fv), (ad 8, a4 ca (2 * (sh (((16 * jr) + ia) + k)), 0, 0, 0)), (ad 10, a4 ca z), (ad 11, a4 ca rs), (ad 12, a4 ca bs), (ad 13, a4 ca qt), (ad 14, a4 ca w0), (ad 15, a4 ca tv)]) (va_runS (As := [.ref (ad 9), .ref (ad 16)]) (rest := []) ⟨hx, hb, hml, hown, hts⟩ (ct_X5_copy4 hk l D ca H.size (ad 9) (ad 16) y lv) (va_cwS 2 hts (lw_S q744 q745 q24 q746) rfl rfl rfl (by decide +kernel) ⟨Nat.le_of_ble_eq_true rfl, Nat.le_of_ble_eq_true rfl⟩) (k_pre hk hK hN hP hD [8, 15] (by decide) rfl trivial) rfl rfl hl.1 rfl (lv_room (Nat.le_of_ble_eq_true rfl)) dX5_way_265 ⟨Nat.le_of_ble_eq_true rfl, Nat.le_of_ble_eq_true rfl⟩) hP hD hS hA [8, 15] [0, 1, 2, 3, 4, 5, 6, 7, 9, 10, 11, 12, 13, 14] rfl rfl (by decide) (by decide) (fun u_27 H locs w_28 hP hD hxw_28 hzw_28 hqw_28 hS => ?_)
      have hP : va_P D vwCl [(o, mO ad nf mo), (ad 0, aI ca 6 kd), (ad 1, aI ca 6 sz), (ad 2, aL ca 96 sh), (ad 3, aI ca 64 g), (ad 4, aI ca 96 un), (ad 6, aL ca 48 fv), (ad 8, a4 ca (2 * (sh (((16 * jr) + ia) + k)), 0, 0, 0)), (ad 10, a4 ca z), (ad 11, a4 ca rs), (ad 12, a4 ca bs), (ad 13, a4 ca qt), (ad 14, a4 ca w0), (ad 15, a4 ca tv), (ad 9, a4 ca lv), (ad 16, a4 ca lv)] H := hP
      have hD : va_D A [(o, mO ad nf mo), (ad 0, aI ca 6 kd), (ad 1, aI ca 6 sz), (ad 2, aL ca 96 sh), (ad 3, aI ca 64 g), (ad 4, aI ca 96 un), (ad 6, aL ca 48 fv), (ad 8, a4 ca (2 * (sh (((16 * jr) + ia) + k)), 0, 0, 0)), (ad 10, a4 ca z), (ad 11, a4 ca rs), (ad 12, a4 ca bs), (ad 13, a4 ca qt), (ad 14, a4 ca w0), (ad 15, a4 ca tv), (ad 9, a4 ca lv), (ad 16, a4 ca lv)] := hD
      refine lv_aload_n hx hb dX5_way_268 rfl (lv_at hl 1 rfl) ?_
      refine lv_iconst (v := 1) hx hb dX5_way_269 (by decide) ?_
      refine k_callv (wr := [(ad 0, aI ca 6 kd), (ad 1, aI ca 6 sz), (ad 2, aL ca 96 sh), (ad 3, aI ca 64 g), (ad 6, aL ca 48 fv), (ad 16, a4 ca lv)]) (va_runV (As := [.int 1]) (rest := []) ⟨hx, hb, hml, hown, hts⟩ (ct_X5_findDivisor hk l D ca H.size o ad nf mo un (2 * (sh (((16 * jr) + ia) + k)), 0, 0, 0) lv z rs bs qt w0 tv 1 (by rw [hlv]; exact (hW k (by omega)).1)) (cwV 1 hts (lw_V q754 q756 qs15 q24 q757) rfl rfl rfl (by decide +kernel) ⟨Nat.le_of_ble_eq_true rfl, Nat.le_of_ble_eq_true rfl⟩) (k_preV hk hK hN hP hD [0, 5, 7, 14, 8, 9, 10, 11, 12, 13] (by decide) rfl trivial hP rfl (q0 := 0) rfl) rfl rfl hl.1 rfl (lv_room (Nat.le_of_ble_eq_true rfl)) dX5_way_270 ⟨Nat.le_of_ble_eq_true rfl, Nat.le_of_ble_eq_true rfl⟩) hP hD hS hA [0, 5, 7, 14, 8, 9, 10, 11, 12, 13] [1, 2, 3, 4, 6, 15] rfl rfl (by decide) (by decide) (fun u_30 H locs w_31 hP hD hxw_31 hzw_31 hqw_31 hS => ?_)
      have hP : va_P D vwCl [(ad 0, aI ca 6 kd), (ad 1, aI ca 6 sz), (ad 2, aL ca 96 sh), (ad 3, aI ca 64 g), (ad 6, aL ca 48 fv), (ad 16, a4 ca lv), (o, mO ad nf mo), (ad 4, aI ca 96 un), (ad 8, a4 ca u_30.1), (ad 9, a4 ca u_30.2.1), (ad 10, a4 ca u_30.2.2.1), (ad 11, a4 ca u_30.2.2.2.1), (ad 12, a4 ca (bst un 1 (euc 1 40 (2 * (sh (((16 * jr) + ia) + k)), 0, 0, 0) lv) 24)), (ad 13, a4 ca u_30.2.2.2.2.1), (ad 14, a4 ca u_30.2.2.2.2.2.1), (ad 15, a4 ca u_30.2.2.2.2.2.2)] H := hP
      have hD : va_D A [(ad 0, aI ca 6 kd), (ad 1, aI ca 6 sz), (ad 2, aL ca 96 sh), (ad 3, aI ca 64 g), (ad 6, aL ca 48 fv), (ad 16, a4 ca lv), (o, mO ad nf mo), (ad 4, aI ca 96 un), (ad 8, a4 ca u_30.1), (ad 9, a4 ca u_30.2.1), (ad 10, a4 ca u_30.2.2.1), (ad 11, a4 ca u_30.2.2.2.1), (ad 12, a4 ca (bst un 1 (euc 1 40 (2 * (sh (((16 * jr) + ia) + k)), 0, 0, 0) lv) 24)), (ad 13, a4 ca u_30.2.2.2.2.1), (ad 14, a4 ca u_30.2.2.2.2.2.1), (ad 15, a4 ca u_30.2.2.2.2.2.2)] := hD
      obtain ⟨bv, hbv⟩ : ∃ z : Q4, z = (bst un 1 (euc 1 40 (2 * (sh (((16 * jr) + ia) + k)), 0, 0, 0) lv) 24) := ⟨_, rfl⟩
      have hP : va_P D vwCl [(ad 0, aI ca 6 kd), (ad 1, aI ca 6 sz), (ad 2, aL ca 96 sh), (ad 3, aI ca 64 g), (ad 6, aL ca 48 fv), (ad 16, a4 ca lv), (o, mO ad nf mo), (ad 4, aI ca 96 un), (ad 8, a4 ca u_30.1), (ad 9, a4 ca u_30.2.1), (ad 10, a4 ca u_30.2.2.1), (ad 11, a4 ca u_30.2.2.2.1), (ad 12, a4 ca bv), (ad 13, a4 ca u_30.2.2.2.2.1), (ad 14, a4 ca u_30.2.2.2.2.2.1), (ad 15, a4 ca u_30.2.2.2.2.2.2)] H := by rw [hbv]; exact hP
      have hD : va_D A [(ad 0, aI ca 6 kd), (ad 1, aI ca 6 sz), (ad 2, aL ca 96 sh), (ad 3, aI ca 64 g), (ad 6, aL ca 48 fv), (ad 16, a4 ca lv), (o, mO ad nf mo), (ad 4, aI ca 96 un), (ad 8, a4 ca u_30.1), (ad 9, a4 ca u_30.2.1), (ad 10, a4 ca u_30.2.2.1), (ad 11, a4 ca u_30.2.2.2.1), (ad 12, a4 ca bv), (ad 13, a4 ca u_30.2.2.2.2.1), (ad 14, a4 ca u_30.2.2.2.2.2.1), (ad 15, a4 ca u_30.2.2.2.2.2.2)] := by rw [hbv]; exact hD
      have hbv : bv = w_f un ((wSh sh jr ia) k) lv := hbv
      refine lv_iconst (v := 0) hx hb dX5_way_273 (by decide) ?_
      refine lv_istore (lv' := [(11, .int 0), (0, .ref o), (2, .int (nI jr)), (3, .int (nI ia)), (4, .int (nI nn)), (10, .int (nI k))]) hx hb dX5_way_274 hl (by decide) rfl (fun ls hl => ?_)
      refine lv_iload hx hb dX5_way_276 (lv_at hl 0 rfl) ?_
      refine lv_iconst (v := 4) hx hb dX5_way_278 (by decide) ?_
      refine lv_icmp_ge (tgt := 307) hx hb dX5_way_279 (by decide) (fun c_32 => absurd c_32 (by decide)) (fun c_32 => ?_)
      refine lv_aload_n hx hb dX5_way_282 rfl (lv_at hl 1 rfl) ?_
      refine va_get (D := D) (ci := 4) (v := .ref (ad 6)) (C := RX5) (T := TX5) (N := 18) hx hb hts in_X5 hown hK hP 6 rfl rfl 6 (by decide) (hts _ q579) (fun _ h9 => h9) rfl dX5_way_283 ?_
      refine lv_iconst (v := 4) hx hb dX5_way_286 (by decide) ?_
      refine lv_iload hx hb dX5_way_287 (lv_at hl 5 rfl) ?_
      refine lv_imul hx hb dX5_way_289 ?_
      refine lv_iload hx hb dX5_way_290 (lv_at hl 0 rfl) ?_
      refine lv_iadd hx hb dX5_way_292 ?_
      refine lv_aload_n hx hb dX5_way_293 rfl (lv_at hl 1 rfl) ?_
      refine va_get (D := D) (ci := 4) (v := .ref (ad 12)) (C := RX5) (T := TX5) (N := 18) hx hb hts in_X5 hown hK hP 6 rfl rfl 12 (by decide) (hts _ q585) (fun _ h9 => h9) rfl dX5_way_294 ?_
      refine lv_iload hx hb dX5_way_297 (lv_at hl 0 rfl) ?_
      refine va_lald hx hb hK hP 12 2 rfl rfl (vin (by decide)) dX5_way_299 ?_
      refine lv_topl (fun z_33 ez_33 => ?_)
      obtain rfl : z_33 = bv.1 := ez_33.trans rfl
      refine va_last hx hb hK hP hD hS 4 2 rfl rfl (vin_nI (a := 4 * k) (eq_add0 (eq_mul rfl rfl)) (by omega) (by omega)) dX5_way_300 (fun H locs hP hD hS => ?_)
      rw [cn_nI (i := (4 * (nI k)) + 0) (a := 4 * k) (eq_add0 (eq_mul rfl rfl)) (by omega)] at hP hD
      have hP : va_P D vwCl [(ad 0, aI ca 6 kd), (ad 1, aI ca 6 sz), (ad 2, aL ca 96 sh), (ad 3, aI ca 64 g), (ad 6, aL ca 48 (vp_updL fv (4 * k) bv.1)), (ad 16, a4 ca lv), (o, mO ad nf mo), (ad 4, aI ca 96 un), (ad 8, a4 ca u_30.1), (ad 9, a4 ca u_30.2.1), (ad 10, a4 ca u_30.2.2.1), (ad 11, a4 ca u_30.2.2.2.1), (ad 12, a4 ca bv), (ad 13, a4 ca u_30.2.2.2.2.1), (ad 14, a4 ca u_30.2.2.2.2.2.1), (ad 15, a4 ca u_30.2.2.2.2.2.2)] H := hP
      have hD : va_D A [(ad 0, aI ca 6 kd), (ad 1, aI ca 6 sz), (ad 2, aL ca 96 sh), (ad 3, aI ca 64 g), (ad 6, aL ca 48 (vp_updL fv (4 * k) bv.1)), (ad 16, a4 ca lv), (o, mO ad nf mo), (ad 4, aI ca 96 un), (ad 8, a4 ca u_30.1), (ad 9, a4 ca u_30.2.1), (ad 10, a4 ca u_30.2.2.1), (ad 11, a4 ca u_30.2.2.2.1), (ad 12, a4 ca bv), (ad 13, a4 ca u_30.2.2.2.2.1), (ad 14, a4 ca u_30.2.2.2.2.2.1), (ad 15, a4 ca u_30.2.2.2.2.2.2)] := hD
      refine lv_iinc (v := 1) (lv' := [(11, .int 1), (0, .ref o), (2, .int (nI jr)), (3, .int (nI ia)), (4, .int (nI nn)), (10, .int (nI k))]) hx hb dX5_way_301 hl (k := 0) rfl (by decide) (by decide) rfl (fun ls hl => ?_)
      refine lv_goto (tgt := 276) hx hb dX5_way_304 (by decide) ?_
      refine lv_iload hx hb dX5_way_276 (lv_at hl 0 rfl) ?_
      refine lv_iconst (v := 4) hx hb dX5_way_278 (by decide) ?_
      refine lv_icmp_ge (tgt := 307) hx hb dX5_way_279 (by decide) (fun c_34 => absurd c_34 (by decide)) (fun c_34 => ?_)
      refine lv_aload_n hx hb dX5_way_282 rfl (lv_at hl 1 rfl) ?_
      refine va_get (D := D) (ci := 4) (v := .ref (ad 6)) (C := RX5) (T := TX5) (N := 18) hx hb hts in_X5 hown hK hP 6 rfl rfl 6 (by decide) (hts _ q579) (fun _ h9 => h9) rfl dX5_way_283 ?_
      refine lv_iconst (v := 4) hx hb dX5_way_286 (by decide) ?_
      refine lv_iload hx hb dX5_way_287 (lv_at hl 5 rfl) ?_
      refine lv_imul hx hb dX5_way_289 ?_
      refine lv_iload hx hb dX5_way_290 (lv_at hl 0 rfl) ?_
      refine lv_iadd hx hb dX5_way_292 ?_
      refine lv_aload_n hx hb dX5_way_293 rfl (lv_at hl 1 rfl) ?_
      refine va_get (D := D) (ci := 4) (v := .ref (ad 12)) (C := RX5) (T := TX5) (N := 18) hx hb hts in_X5 hown hK hP 6 rfl rfl 12 (by decide) (hts _ q585) (fun _ h9 => h9) rfl dX5_way_294 ?_
      refine lv_iload hx hb dX5_way_297 (lv_at hl 0 rfl) ?_
      refine va_lald hx hb hK hP 12 2 rfl rfl (vin (by decide)) dX5_way_299 ?_
      refine lv_topl (fun z_35 ez_35 => ?_)
      obtain rfl : z_35 = bv.2.1 := ez_35.trans rfl
      refine va_last hx hb hK hP hD hS 4 2 rfl rfl (vin_nI (a := (4 * k) + 1) (eq_add (eq_mul rfl rfl) rfl) (by omega) (by omega)) dX5_way_300 (fun H locs hP hD hS => ?_)
      rw [cn_nI (i := (4 * (nI k)) + 1) (a := (4 * k) + 1) (eq_add (eq_mul rfl rfl) rfl) (by omega)] at hP hD
      have hP : va_P D vwCl [(ad 0, aI ca 6 kd), (ad 1, aI ca 6 sz), (ad 2, aL ca 96 sh), (ad 3, aI ca 64 g), (ad 6, aL ca 48 (vp_updL (vp_updL fv (4 * k) bv.1) ((4 * k) + 1) bv.2.1)), (ad 16, a4 ca lv), (o, mO ad nf mo), (ad 4, aI ca 96 un), (ad 8, a4 ca u_30.1), (ad 9, a4 ca u_30.2.1), (ad 10, a4 ca u_30.2.2.1), (ad 11, a4 ca u_30.2.2.2.1), (ad 12, a4 ca bv), (ad 13, a4 ca u_30.2.2.2.2.1), (ad 14, a4 ca u_30.2.2.2.2.2.1), (ad 15, a4 ca u_30.2.2.2.2.2.2)] H := hP
      have hD : va_D A [(ad 0, aI ca 6 kd), (ad 1, aI ca 6 sz), (ad 2, aL ca 96 sh), (ad 3, aI ca 64 g), (ad 6, aL ca 48 (vp_updL (vp_updL fv (4 * k) bv.1) ((4 * k) + 1) bv.2.1)), (ad 16, a4 ca lv), (o, mO ad nf mo), (ad 4, aI ca 96 un), (ad 8, a4 ca u_30.1), (ad 9, a4 ca u_30.2.1), (ad 10, a4 ca u_30.2.2.1), (ad 11, a4 ca u_30.2.2.2.1), (ad 12, a4 ca bv), (ad 13, a4 ca u_30.2.2.2.2.1), (ad 14, a4 ca u_30.2.2.2.2.2.1), (ad 15, a4 ca u_30.2.2.2.2.2.2)] := hD
      refine lv_iinc (v := 2) (lv' := [(11, .int 2), (0, .ref o), (2, .int (nI jr)), (3, .int (nI ia)), (4, .int (nI nn)), (10, .int (nI k))]) hx hb dX5_way_301 hl (k := 0) rfl (by decide) (by decide) rfl (fun ls hl => ?_)
      refine lv_goto (tgt := 276) hx hb dX5_way_304 (by decide) ?_
      refine lv_iload hx hb dX5_way_276 (lv_at hl 0 rfl) ?_
      refine lv_iconst (v := 4) hx hb dX5_way_278 (by decide) ?_
      refine lv_icmp_ge (tgt := 307) hx hb dX5_way_279 (by decide) (fun c_36 => absurd c_36 (by decide)) (fun c_36 => ?_)
      refine lv_aload_n hx hb dX5_way_282 rfl (lv_at hl 1 rfl) ?_
      refine va_get (D := D) (ci := 4) (v := .ref (ad 6)) (C := RX5) (T := TX5) (N := 18) hx hb hts in_X5 hown hK hP 6 rfl rfl 6 (by decide) (hts _ q579) (fun _ h9 => h9) rfl dX5_way_283 ?_
      refine lv_iconst (v := 4) hx hb dX5_way_286 (by decide) ?_
      refine lv_iload hx hb dX5_way_287 (lv_at hl 5 rfl) ?_
      refine lv_imul hx hb dX5_way_289 ?_
      refine lv_iload hx hb dX5_way_290 (lv_at hl 0 rfl) ?_
      refine lv_iadd hx hb dX5_way_292 ?_
      refine lv_aload_n hx hb dX5_way_293 rfl (lv_at hl 1 rfl) ?_
      refine va_get (D := D) (ci := 4) (v := .ref (ad 12)) (C := RX5) (T := TX5) (N := 18) hx hb hts in_X5 hown hK hP 6 rfl rfl 12 (by decide) (hts _ q585) (fun _ h9 => h9) rfl dX5_way_294 ?_
      refine lv_iload hx hb dX5_way_297 (lv_at hl 0 rfl) ?_
      refine va_lald hx hb hK hP 12 2 rfl rfl (vin (by decide)) dX5_way_299 ?_
      refine lv_topl (fun z_37 ez_37 => ?_)
      obtain rfl : z_37 = bv.2.2.1 := ez_37.trans rfl
      refine va_last hx hb hK hP hD hS 4 2 rfl rfl (vin_nI (a := (4 * k) + 2) (eq_add (eq_mul rfl rfl) rfl) (by omega) (by omega)) dX5_way_300 (fun H locs hP hD hS => ?_)
      rw [cn_nI (i := (4 * (nI k)) + 2) (a := (4 * k) + 2) (eq_add (eq_mul rfl rfl) rfl) (by omega)] at hP hD
      have hP : va_P D vwCl [(ad 0, aI ca 6 kd), (ad 1, aI ca 6 sz), (ad 2, aL ca 96 sh), (ad 3, aI ca 64 g), (ad 6, aL ca 48 (vp_updL (vp_updL (vp_updL fv (4 * k) bv.1) ((4 * k) + 1) bv.2.1) ((4 * k) + 2) bv.2.2.1)), (ad 16, a4 ca lv), (o, mO ad nf mo), (ad 4, aI ca 96 un), (ad 8, a4 ca u_30.1), (ad 9, a4 ca u_30.2.1), (ad 10, a4 ca u_30.2.2.1), (ad 11, a4 ca u_30.2.2.2.1), (ad 12, a4 ca bv), (ad 13, a4 ca u_30.2.2.2.2.1), (ad 14, a4 ca u_30.2.2.2.2.2.1), (ad 15, a4 ca u_30.2.2.2.2.2.2)] H := hP
      have hD : va_D A [(ad 0, aI ca 6 kd), (ad 1, aI ca 6 sz), (ad 2, aL ca 96 sh), (ad 3, aI ca 64 g), (ad 6, aL ca 48 (vp_updL (vp_updL (vp_updL fv (4 * k) bv.1) ((4 * k) + 1) bv.2.1) ((4 * k) + 2) bv.2.2.1)), (ad 16, a4 ca lv), (o, mO ad nf mo), (ad 4, aI ca 96 un), (ad 8, a4 ca u_30.1), (ad 9, a4 ca u_30.2.1), (ad 10, a4 ca u_30.2.2.1), (ad 11, a4 ca u_30.2.2.2.1), (ad 12, a4 ca bv), (ad 13, a4 ca u_30.2.2.2.2.1), (ad 14, a4 ca u_30.2.2.2.2.2.1), (ad 15, a4 ca u_30.2.2.2.2.2.2)] := hD
      refine lv_iinc (v := 3) (lv' := [(11, .int 3), (0, .ref o), (2, .int (nI jr)), (3, .int (nI ia)), (4, .int (nI nn)), (10, .int (nI k))]) hx hb dX5_way_301 hl (k := 0) rfl (by decide) (by decide) rfl (fun ls hl => ?_)
      refine lv_goto (tgt := 276) hx hb dX5_way_304 (by decide) ?_
      refine lv_iload hx hb dX5_way_276 (lv_at hl 0 rfl) ?_
      refine lv_iconst (v := 4) hx hb dX5_way_278 (by decide) ?_
      refine lv_icmp_ge (tgt := 307) hx hb dX5_way_279 (by decide) (fun c_38 => absurd c_38 (by decide)) (fun c_38 => ?_)
      refine lv_aload_n hx hb dX5_way_282 rfl (lv_at hl 1 rfl) ?_
      refine va_get (D := D) (ci := 4) (v := .ref (ad 6)) (C := RX5) (T := TX5) (N := 18) hx hb hts in_X5 hown hK hP 6 rfl rfl 6 (by decide) (hts _ q579) (fun _ h9 => h9) rfl dX5_way_283 ?_
      refine lv_iconst (v := 4) hx hb dX5_way_286 (by decide) ?_
      refine lv_iload hx hb dX5_way_287 (lv_at hl 5 rfl) ?_
      refine lv_imul hx hb dX5_way_289 ?_
      refine lv_iload hx hb dX5_way_290 (lv_at hl 0 rfl) ?_
      refine lv_iadd hx hb dX5_way_292 ?_
      refine lv_aload_n hx hb dX5_way_293 rfl (lv_at hl 1 rfl) ?_
      refine va_get (D := D) (ci := 4) (v := .ref (ad 12)) (C := RX5) (T := TX5) (N := 18) hx hb hts in_X5 hown hK hP 6 rfl rfl 12 (by decide) (hts _ q585) (fun _ h9 => h9) rfl dX5_way_294 ?_
      refine lv_iload hx hb dX5_way_297 (lv_at hl 0 rfl) ?_
      refine va_lald hx hb hK hP 12 2 rfl rfl (vin (by decide)) dX5_way_299 ?_
      refine lv_topl (fun z_39 ez_39 => ?_)
      obtain rfl : z_39 = bv.2.2.2 := ez_39.trans rfl
      refine va_last hx hb hK hP hD hS 4 2 rfl rfl (vin_nI (a := (4 * k) + 3) (eq_add (eq_mul rfl rfl) rfl) (by omega) (by omega)) dX5_way_300 (fun H locs hP hD hS => ?_)
      rw [cn_nI (i := (4 * (nI k)) + 3) (a := (4 * k) + 3) (eq_add (eq_mul rfl rfl) rfl) (by omega)] at hP hD
      have hP : va_P D vwCl [(ad 0, aI ca 6 kd), (ad 1, aI ca 6 sz), (ad 2, aL ca 96 sh), (ad 3, aI ca 64 g), (ad 6, aL ca 48 (vp_updL (vp_updL (vp_updL (vp_updL fv (4 * k) bv.1) ((4 * k) + 1) bv.2.1) ((4 * k) + 2) bv.2.2.1) ((4 * k) + 3) bv.2.2.2)), (ad 16, a4 ca lv), (o, mO ad nf mo), (ad 4, aI ca 96 un), (ad 8, a4 ca u_30.1), (ad 9, a4 ca u_30.2.1), (ad 10, a4 ca u_30.2.2.1), (ad 11, a4 ca u_30.2.2.2.1), (ad 12, a4 ca bv), (ad 13, a4 ca u_30.2.2.2.2.1), (ad 14, a4 ca u_30.2.2.2.2.2.1), (ad 15, a4 ca u_30.2.2.2.2.2.2)] H := hP
      have hD : va_D A [(ad 0, aI ca 6 kd), (ad 1, aI ca 6 sz), (ad 2, aL ca 96 sh), (ad 3, aI ca 64 g), (ad 6, aL ca 48 (vp_updL (vp_updL (vp_updL (vp_updL fv (4 * k) bv.1) ((4 * k) + 1) bv.2.1) ((4 * k) + 2) bv.2.2.1) ((4 * k) + 3) bv.2.2.2)), (ad 16, a4 ca lv), (o, mO ad nf mo), (ad 4, aI ca 96 un), (ad 8, a4 ca u_30.1), (ad 9, a4 ca u_30.2.1), (ad 10, a4 ca u_30.2.2.1), (ad 11, a4 ca u_30.2.2.2.1), (ad 12, a4 ca bv), (ad 13, a4 ca u_30.2.2.2.2.1), (ad 14, a4 ca u_30.2.2.2.2.2.1), (ad 15, a4 ca u_30.2.2.2.2.2.2)] := hD
      refine lv_iinc (v := 4) (lv' := [(11, .int 4), (0, .ref o), (2, .int (nI jr)), (3, .int (nI ia)), (4, .int (nI nn)), (10, .int (nI k))]) hx hb dX5_way_301 hl (k := 0) rfl (by decide) (by decide) rfl (fun ls hl => ?_)
      refine lv_goto (tgt := 276) hx hb dX5_way_304 (by decide) ?_
      refine lv_iload hx hb dX5_way_276 (lv_at hl 0 rfl) ?_
      refine lv_iconst (v := 4) hx hb dX5_way_278 (by decide) ?_
      refine lv_icmp_ge (tgt := 307) hx hb dX5_way_279 (by decide) (fun c_40 => ?_) (fun c_40 => absurd (by decide) c_40)
      refine lv_aload_n hx hb dX5_way_307 rfl (lv_at hl 1 rfl) ?_
      refine va_get (D := D) (ci := 4) (v := .ref (ad 12)) (C := RX5) (T := TX5) (N := 18) hx hb hts in_X5 hown hK hP 6 rfl rfl 12 (by decide) (hts _ q585) (fun _ h9 => h9) rfl dX5_way_308 ?_
      refine k_calll (wr := [(ad 0, aI ca 6 kd), (ad 1, aI ca 6 sz), (ad 2, aL ca 96 sh), (ad 3, aI ca 64 g), (ad 6, aL ca 48 (vp_updL (vp_updL (vp_updL (vp_updL fv (4 * k) bv.1) ((4 * k) + 1) bv.2.1) ((4 * k) + 2) bv.2.2.1) ((4 * k) + 3) bv.2.2.2)), (ad 16, a4 ca lv), (o, mO ad nf mo), (ad 4, aI ca 96 un), (ad 8, a4 ca u_30.1), (ad 9, a4 ca u_30.2.1), (ad 10, a4 ca u_30.2.2.1), (ad 11, a4 ca u_30.2.2.2.1), (ad 13, a4 ca u_30.2.2.2.2.1), (ad 14, a4 ca u_30.2.2.2.2.2.1), (ad 15, a4 ca u_30.2.2.2.2.2.2)]) (va_runS (As := [.ref (ad 12)]) (rest := []) ⟨hx, hb, hml, hown, hts⟩ (ct_X5_norm hk l D ca H.size (ad 12) bv) (va_cwS 1 hts (lw_S q698 q699 q24 q700) rfl rfl rfl (by decide +kernel) ⟨Nat.le_of_ble_eq_true rfl, Nat.le_of_ble_eq_true rfl⟩) (k_pre hk hK hN hP hD [12] (by decide) rfl trivial) rfl rfl hl.1 rfl (lv_room (Nat.le_of_ble_eq_true rfl)) dX5_way_311 ⟨Nat.le_of_ble_eq_true rfl, Nat.le_of_ble_eq_true rfl⟩) hP hD hS hA [12] [0, 1, 2, 3, 4, 5, 6, 7, 8, 9, 10, 11, 13, 14, 15] rfl rfl (by decide) (by decide) (fun r_41 u_42 H locs w_43 hP hD hxw_43 hzw_43 hqw_43 hS => ?_)
      have hP : va_P D vwCl [(ad 0, aI ca 6 kd), (ad 1, aI ca 6 sz), (ad 2, aL ca 96 sh), (ad 3, aI ca 64 g), (ad 6, aL ca 48 (vp_updL (vp_updL (vp_updL (vp_updL fv (4 * k) bv.1) ((4 * k) + 1) bv.2.1) ((4 * k) + 2) bv.2.2.1) ((4 * k) + 3) bv.2.2.2)), (ad 16, a4 ca lv), (o, mO ad nf mo), (ad 4, aI ca 96 un), (ad 8, a4 ca u_30.1), (ad 9, a4 ca u_30.2.1), (ad 10, a4 ca u_30.2.2.1), (ad 11, a4 ca u_30.2.2.2.1), (ad 13, a4 ca u_30.2.2.2.2.1), (ad 14, a4 ca u_30.2.2.2.2.2.1), (ad 15, a4 ca u_30.2.2.2.2.2.2), (ad 12, a4 ca bv)] H := hP
      have hD : va_D A [(ad 0, aI ca 6 kd), (ad 1, aI ca 6 sz), (ad 2, aL ca 96 sh), (ad 3, aI ca 64 g), (ad 6, aL ca 48 (vp_updL (vp_updL (vp_updL (vp_updL fv (4 * k) bv.1) ((4 * k) + 1) bv.2.1) ((4 * k) + 2) bv.2.2.1) ((4 * k) + 3) bv.2.2.2)), (ad 16, a4 ca lv), (o, mO ad nf mo), (ad 4, aI ca 96 un), (ad 8, a4 ca u_30.1), (ad 9, a4 ca u_30.2.1), (ad 10, a4 ca u_30.2.2.1), (ad 11, a4 ca u_30.2.2.2.1), (ad 13, a4 ca u_30.2.2.2.2.1), (ad 14, a4 ca u_30.2.2.2.2.2.1), (ad 15, a4 ca u_30.2.2.2.2.2.2), (ad 12, a4 ca bv)] := hD
      obtain rfl : r_41 = q_norm bv := w_43
      refine lv_lstore (lv' := [(11, .long (q_norm bv)), (0, .ref o), (2, .int (nI jr)), (3, .int (nI ia)), (4, .int (nI nn)), (10, .int (nI k))]) hx hb dX5_way_314 hl (by decide) rfl (fun ls hl => ?_)
      refine lv_aload_n hx hb dX5_way_316 rfl (lv_at hl 1 rfl) ?_
      refine va_get (D := D) (ci := 4) (v := .ref (ad 12)) (C := RX5) (T := TX5) (N := 18) hx hb hts in_X5 hown hK hP 6 rfl rfl 12 (by decide) (hts _ q585) (fun _ h9 => h9) rfl dX5_way_317 ?_
      refine k_callv (wr := [(ad 0, aI ca 6 kd), (ad 1, aI ca 6 sz), (ad 2, aL ca 96 sh), (ad 3, aI ca 64 g), (ad 6, aL ca 48 (vp_updL (vp_updL (vp_updL (vp_updL fv (4 * k) bv.1) ((4 * k) + 1) bv.2.1) ((4 * k) + 2) bv.2.2.1) ((4 * k) + 3) bv.2.2.2)), (ad 16, a4 ca lv), (o, mO ad nf mo), (ad 4, aI ca 96 un), (ad 8, a4 ca u_30.1), (ad 9, a4 ca u_30.2.1), (ad 10, a4 ca u_30.2.2.1), (ad 11, a4 ca u_30.2.2.2.1), (ad 13, a4 ca u_30.2.2.2.2.1), (ad 14, a4 ca u_30.2.2.2.2.2.1), (ad 15, a4 ca u_30.2.2.2.2.2.2)]) (va_runS (As := [.ref (ad 12)]) (rest := []) ⟨hx, hb, hml, hown, hts⟩ (ct_X5_mirror hk l D ca H.size (ad 12) bv) (va_cwS 1 hts (lw_S q721 q722 q24 q723) rfl rfl rfl (by decide +kernel) ⟨Nat.le_of_ble_eq_true rfl, Nat.le_of_ble_eq_true rfl⟩) (k_pre hk hK hN hP hD [15] (by decide) rfl trivial) rfl rfl hl.1 rfl (lv_room (Nat.le_of_ble_eq_true rfl)) dX5_way_320 ⟨Nat.le_of_ble_eq_true rfl, Nat.le_of_ble_eq_true rfl⟩) hP hD hS hA [15] [0, 1, 2, 3, 4, 5, 6, 7, 8, 9, 10, 11, 12, 13, 14] rfl rfl (by decide) (by decide) (fun u_45 H locs w_46 hP hD hxw_46 hzw_46 hqw_46 hS => ?_)
      have hP : va_P D vwCl [(ad 0, aI ca 6 kd), (ad 1, aI ca 6 sz), (ad 2, aL ca 96 sh), (ad 3, aI ca 64 g), (ad 6, aL ca 48 (vp_updL (vp_updL (vp_updL (vp_updL fv (4 * k) bv.1) ((4 * k) + 1) bv.2.1) ((4 * k) + 2) bv.2.2.1) ((4 * k) + 3) bv.2.2.2)), (ad 16, a4 ca lv), (o, mO ad nf mo), (ad 4, aI ca 96 un), (ad 8, a4 ca u_30.1), (ad 9, a4 ca u_30.2.1), (ad 10, a4 ca u_30.2.2.1), (ad 11, a4 ca u_30.2.2.2.1), (ad 13, a4 ca u_30.2.2.2.2.1), (ad 14, a4 ca u_30.2.2.2.2.2.1), (ad 15, a4 ca u_30.2.2.2.2.2.2), (ad 12, a4 ca (q_mirror bv))] H := hP
      have hD : va_D A [(ad 0, aI ca 6 kd), (ad 1, aI ca 6 sz), (ad 2, aL ca 96 sh), (ad 3, aI ca 64 g), (ad 6, aL ca 48 (vp_updL (vp_updL (vp_updL (vp_updL fv (4 * k) bv.1) ((4 * k) + 1) bv.2.1) ((4 * k) + 2) bv.2.2.1) ((4 * k) + 3) bv.2.2.2)), (ad 16, a4 ca lv), (o, mO ad nf mo), (ad 4, aI ca 96 un), (ad 8, a4 ca u_30.1), (ad 9, a4 ca u_30.2.1), (ad 10, a4 ca u_30.2.2.1), (ad 11, a4 ca u_30.2.2.2.1), (ad 13, a4 ca u_30.2.2.2.2.1), (ad 14, a4 ca u_30.2.2.2.2.2.1), (ad 15, a4 ca u_30.2.2.2.2.2.2), (ad 12, a4 ca (q_mirror bv))] := hD
      refine lv_aload_n hx hb dX5_way_323 rfl (lv_at hl 1 rfl) ?_
      refine va_get (D := D) (ci := 4) (v := .ref (ad 10)) (C := RX5) (T := TX5) (N := 18) hx hb hts in_X5 hown hK hP 6 rfl rfl 10 (by decide) (hts _ q583) (fun _ h9 => h9) rfl dX5_way_324 ?_
      refine lv_aload_n hx hb dX5_way_327 rfl (lv_at hl 1 rfl) ?_
      refine va_get (D := D) (ci := 4) (v := .ref (ad 12)) (C := RX5) (T := TX5) (N := 18) hx hb hts in_X5 hown hK hP 6 rfl rfl 12 (by decide) (hts _ q585) (fun _ h9 => h9) rfl dX5_way_328 ?_
      refine lv_aload_n hx hb dX5_way_331 rfl (lv_at hl 1 rfl) ?_
      refine va_get (D := D) (ci := 4) (v := .ref (ad 16)) (C := RX5) (T := TX5) (N := 18) hx hb hts in_X5 hown hK hP 6 rfl rfl 16 (by decide) (hts _ q589) (fun _ h9 => h9) rfl dX5_way_332 ?_
      refine k_callv (wr := [(ad 0, aI ca 6 kd), (ad 1, aI ca 6 sz), (ad 2, aL ca 96 sh), (ad 3, aI ca 64 g), (ad 6, aL ca 48 (vp_updL (vp_updL (vp_updL (vp_updL fv (4 * k) bv.1) ((4 * k) + 1) bv.2.1) ((4 * k) + 2) bv.2.2.1) ((4 * k) + 3) bv.2.2.2)), (o, mO ad nf mo), (ad 4, aI ca 96 un), (ad 8, a4 ca u_30.1), (ad 9, a4 ca u_30.2.1), (ad 11, a4 ca u_30.2.2.2.1), (ad 13, a4 ca u_30.2.2.2.2.1), (ad 14, a4 ca u_30.2.2.2.2.2.1), (ad 15, a4 ca u_30.2.2.2.2.2.2)]) (va_runS (As := [.ref (ad 10), .ref (ad 12), .ref (ad 16)]) (rest := []) ⟨hx, hb, hml, hown, hts⟩ (ct_X5_times hk l D ca H.size (ad 10) (ad 12) (ad 16) u_30.2.2.1 (q_mirror bv) lv) (va_cwS 3 hts (lw_S q724 q725 q24 q726) rfl rfl rfl (by decide +kernel) ⟨Nat.le_of_ble_eq_true rfl, Nat.le_of_ble_eq_true rfl⟩) (k_pre hk hK hN hP hD [10, 15, 5] (by decide) rfl trivial) rfl rfl hl.1 rfl (lv_room (Nat.le_of_ble_eq_true rfl)) dX5_way_335 ⟨Nat.le_of_ble_eq_true rfl, Nat.le_of_ble_eq_true rfl⟩) hP hD hS hA [10, 15, 5] [0, 1, 2, 3, 4, 6, 7, 8, 9, 11, 12, 13, 14] rfl rfl (by decide) (by decide) (fun u_48 H locs w_49 hP hD hxw_49 hzw_49 hqw_49 hS => ?_)
      have hP : va_P D vwCl [(ad 0, aI ca 6 kd), (ad 1, aI ca 6 sz), (ad 2, aL ca 96 sh), (ad 3, aI ca 64 g), (ad 6, aL ca 48 (vp_updL (vp_updL (vp_updL (vp_updL fv (4 * k) bv.1) ((4 * k) + 1) bv.2.1) ((4 * k) + 2) bv.2.2.1) ((4 * k) + 3) bv.2.2.2)), (o, mO ad nf mo), (ad 4, aI ca 96 un), (ad 8, a4 ca u_30.1), (ad 9, a4 ca u_30.2.1), (ad 11, a4 ca u_30.2.2.2.1), (ad 13, a4 ca u_30.2.2.2.2.1), (ad 14, a4 ca u_30.2.2.2.2.2.1), (ad 15, a4 ca u_30.2.2.2.2.2.2), (ad 10, a4 ca (q_times (q_mirror bv) lv)), (ad 12, a4 ca (q_mirror bv)), (ad 16, a4 ca lv)] H := hP
      have hD : va_D A [(ad 0, aI ca 6 kd), (ad 1, aI ca 6 sz), (ad 2, aL ca 96 sh), (ad 3, aI ca 64 g), (ad 6, aL ca 48 (vp_updL (vp_updL (vp_updL (vp_updL fv (4 * k) bv.1) ((4 * k) + 1) bv.2.1) ((4 * k) + 2) bv.2.2.1) ((4 * k) + 3) bv.2.2.2)), (o, mO ad nf mo), (ad 4, aI ca 96 un), (ad 8, a4 ca u_30.1), (ad 9, a4 ca u_30.2.1), (ad 11, a4 ca u_30.2.2.2.1), (ad 13, a4 ca u_30.2.2.2.2.1), (ad 14, a4 ca u_30.2.2.2.2.2.1), (ad 15, a4 ca u_30.2.2.2.2.2.2), (ad 10, a4 ca (q_times (q_mirror bv) lv)), (ad 12, a4 ca (q_mirror bv)), (ad 16, a4 ca lv)] := hD
      refine lv_iconst (v := 0) hx hb dX5_way_338 (by decide) ?_
      refine lv_istore (lv' := [(13, .int 0), (11, .long (q_norm bv)), (0, .ref o), (2, .int (nI jr)), (3, .int (nI ia)), (4, .int (nI nn)), (10, .int (nI k))]) hx hb dX5_way_339 hl (by decide) rfl (fun ls hl => ?_)
      refine lv_iload hx hb dX5_way_341 (lv_at hl 0 rfl) ?_
      refine lv_iconst (v := 4) hx hb dX5_way_343 (by decide) ?_
      refine lv_icmp_ge (tgt := 370) hx hb dX5_way_344 (by decide) (fun c_50 => absurd c_50 (by decide)) (fun c_50 => ?_)
      refine lv_aload_n hx hb dX5_way_347 rfl (lv_at hl 2 rfl) ?_
      refine va_get (D := D) (ci := 4) (v := .ref (ad 16)) (C := RX5) (T := TX5) (N := 18) hx hb hts in_X5 hown hK hP 5 rfl rfl 16 (by decide) (hts _ q589) (fun _ h9 => h9) rfl dX5_way_348 ?_
      refine lv_iload hx hb dX5_way_351 (lv_at hl 0 rfl) ?_
      refine lv_aload_n hx hb dX5_way_353 rfl (lv_at hl 2 rfl) ?_
      refine va_get (D := D) (ci := 4) (v := .ref (ad 10)) (C := RX5) (T := TX5) (N := 18) hx hb hts in_X5 hown hK hP 5 rfl rfl 10 (by decide) (hts _ q583) (fun _ h9 => h9) rfl dX5_way_354 ?_
      refine lv_iload hx hb dX5_way_357 (lv_at hl 0 rfl) ?_
      refine va_lald hx hb hK hP 13 2 rfl rfl (vin (by decide)) dX5_way_359 ?_
      refine lv_topl (fun z_51 ez_51 => ?_)
      obtain rfl : z_51 = (q_times (q_mirror bv) lv).1 := ez_51.trans rfl
      refine lv_lload hx hb dX5_way_360 (lv_at hl 1 rfl) ?_
      refine lv_ldiv hx hb dX5_way_362 (by rw [hbv, hlv]; exact (hW k (by omega)).2) ?_
      refine va_last hx hb hK hP hD hS 15 2 rfl rfl (vin (by decide)) dX5_way_363 (fun H locs hP hD hS => ?_)
      rw [L4_s0] at hP hD
      have hP : va_P D vwCl [(ad 0, aI ca 6 kd), (ad 1, aI ca 6 sz), (ad 2, aL ca 96 sh), (ad 3, aI ca 64 g), (ad 6, aL ca 48 (vp_updL (vp_updL (vp_updL (vp_updL fv (4 * k) bv.1) ((4 * k) + 1) bv.2.1) ((4 * k) + 2) bv.2.2.1) ((4 * k) + 3) bv.2.2.2)), (o, mO ad nf mo), (ad 4, aI ca 96 un), (ad 8, a4 ca u_30.1), (ad 9, a4 ca u_30.2.1), (ad 11, a4 ca u_30.2.2.2.1), (ad 13, a4 ca u_30.2.2.2.2.1), (ad 14, a4 ca u_30.2.2.2.2.2.1), (ad 15, a4 ca u_30.2.2.2.2.2.2), (ad 10, a4 ca (q_times (q_mirror bv) lv)), (ad 12, a4 ca (q_mirror bv)), (ad 16, a4 ca (((q_times (q_mirror bv) lv).1) / (q_norm bv), lv.2.1, lv.2.2.1, lv.2.2.2))] H := hP
      have hD : va_D A [(ad 0, aI ca 6 kd), (ad 1, aI ca 6 sz), (ad 2, aL ca 96 sh), (ad 3, aI ca 64 g), (ad 6, aL ca 48 (vp_updL (vp_updL (vp_updL (vp_updL fv (4 * k) bv.1) ((4 * k) + 1) bv.2.1) ((4 * k) + 2) bv.2.2.1) ((4 * k) + 3) bv.2.2.2)), (o, mO ad nf mo), (ad 4, aI ca 96 un), (ad 8, a4 ca u_30.1), (ad 9, a4 ca u_30.2.1), (ad 11, a4 ca u_30.2.2.2.1), (ad 13, a4 ca u_30.2.2.2.2.1), (ad 14, a4 ca u_30.2.2.2.2.2.1), (ad 15, a4 ca u_30.2.2.2.2.2.2), (ad 10, a4 ca (q_times (q_mirror bv) lv)), (ad 12, a4 ca (q_mirror bv)), (ad 16, a4 ca (((q_times (q_mirror bv) lv).1) / (q_norm bv), lv.2.1, lv.2.2.1, lv.2.2.2))] := hD
      refine lv_iinc (v := 1) (lv' := [(13, .int 1), (11, .long (q_norm bv)), (0, .ref o), (2, .int (nI jr)), (3, .int (nI ia)), (4, .int (nI nn)), (10, .int (nI k))]) hx hb dX5_way_364 hl (k := 0) rfl (by decide) (by decide) rfl (fun ls hl => ?_)
      refine lv_goto (tgt := 341) hx hb dX5_way_367 (by decide) ?_
      refine lv_iload hx hb dX5_way_341 (lv_at hl 0 rfl) ?_
      refine lv_iconst (v := 4) hx hb dX5_way_343 (by decide) ?_
      refine lv_icmp_ge (tgt := 370) hx hb dX5_way_344 (by decide) (fun c_52 => absurd c_52 (by decide)) (fun c_52 => ?_)
      refine lv_aload_n hx hb dX5_way_347 rfl (lv_at hl 2 rfl) ?_
      refine va_get (D := D) (ci := 4) (v := .ref (ad 16)) (C := RX5) (T := TX5) (N := 18) hx hb hts in_X5 hown hK hP 5 rfl rfl 16 (by decide) (hts _ q589) (fun _ h9 => h9) rfl dX5_way_348 ?_
      refine lv_iload hx hb dX5_way_351 (lv_at hl 0 rfl) ?_
      refine lv_aload_n hx hb dX5_way_353 rfl (lv_at hl 2 rfl) ?_
      refine va_get (D := D) (ci := 4) (v := .ref (ad 10)) (C := RX5) (T := TX5) (N := 18) hx hb hts in_X5 hown hK hP 5 rfl rfl 10 (by decide) (hts _ q583) (fun _ h9 => h9) rfl dX5_way_354 ?_
      refine lv_iload hx hb dX5_way_357 (lv_at hl 0 rfl) ?_
      refine va_lald hx hb hK hP 13 2 rfl rfl (vin (by decide)) dX5_way_359 ?_
      refine lv_topl (fun z_53 ez_53 => ?_)
      obtain rfl : z_53 = (q_times (q_mirror bv) lv).2.1 := ez_53.trans rfl
      refine lv_lload hx hb dX5_way_360 (lv_at hl 1 rfl) ?_
      refine lv_ldiv hx hb dX5_way_362 (by rw [hbv, hlv]; exact (hW k (by omega)).2) ?_
      refine va_last hx hb hK hP hD hS 15 2 rfl rfl (vin (by decide)) dX5_way_363 (fun H locs hP hD hS => ?_)
      rw [L4_s1] at hP hD
      have hP : va_P D vwCl [(ad 0, aI ca 6 kd), (ad 1, aI ca 6 sz), (ad 2, aL ca 96 sh), (ad 3, aI ca 64 g), (ad 6, aL ca 48 (vp_updL (vp_updL (vp_updL (vp_updL fv (4 * k) bv.1) ((4 * k) + 1) bv.2.1) ((4 * k) + 2) bv.2.2.1) ((4 * k) + 3) bv.2.2.2)), (o, mO ad nf mo), (ad 4, aI ca 96 un), (ad 8, a4 ca u_30.1), (ad 9, a4 ca u_30.2.1), (ad 11, a4 ca u_30.2.2.2.1), (ad 13, a4 ca u_30.2.2.2.2.1), (ad 14, a4 ca u_30.2.2.2.2.2.1), (ad 15, a4 ca u_30.2.2.2.2.2.2), (ad 10, a4 ca (q_times (q_mirror bv) lv)), (ad 12, a4 ca (q_mirror bv)), (ad 16, a4 ca (((q_times (q_mirror bv) lv).1) / (q_norm bv), ((q_times (q_mirror bv) lv).2.1) / (q_norm bv), lv.2.2.1, lv.2.2.2))] H := hP
      have hD : va_D A [(ad 0, aI ca 6 kd), (ad 1, aI ca 6 sz), (ad 2, aL ca 96 sh), (ad 3, aI ca 64 g), (ad 6, aL ca 48 (vp_updL (vp_updL (vp_updL (vp_updL fv (4 * k) bv.1) ((4 * k) + 1) bv.2.1) ((4 * k) + 2) bv.2.2.1) ((4 * k) + 3) bv.2.2.2)), (o, mO ad nf mo), (ad 4, aI ca 96 un), (ad 8, a4 ca u_30.1), (ad 9, a4 ca u_30.2.1), (ad 11, a4 ca u_30.2.2.2.1), (ad 13, a4 ca u_30.2.2.2.2.1), (ad 14, a4 ca u_30.2.2.2.2.2.1), (ad 15, a4 ca u_30.2.2.2.2.2.2), (ad 10, a4 ca (q_times (q_mirror bv) lv)), (ad 12, a4 ca (q_mirror bv)), (ad 16, a4 ca (((q_times (q_mirror bv) lv).1) / (q_norm bv), ((q_times (q_mirror bv) lv).2.1) / (q_norm bv), lv.2.2.1, lv.2.2.2))] := hD
      refine lv_iinc (v := 2) (lv' := [(13, .int 2), (11, .long (q_norm bv)), (0, .ref o), (2, .int (nI jr)), (3, .int (nI ia)), (4, .int (nI nn)), (10, .int (nI k))]) hx hb dX5_way_364 hl (k := 0) rfl (by decide) (by decide) rfl (fun ls hl => ?_)
      refine lv_goto (tgt := 341) hx hb dX5_way_367 (by decide) ?_
      refine lv_iload hx hb dX5_way_341 (lv_at hl 0 rfl) ?_
      refine lv_iconst (v := 4) hx hb dX5_way_343 (by decide) ?_
      refine lv_icmp_ge (tgt := 370) hx hb dX5_way_344 (by decide) (fun c_54 => absurd c_54 (by decide)) (fun c_54 => ?_)
      refine lv_aload_n hx hb dX5_way_347 rfl (lv_at hl 2 rfl) ?_
      refine va_get (D := D) (ci := 4) (v := .ref (ad 16)) (C := RX5) (T := TX5) (N := 18) hx hb hts in_X5 hown hK hP 5 rfl rfl 16 (by decide) (hts _ q589) (fun _ h9 => h9) rfl dX5_way_348 ?_
      refine lv_iload hx hb dX5_way_351 (lv_at hl 0 rfl) ?_
      refine lv_aload_n hx hb dX5_way_353 rfl (lv_at hl 2 rfl) ?_
      refine va_get (D := D) (ci := 4) (v := .ref (ad 10)) (C := RX5) (T := TX5) (N := 18) hx hb hts in_X5 hown hK hP 5 rfl rfl 10 (by decide) (hts _ q583) (fun _ h9 => h9) rfl dX5_way_354 ?_
      refine lv_iload hx hb dX5_way_357 (lv_at hl 0 rfl) ?_
      refine va_lald hx hb hK hP 13 2 rfl rfl (vin (by decide)) dX5_way_359 ?_
      refine lv_topl (fun z_55 ez_55 => ?_)
      obtain rfl : z_55 = (q_times (q_mirror bv) lv).2.2.1 := ez_55.trans rfl
      refine lv_lload hx hb dX5_way_360 (lv_at hl 1 rfl) ?_
      refine lv_ldiv hx hb dX5_way_362 (by rw [hbv, hlv]; exact (hW k (by omega)).2) ?_
      refine va_last hx hb hK hP hD hS 15 2 rfl rfl (vin (by decide)) dX5_way_363 (fun H locs hP hD hS => ?_)
      rw [L4_s2] at hP hD
      have hP : va_P D vwCl [(ad 0, aI ca 6 kd), (ad 1, aI ca 6 sz), (ad 2, aL ca 96 sh), (ad 3, aI ca 64 g), (ad 6, aL ca 48 (vp_updL (vp_updL (vp_updL (vp_updL fv (4 * k) bv.1) ((4 * k) + 1) bv.2.1) ((4 * k) + 2) bv.2.2.1) ((4 * k) + 3) bv.2.2.2)), (o, mO ad nf mo), (ad 4, aI ca 96 un), (ad 8, a4 ca u_30.1), (ad 9, a4 ca u_30.2.1), (ad 11, a4 ca u_30.2.2.2.1), (ad 13, a4 ca u_30.2.2.2.2.1), (ad 14, a4 ca u_30.2.2.2.2.2.1), (ad 15, a4 ca u_30.2.2.2.2.2.2), (ad 10, a4 ca (q_times (q_mirror bv) lv)), (ad 12, a4 ca (q_mirror bv)), (ad 16, a4 ca (((q_times (q_mirror bv) lv).1) / (q_norm bv), ((q_times (q_mirror bv) lv).2.1) / (q_norm bv), ((q_times (q_mirror bv) lv).2.2.1) / (q_norm bv), lv.2.2.2))] H := hP
      have hD : va_D A [(ad 0, aI ca 6 kd), (ad 1, aI ca 6 sz), (ad 2, aL ca 96 sh), (ad 3, aI ca 64 g), (ad 6, aL ca 48 (vp_updL (vp_updL (vp_updL (vp_updL fv (4 * k) bv.1) ((4 * k) + 1) bv.2.1) ((4 * k) + 2) bv.2.2.1) ((4 * k) + 3) bv.2.2.2)), (o, mO ad nf mo), (ad 4, aI ca 96 un), (ad 8, a4 ca u_30.1), (ad 9, a4 ca u_30.2.1), (ad 11, a4 ca u_30.2.2.2.1), (ad 13, a4 ca u_30.2.2.2.2.1), (ad 14, a4 ca u_30.2.2.2.2.2.1), (ad 15, a4 ca u_30.2.2.2.2.2.2), (ad 10, a4 ca (q_times (q_mirror bv) lv)), (ad 12, a4 ca (q_mirror bv)), (ad 16, a4 ca (((q_times (q_mirror bv) lv).1) / (q_norm bv), ((q_times (q_mirror bv) lv).2.1) / (q_norm bv), ((q_times (q_mirror bv) lv).2.2.1) / (q_norm bv), lv.2.2.2))] := hD
      refine lv_iinc (v := 3) (lv' := [(13, .int 3), (11, .long (q_norm bv)), (0, .ref o), (2, .int (nI jr)), (3, .int (nI ia)), (4, .int (nI nn)), (10, .int (nI k))]) hx hb dX5_way_364 hl (k := 0) rfl (by decide) (by decide) rfl (fun ls hl => ?_)
      refine lv_goto (tgt := 341) hx hb dX5_way_367 (by decide) ?_
      refine lv_iload hx hb dX5_way_341 (lv_at hl 0 rfl) ?_
      refine lv_iconst (v := 4) hx hb dX5_way_343 (by decide) ?_
      refine lv_icmp_ge (tgt := 370) hx hb dX5_way_344 (by decide) (fun c_56 => absurd c_56 (by decide)) (fun c_56 => ?_)
      refine lv_aload_n hx hb dX5_way_347 rfl (lv_at hl 2 rfl) ?_
      refine va_get (D := D) (ci := 4) (v := .ref (ad 16)) (C := RX5) (T := TX5) (N := 18) hx hb hts in_X5 hown hK hP 5 rfl rfl 16 (by decide) (hts _ q589) (fun _ h9 => h9) rfl dX5_way_348 ?_
      refine lv_iload hx hb dX5_way_351 (lv_at hl 0 rfl) ?_
      refine lv_aload_n hx hb dX5_way_353 rfl (lv_at hl 2 rfl) ?_
      refine va_get (D := D) (ci := 4) (v := .ref (ad 10)) (C := RX5) (T := TX5) (N := 18) hx hb hts in_X5 hown hK hP 5 rfl rfl 10 (by decide) (hts _ q583) (fun _ h9 => h9) rfl dX5_way_354 ?_
      refine lv_iload hx hb dX5_way_357 (lv_at hl 0 rfl) ?_
      refine va_lald hx hb hK hP 13 2 rfl rfl (vin (by decide)) dX5_way_359 ?_
      refine lv_topl (fun z_57 ez_57 => ?_)
      obtain rfl : z_57 = (q_times (q_mirror bv) lv).2.2.2 := ez_57.trans rfl
      refine lv_lload hx hb dX5_way_360 (lv_at hl 1 rfl) ?_
      refine lv_ldiv hx hb dX5_way_362 (by rw [hbv, hlv]; exact (hW k (by omega)).2) ?_
      refine va_last hx hb hK hP hD hS 15 2 rfl rfl (vin (by decide)) dX5_way_363 (fun H locs hP hD hS => ?_)
      rw [L4_s3] at hP hD
      have hP : va_P D vwCl [(ad 0, aI ca 6 kd), (ad 1, aI ca 6 sz), (ad 2, aL ca 96 sh), (ad 3, aI ca 64 g), (ad 6, aL ca 48 (vp_updL (vp_updL (vp_updL (vp_updL fv (4 * k) bv.1) ((4 * k) + 1) bv.2.1) ((4 * k) + 2) bv.2.2.1) ((4 * k) + 3) bv.2.2.2)), (o, mO ad nf mo), (ad 4, aI ca 96 un), (ad 8, a4 ca u_30.1), (ad 9, a4 ca u_30.2.1), (ad 11, a4 ca u_30.2.2.2.1), (ad 13, a4 ca u_30.2.2.2.2.1), (ad 14, a4 ca u_30.2.2.2.2.2.1), (ad 15, a4 ca u_30.2.2.2.2.2.2), (ad 10, a4 ca (q_times (q_mirror bv) lv)), (ad 12, a4 ca (q_mirror bv)), (ad 16, a4 ca (((q_times (q_mirror bv) lv).1) / (q_norm bv), ((q_times (q_mirror bv) lv).2.1) / (q_norm bv), ((q_times (q_mirror bv) lv).2.2.1) / (q_norm bv), ((q_times (q_mirror bv) lv).2.2.2) / (q_norm bv)))] H := hP
      have hD : va_D A [(ad 0, aI ca 6 kd), (ad 1, aI ca 6 sz), (ad 2, aL ca 96 sh), (ad 3, aI ca 64 g), (ad 6, aL ca 48 (vp_updL (vp_updL (vp_updL (vp_updL fv (4 * k) bv.1) ((4 * k) + 1) bv.2.1) ((4 * k) + 2) bv.2.2.1) ((4 * k) + 3) bv.2.2.2)), (o, mO ad nf mo), (ad 4, aI ca 96 un), (ad 8, a4 ca u_30.1), (ad 9, a4 ca u_30.2.1), (ad 11, a4 ca u_30.2.2.2.1), (ad 13, a4 ca u_30.2.2.2.2.1), (ad 14, a4 ca u_30.2.2.2.2.2.1), (ad 15, a4 ca u_30.2.2.2.2.2.2), (ad 10, a4 ca (q_times (q_mirror bv) lv)), (ad 12, a4 ca (q_mirror bv)), (ad 16, a4 ca (((q_times (q_mirror bv) lv).1) / (q_norm bv), ((q_times (q_mirror bv) lv).2.1) / (q_norm bv), ((q_times (q_mirror bv) lv).2.2.1) / (q_norm bv), ((q_times (q_mirror bv) lv).2.2.2) / (q_norm bv)))] := hD
      refine lv_iinc (v := 4) (lv' := [(13, .int 4), (11, .long (q_norm bv)), (0, .ref o), (2, .int (nI jr)), (3, .int (nI ia)), (4, .int (nI nn)), (10, .int (nI k))]) hx hb dX5_way_364 hl (k := 0) rfl (by decide) (by decide) rfl (fun ls hl => ?_)
      refine lv_goto (tgt := 341) hx hb dX5_way_367 (by decide) ?_
      refine lv_iload hx hb dX5_way_341 (lv_at hl 0 rfl) ?_
      refine lv_iconst (v := 4) hx hb dX5_way_343 (by decide) ?_
      refine lv_icmp_ge (tgt := 370) hx hb dX5_way_344 (by decide) (fun c_58 => ?_) (fun c_58 => absurd (by decide) c_58)
      have hf9 : vp_updL (vp_updL (vp_updL (vp_updL fv (4 * k) bv.1) ((4 * k) + 1) bv.2.1) ((4 * k) + 2) bv.2.2.1) ((4 * k) + 3) bv.2.2.2 = fcW un (wSh sh jr ia) (rq g js) fc (k + 1) := by rw [fcW, ← hfv, ← hlv, ← hbv]; rfl
      have hl9 : (((q_times (q_mirror bv) lv).1) / (q_norm bv), ((q_times (q_mirror bv) lv).2.1) / (q_norm bv), ((q_times (q_mirror bv) lv).2.2.1) / (q_norm bv), ((q_times (q_mirror bv) lv).2.2.2) / (q_norm bv)) = lfW un (wSh sh jr ia) (rq g js) (k + 1) := by rw [lfW, ← hlv, ← hbv]; rfl
      refine lv_iinc (v := nI (k + 1)) (lv' := [(10, .int (nI (k + 1))), (13, .int 4), (11, .long (q_norm bv)), (0, .ref o), (2, .int (nI jr)), (3, .int (nI ia)), (4, .int (nI nn))]) hx hb dX5_way_370 hl (k := 6) rfl (eq_add rfl rfl) (by decide) rfl (fun ls hl => ?_)
      refine lv_goto (tgt := 199) hx hb dX5_way_373 (by decide) ?_
      exact ih (k + 1) (vp_updL (vp_updL (vp_updL (vp_updL fv (4 * k) bv.1) ((4 * k) + 1) bv.2.1) ((4 * k) + 2) bv.2.2.1) ((4 * k) + 3) bv.2.2.2) (((q_times (q_mirror bv) lv).1) / (q_norm bv), ((q_times (q_mirror bv) lv).2.1) / (q_norm bv), ((q_times (q_mirror bv) lv).2.2.1) / (q_norm bv), ((q_times (q_mirror bv) lv).2.2.2) / (q_norm bv)) u_30.1 u_30.2.1 (q_times (q_mirror bv) lv) u_30.2.2.2.1 (q_mirror bv) u_30.2.2.2.2.1 u_30.2.2.2.2.2.1 u_30.2.2.2.2.2.2 (by omega) hf9 hl9 (by omega) _ _ _ (hP.sub [5, 0, 1, 2, 3, 6, 4, 7, 8, 13, 9, 14, 10, 11, 12, 15] rfl) (hD.sub [5, 0, 1, 2, 3, 6, 4, 7, 8, 13, 9, 14, 10, 11, 12, 15] (by decide) rfl) hS (lv_sub hl [3, 4, 5, 6, 0] rfl) 
set_option maxHeartbeats 4000000 in
set_option maxRecDepth 100000 in
theorem lp_X5_way1 {KN : State → Prop} (hk : KNok KN) {l : Launch} {D : va_G} {ca : Nat → ClassId} (o : Nat) (ad : Nat → Nat) (nf : Int32) (mo : Int32) (kd : AI) (sz : AI) (sh : AL) (g : AI) (un : AI) (fc : AL) (x : Q4) (y : Q4) (z : Q4) (rs : Q4) (bs : Q4) (qt : Q4) (w0 : Q4) (tv : Q4) (js : Nat) (jr : Nat) (ia : Nat) (nn : Nat) (hjs : js < 16) (hjr : jr < 6) (hia : ia + nn ≤ 16) (hn1 : 0 < nn) (hn2 : nn ≤ 12) (hP9 : wP (rq g js) < 2 ^ 29) (hsp : m_way kd sz sh g un nf fc (nI js) (nI jr) (nI ia) (nI nn) = wayIf (m_prim (rq g js) ∧ wR (wSh sh jr ia) 0 nn (wP (rq g js))) (nI nn, nI nn, w4L (fcW un (wSh sh jr ia) (rq g js) fc (nn - 1)) (nn - 1) (lfW un (wSh sh jr ia) (rq g js) (nn - 1))) (-2, nf, fc)) (hR : okR g) (hU : UnOk un) {p : Program} {e : Env} {s : State} {m : MethodId} {below : List Frame} {meth : Method} {c : Code} {A : Nat → Prop}  (hx : p.tables.exec = Jvm.exec) (hb : c.code = cX5_way) (hr : meth.sig.returnType = (some .int)) (hts : ∀ w ∈ lw_all, w.before ([.ref o, .int (nI js), .int (nI jr), .int (nI ia), .int (nI nn)] : List Value).toArray s = true) (hown : s.vm.findClass yX5_way.cls = some m.cls) (hlocks : meth.locks = false) (hnm : meth.name = yX5_way.name) (hml : c.maxLocals = 14) (hK : va_K D vwCl (tysG ca) s) (hN : KN s) (hA : ∀ q, s.heap.size ≤ q → A q)  :
    ∀ (n : Nat) (k : Nat) (M : Nat) (b9 : Bool), (k ≤ nn) → (0 < M) → (M ≤ wP (rq g js) ∨ b9 = false) → ((m_prim (rq g js) ∧ wR (wSh sh jr ia) 0 nn (wP (rq g js))) ↔ (b9 = true ∧ wQ (wSh sh jr ia) k (nn - k) M (wP (rq g js)))) → (nn < n + k) →  ∀ (H : Heap) (locs : List Loc) (ls : Array Slot), va_P D vwCl [(o, mO ad nf mo), (ad 0, aI ca 6 kd), (ad 1, aI ca 6 sz), (ad 2, aL ca 96 sh), (ad 3, aI ca 64 g), (ad 4, aI ca 96 un), (ad 6, aL ca 48 fc), (ad 8, a4 ca x), (ad 9, a4 ca y), (ad 10, a4 ca z), (ad 11, a4 ca rs), (ad 12, a4 ca bs), (ad 13, a4 ca qt), (ad 14, a4 ca w0), (ad 15, a4 ca tv), (ad 16, a4 ca (rq g js))] H → va_D A [(o, mO ad nf mo), (ad 0, aI ca 6 kd), (ad 1, aI ca 6 sz), (ad 2, aL ca 96 sh), (ad 3, aI ca 64 g), (ad 4, aI ca 96 un), (ad 6, aL ca 48 fc), (ad 8, a4 ca x), (ad 9, a4 ca y), (ad 10, a4 ca z), (ad 11, a4 ca rs), (ad 12, a4 ca bs), (ad 13, a4 ca qt), (ad 14, a4 ca w0), (ad 15, a4 ca tv), (ad 16, a4 ca (rq g js))] → va_S A s.heap H locs → lv_has ls 14 [(0, .ref o), (1, .int (nI js)), (2, .int (nI jr)), (3, .int (nI ia)), (4, .int (nI nn)), (5, .long (lN (wP (rq g js)))), (7, .long (lN M)), (9, .int (bI b9)), (10, .int (nI k))] → W p l e ({ frames := 3, cells := 0, slots := 0, locals := 81 }) s m ([.ref o, .int (nI js), .int (nI jr), .int (nI ia), .int (nI nn)] : List Value).toArray below meth c H locs 0 0 (MQ below (qI D (fun (r : Int32) (u : Int32 × AL × Q4 × Q4 × Q4 × Q4 × Q4 × Q4 × Q4 × Q4 × Q4) => (r, u.1, u.2.1) = m_way kd sz sh g un nf fc (nI js) (nI jr) (nI ia) (nI nn)) (fun u => [(o, mO ad u.1 mo), (ad 0, aI ca 6 kd), (ad 1, aI ca 6 sz), (ad 2, aL ca 96 sh), (ad 3, aI ca 64 g), (ad 4, aI ca 96 un), (ad 6, aL ca 48 u.2.1), (ad 8, a4 ca u.2.2.1), (ad 9, a4 ca u.2.2.2.1), (ad 10, a4 ca u.2.2.2.2.1), (ad 11, a4 ca u.2.2.2.2.2.1), (ad 12, a4 ca u.2.2.2.2.2.2.1), (ad 13, a4 ca u.2.2.2.2.2.2.2.1), (ad 14, a4 ca u.2.2.2.2.2.2.2.2.1), (ad 15, a4 ca u.2.2.2.2.2.2.2.2.2.1), (ad 16, a4 ca u.2.2.2.2.2.2.2.2.2.2)]) (fun u H => True) A) ([.ref o, .int (nI js), .int (nI jr), .int (nI ia), .int (nI nn)] : List Value).toArray s 0 0 A) (F0 m 96 ls []) := by
  intro n
  induction n with
  | zero =>
    intro k M b9 hkn hM1 hM2 hW hfuel H locs ls hP hD hS hl 
    exact absurd hfuel (by omega)
  | succ n ih =>
    intro k M b9 hkn hM1 hM2 hW hfuel H locs ls hP hD hS hl 
    refine lv_iload hx hb dX5_way_96 (lv_at hl 8 rfl) ?_
    refine lv_iload hx hb dX5_way_98 (lv_at hl 4 rfl) ?_
    refine lv_icmp_ge (tgt := 180) hx hb dX5_way_100 (by decide) (fun c_1 => ?_) (fun c_1 => ?_)
    · have c_1 := le_y (a := nn) (b := k) rfl rfl (by omega) (by omega) c_1
      refine lv_iload hx hb dX5_way_180 (lv_at hl 7 rfl) ?_
      refine lv_if_eq (tgt := 193) hx hb dX5_way_182 (by decide) (fun c_2 => ?_) (fun c_2 => ?_)
      · have c_2 := bI_z0 c_2
        refine lv_bipush (v := (-2)) hx hb dX5_way_193 (by decide) ?_
        exact k_iret (nf, fc, x, y, z, rs, bs, qt, w0, tv, (rq g js)) hx hb hr hlocks (by rw [hsp, wayIf_n (fun z9 => absurd (hW.mp z9).1 (by rw [c_2]; decide))]) hP hD trivial hS (Nat.le_of_ble_eq_true rfl) (Nat.le_of_ble_eq_true rfl) dX5_way_195
      · have c_2 := bI_z1 c_2
        have hM2 : M ≤ wP (rq g js) := hM2.resolve_right (by rw [c_2]; decide)
        refine lv_lload hx hb dX5_way_185 (lv_at hl 6 rfl) ?_
        refine lv_lload hx hb dX5_way_187 (lv_at hl 5 rfl) ?_
        refine k_lc_eq (tgt := 196) hx hb dX5_way_189 dX5_way_190 (by decide) (fun c_3 => ?_) (fun c_3 => ?_)
        · have hM3 : M = wP (rq g js) := (pk_lEQ (by have := hM2; omega) (by omega)).mp c_3
          refine lv_iconst (v := 0) hx hb dX5_way_196 (by decide) ?_
          refine lv_istore (lv' := [(10, .int 0), (0, .ref o), (1, .int (nI js)), (2, .int (nI jr)), (3, .int (nI ia)), (4, .int (nI nn)), (5, .long (lN (wP (rq g js)))), (7, .long (lN M)), (9, .int (bI b9))]) hx hb dX5_way_197 hl (by decide) rfl (fun ls hl => ?_)
          have hC : (m_prim (rq g js) ∧ wR (wSh sh jr ia) 0 nn (wP (rq g js))) := hW.mpr ⟨c_2, by rw [show nn - k = 0 by omega]; exact wQ_e.mpr hM3⟩
          exact lp_X5_way2 hk o ad nf mo kd sz sh g un fc js jr ia nn hjs hjr hia hn1 hn2 hP9 hsp hC (wOk_of hR hU hjs hC.1 hC.2)  hx hb hr hts hown hlocks hnm hml hK hN hA  (nn + 1) 0 fc (rq g js) x y z rs bs qt w0 tv (by omega) rfl rfl (by omega) _ _ _ hP hD hS (lv_sub hl [1, 3, 4, 5, 0] rfl) 
        · refine lv_bipush (v := (-2)) hx hb dX5_way_193 (by decide) ?_
          exact k_iret (nf, fc, x, y, z, rs, bs, qt, w0, tv, (rq g js)) hx hb hr hlocks (by rw [hsp, wayIf_n (fun z9 => c_3 (by have h8 := (hW.mp z9).2; rw [show nn - k = 0 by omega] at h8; rw [wQ_e.mp h8]))]) hP hD trivial hS (Nat.le_of_ble_eq_true rfl) (Nat.le_of_ble_eq_true rfl) dX5_way_195
    · have c_1 := le_no (a := nn) (b := k) rfl rfl (by omega) (by omega) c_1
      refine lv_iload hx hb dX5_way_103 (lv_at hl 7 rfl) ?_
      refine lv_if_eq (tgt := 180) hx hb dX5_way_105 (by decide) (fun c_4 => ?_) (fun c_4 => ?_)
      · have c_4 := bI_z0 c_4
        refine lv_iload hx hb dX5_way_180 (lv_at hl 7 rfl) ?_
        refine lv_if_eq (tgt := 193) hx hb dX5_way_182 (by decide) (fun c_5 => ?_) (fun c_5 => absurd (by rw [c_4]; rfl) c_5)
        refine lv_bipush (v := (-2)) hx hb dX5_way_193 (by decide) ?_
        exact k_iret (nf, fc, x, y, z, rs, bs, qt, w0, tv, (rq g js)) hx hb hr hlocks (by rw [hsp, wayIf_n (fun z9 => absurd (hW.mp z9).1 (by rw [c_4]; decide))]) hP hD trivial hS (Nat.le_of_ble_eq_true rfl) (Nat.le_of_ble_eq_true rfl) dX5_way_195
      · have c_4 := bI_z1 c_4
        subst c_4
        have hM2 : M ≤ wP (rq g js) := hM2.resolve_right (by decide)
        obtain ⟨mm, hmm⟩ : ∃ mm, nn - k = mm + 1 := ⟨nn - k - 1, by omega⟩
        rw [hmm] at hW
        refine lv_aload_n hx hb dX5_way_108 rfl (lv_at hl 0 rfl) ?_
        refine va_get (D := D) (ci := 4) (v := .ref (ad 2)) (C := RX5) (T := TX5) (N := 18) hx hb hts in_X5 hown hK hP 0 rfl rfl 2 (by decide) (hts _ q575) (fun _ h9 => h9) rfl dX5_way_109 ?_
        refine lv_bipush (v := 16) hx hb dX5_way_112 (by decide) ?_
        refine lv_iload_n hx hb dX5_way_114 rfl (lv_at hl 2 rfl) ?_
        refine lv_imul hx hb dX5_way_115 ?_
        refine lv_iload_n hx hb dX5_way_116 rfl (lv_at hl 3 rfl) ?_
        refine lv_iadd hx hb dX5_way_117 ?_
        refine lv_iload hx hb dX5_way_118 (lv_at hl 8 rfl) ?_
        refine lv_iadd hx hb dX5_way_120 ?_
        refine va_lald hx hb hK hP 3 2 rfl rfl (vin_nI (a := ((16 * jr) + ia) + k) (eq_add (eq_add (eq_mul rfl rfl) rfl) rfl) (by omega) (by omega)) dX5_way_121 ?_
        refine lv_topl (fun z_6 ez_6 => ?_)
        obtain rfl : z_6 = sh (((16 * jr) + ia) + k) := ez_6.trans (cl_nI (a := ((16 * jr) + ia) + k) sh (eq_add (eq_add (eq_mul rfl rfl) rfl) rfl) (by omega))
        refine lv_lstore (lv' := [(11, .long (sh (((16 * jr) + ia) + k))), (0, .ref o), (1, .int (nI js)), (2, .int (nI jr)), (3, .int (nI ia)), (4, .int (nI nn)), (5, .long (lN (wP (rq g js)))), (7, .long (lN M)), (9, .int (bI true)), (10, .int (nI k))]) hx hb dX5_way_122 hl (by decide) rfl (fun ls hl => ?_)
        refine lv_lload hx hb dX5_way_124 (lv_at hl 0 rfl) ?_
        refine lv_lload hx hb dX5_way_126 (lv_at hl 6 rfl) ?_
        refine k_lc_gt (tgt := 155) hx hb dX5_way_128 dX5_way_129 (by decide) (fun c_7 => ?_) (fun c_7 => ?_)
        · refine lv_iconst (v := 0) hx hb dX5_way_155 (by decide) ?_
          refine lv_istore (lv' := [(9, .int 0), (11, .long (sh (((16 * jr) + ia) + k))), (0, .ref o), (1, .int (nI js)), (2, .int (nI jr)), (3, .int (nI ia)), (4, .int (nI nn)), (5, .long (lN (wP (rq g js)))), (7, .long (lN M)), (10, .int (nI k))]) hx hb dX5_way_156 hl (by decide) rfl (fun ls hl => ?_)
          refine lv_lload hx hb dX5_way_158 (lv_at hl 8 rfl) ?_
          refine lv_iload hx hb dX5_way_160 (lv_at hl 0 rfl) ?_
          refine lv_if_eq (tgt := 170) hx hb dX5_way_162 (by decide) (fun c_8 => ?_) (fun c_8 => absurd (by decide) c_8)
          refine lv_lconst (v := 1) hx hb dX5_way_170 (by decide) ?_
          refine lv_lmul hx hb dX5_way_171 ?_
          refine lv_topl (fun z_9 ez_9 => ?_)
          obtain rfl : z_9 = lN M := ez_9.trans (Int64.mul_one _)
          refine lv_lstore (lv' := [(7, .long (lN M)), (9, .int 0), (11, .long (sh (((16 * jr) + ia) + k))), (0, .ref o), (1, .int (nI js)), (2, .int (nI jr)), (3, .int (nI ia)), (4, .int (nI nn)), (5, .long (lN (wP (rq g js)))), (10, .int (nI k))]) hx hb dX5_way_172 hl (by decide) rfl (fun ls hl => ?_)
          refine lv_iinc (v := nI (k + 1)) (lv' := [(10, .int (nI (k + 1))), (7, .long (lN M)), (9, .int 0), (11, .long (sh (((16 * jr) + ia) + k))), (0, .ref o), (1, .int (nI js)), (2, .int (nI jr)), (3, .int (nI ia)), (4, .int (nI nn)), (5, .long (lN (wP (rq g js))))]) hx hb dX5_way_174 hl (k := 9) rfl (eq_add rfl rfl) (by decide) rfl (fun ls hl => ?_)
          refine lv_goto (tgt := 96) hx hb dX5_way_177 (by decide) ?_
          exact ih (k + 1) M false (by omega) hM1 (Or.inr rfl) (iff_of_false (fun z9 => absurd (wQ_le hM1 (hW.mp z9).2).2.1 (Int.not_le.mpr (lP_no hP9 c_7))) (fun z9 => absurd z9.1 (by decide))) (by omega) _ _ _ hP hD hS (lv_sub hl [4, 5, 6, 7, 8, 9, 1, 2, 0] rfl) 
        · refine lv_lload hx hb dX5_way_132 (lv_at hl 0 rfl) ?_
          refine k_calli (wr := [(o, mO ad nf mo), (ad 0, aI ca 6 kd), (ad 1, aI ca 6 sz), (ad 2, aL ca 96 sh), (ad 3, aI ca 64 g), (ad 4, aI ca 96 un), (ad 6, aL ca 48 fc), (ad 8, a4 ca x), (ad 9, a4 ca y), (ad 10, a4 ca z), (ad 11, a4 ca rs), (ad 12, a4 ca bs), (ad 13, a4 ca qt), (ad 14, a4 ca w0), (ad 15, a4 ca tv), (ad 16, a4 ca (rq g js))]) (va_runS (As := [.long (sh (((16 * jr) + ia) + k))]) (rest := []) ⟨hx, hb, hml, hown, hts⟩ (ct_X5_isPrime hk l D ca H.size (sh (((16 * jr) + ia) + k)) (Int.lt_of_le_of_lt (lP_40 hP9 c_7) (by omega))) (va_cwS 1 hts (lw_S q772 q773 q24 q774) rfl rfl rfl (by decide +kernel) ⟨Nat.le_of_ble_eq_true rfl, Nat.le_of_ble_eq_true rfl⟩) (k_pre hk hK hN hP hD [] (by decide) rfl trivial) rfl rfl hl.1 rfl (lv_room (Nat.le_of_ble_eq_true rfl)) dX5_way_134 ⟨Nat.le_of_ble_eq_true rfl, Nat.le_of_ble_eq_true rfl⟩) hP hD hS hA [] [0, 1, 2, 3, 4, 5, 6, 7, 8, 9, 10, 11, 12, 13, 14, 15] rfl rfl (by decide) (by decide) (fun r_10 u_11 H locs w_12 hP hD hxw_12 hzw_12 hqw_12 hS => ?_)
          obtain ⟨hrr_10, hur_10⟩ := w_12
          subst hrr_10
          refine lv_if_eq (tgt := 155) hx hb dX5_way_137 (by decide) (fun c_13 => ?_) (fun c_13 => ?_)
          · have c_13 := bI_z0 c_13
            refine lv_iconst (v := 0) hx hb dX5_way_155 (by decide) ?_
            refine lv_istore (lv' := [(9, .int 0), (11, .long (sh (((16 * jr) + ia) + k))), (0, .ref o), (1, .int (nI js)), (2, .int (nI jr)), (3, .int (nI ia)), (4, .int (nI nn)), (5, .long (lN (wP (rq g js)))), (7, .long (lN M)), (10, .int (nI k))]) hx hb dX5_way_156 hl (by decide) rfl (fun ls hl => ?_)
            refine lv_lload hx hb dX5_way_158 (lv_at hl 8 rfl) ?_
            refine lv_iload hx hb dX5_way_160 (lv_at hl 0 rfl) ?_
            refine lv_if_eq (tgt := 170) hx hb dX5_way_162 (by decide) (fun c_14 => ?_) (fun c_14 => absurd (by decide) c_14)
            refine lv_lconst (v := 1) hx hb dX5_way_170 (by decide) ?_
            refine lv_lmul hx hb dX5_way_171 ?_
            refine lv_topl (fun z_15 ez_15 => ?_)
            obtain rfl : z_15 = lN M := ez_15.trans (Int64.mul_one _)
            refine lv_lstore (lv' := [(7, .long (lN M)), (9, .int 0), (11, .long (sh (((16 * jr) + ia) + k))), (0, .ref o), (1, .int (nI js)), (2, .int (nI jr)), (3, .int (nI ia)), (4, .int (nI nn)), (5, .long (lN (wP (rq g js)))), (10, .int (nI k))]) hx hb dX5_way_172 hl (by decide) rfl (fun ls hl => ?_)
            refine lv_iinc (v := nI (k + 1)) (lv' := [(10, .int (nI (k + 1))), (7, .long (lN M)), (9, .int 0), (11, .long (sh (((16 * jr) + ia) + k))), (0, .ref o), (1, .int (nI js)), (2, .int (nI jr)), (3, .int (nI ia)), (4, .int (nI nn)), (5, .long (lN (wP (rq g js))))]) hx hb dX5_way_174 hl (k := 9) rfl (eq_add rfl rfl) (by decide) rfl (fun ls hl => ?_)
            refine lv_goto (tgt := 96) hx hb dX5_way_177 (by decide) ?_
            exact ih (k + 1) M false (by omega) hM1 (Or.inr rfl) (iff_of_false (fun z9 => absurd (hur_10.mpr (wQ_le hM1 (hW.mp z9).2).2.2.2) (by rw [c_13]; decide)) (fun z9 => absurd z9.1 (by decide))) (by omega) _ _ _ hP hD hS (lv_sub hl [4, 5, 6, 7, 8, 9, 1, 2, 0] rfl) 
          · have c_13 := bI_z1 c_13
            have hpr : isPr (wSh sh jr ia k).toInt := hur_10.mp c_13
            have hpl : (wSh sh jr ia k).toInt ≤ wP (rq g js) := lP_40 hP9 c_7
            have hp1 := hpr.1
            refine lv_lload hx hb dX5_way_140 (lv_at hl 7 rfl) ?_
            refine lv_lload hx hb dX5_way_142 (lv_at hl 0 rfl) ?_
            refine lv_lmul hx hb dX5_way_144 ?_
            refine lv_topl (fun z_16 ez_16 => ?_)
            obtain rfl : z_16 = lN (M * (wSh sh jr ia k).toInt.toNat) := ez_16.trans (lN_mulN (x := wSh sh jr ia k) (by omega) hpl hP9 hM2)
            refine lv_lload hx hb dX5_way_145 (lv_at hl 6 rfl) ?_
            refine k_lc_gt (tgt := 155) hx hb dX5_way_147 dX5_way_148 (by decide) (fun c_17 => ?_) (fun c_17 => ?_)
            · refine lv_iconst (v := 0) hx hb dX5_way_155 (by decide) ?_
              refine lv_istore (lv' := [(9, .int 0), (11, .long (sh (((16 * jr) + ia) + k))), (0, .ref o), (1, .int (nI js)), (2, .int (nI jr)), (3, .int (nI ia)), (4, .int (nI nn)), (5, .long (lN (wP (rq g js)))), (7, .long (lN M)), (10, .int (nI k))]) hx hb dX5_way_156 hl (by decide) rfl (fun ls hl => ?_)
              refine lv_lload hx hb dX5_way_158 (lv_at hl 8 rfl) ?_
              refine lv_iload hx hb dX5_way_160 (lv_at hl 0 rfl) ?_
              refine lv_if_eq (tgt := 170) hx hb dX5_way_162 (by decide) (fun c_18 => ?_) (fun c_18 => absurd (by decide) c_18)
              refine lv_lconst (v := 1) hx hb dX5_way_170 (by decide) ?_
              refine lv_lmul hx hb dX5_way_171 ?_
              refine lv_topl (fun z_19 ez_19 => ?_)
              obtain rfl : z_19 = lN M := ez_19.trans (Int64.mul_one _)
              refine lv_lstore (lv' := [(7, .long (lN M)), (9, .int 0), (11, .long (sh (((16 * jr) + ia) + k))), (0, .ref o), (1, .int (nI js)), (2, .int (nI jr)), (3, .int (nI ia)), (4, .int (nI nn)), (5, .long (lN (wP (rq g js)))), (10, .int (nI k))]) hx hb dX5_way_172 hl (by decide) rfl (fun ls hl => ?_)
              refine lv_iinc (v := nI (k + 1)) (lv' := [(10, .int (nI (k + 1))), (7, .long (lN M)), (9, .int 0), (11, .long (sh (((16 * jr) + ia) + k))), (0, .ref o), (1, .int (nI js)), (2, .int (nI jr)), (3, .int (nI ia)), (4, .int (nI nn)), (5, .long (lN (wP (rq g js))))]) hx hb dX5_way_174 hl (k := 9) rfl (eq_add rfl rfl) (by decide) rfl (fun ls hl => ?_)
              refine lv_goto (tgt := 96) hx hb dX5_way_177 (by decide) ?_
              exact ih (k + 1) M false (by omega) hM1 (Or.inr rfl) (iff_of_false (fun z9 => absurd (wQ_le hM1 (hW.mp z9).2).2.2.1 (Nat.not_le.mpr ((pk_lLT (by omega) (Nat.lt_trans (lMP_le hpl hP9 hM2) (by decide))).mp c_17))) (fun z9 => absurd z9.1 (by decide))) (by omega) _ _ _ hP hD hS (lv_sub hl [4, 5, 6, 7, 8, 9, 1, 2, 0] rfl) 
            · refine lv_iconst (v := 1) hx hb dX5_way_151 (by decide) ?_
              refine lv_goto (tgt := 156) hx hb dX5_way_152 (by decide) ?_
              refine lv_istore (lv' := [(9, .int 1), (11, .long (sh (((16 * jr) + ia) + k))), (0, .ref o), (1, .int (nI js)), (2, .int (nI jr)), (3, .int (nI ia)), (4, .int (nI nn)), (5, .long (lN (wP (rq g js)))), (7, .long (lN M)), (10, .int (nI k))]) hx hb dX5_way_156 hl (by decide) rfl (fun ls hl => ?_)
              refine lv_lload hx hb dX5_way_158 (lv_at hl 8 rfl) ?_
              refine lv_iload hx hb dX5_way_160 (lv_at hl 0 rfl) ?_
              refine lv_if_eq (tgt := 170) hx hb dX5_way_162 (by decide) (fun c_20 => absurd c_20 (by decide)) (fun c_20 => ?_)
              refine lv_lload hx hb dX5_way_165 (lv_at hl 1 rfl) ?_
              refine lv_goto (tgt := 171) hx hb dX5_way_167 (by decide) ?_
              refine lv_lmul hx hb dX5_way_171 ?_
              refine lv_topl (fun z_21 ez_21 => ?_)
              obtain rfl : z_21 = lN (M * (wSh sh jr ia k).toInt.toNat) := ez_21.trans (lN_mulN (x := wSh sh jr ia k) (by omega) hpl hP9 hM2)
              refine lv_lstore (lv' := [(7, .long (lN (M * (wSh sh jr ia k).toInt.toNat))), (9, .int 1), (11, .long (sh (((16 * jr) + ia) + k))), (0, .ref o), (1, .int (nI js)), (2, .int (nI jr)), (3, .int (nI ia)), (4, .int (nI nn)), (5, .long (lN (wP (rq g js)))), (10, .int (nI k))]) hx hb dX5_way_172 hl (by decide) rfl (fun ls hl => ?_)
              refine lv_iinc (v := nI (k + 1)) (lv' := [(10, .int (nI (k + 1))), (7, .long (lN (M * (wSh sh jr ia k).toInt.toNat))), (9, .int 1), (11, .long (sh (((16 * jr) + ia) + k))), (0, .ref o), (1, .int (nI js)), (2, .int (nI jr)), (3, .int (nI ia)), (4, .int (nI nn)), (5, .long (lN (wP (rq g js))))]) hx hb dX5_way_174 hl (k := 9) rfl (eq_add rfl rfl) (by decide) rfl (fun ls hl => ?_)
              refine lv_goto (tgt := 96) hx hb dX5_way_177 (by decide) ?_
              exact ih (k + 1) (M * (wSh sh jr ia k).toInt.toNat) true (by omega) (Nat.mul_pos hM1 (by omega)) (Or.inl (Nat.not_lt.mp (fun z9 => c_17 ((pk_lLT (by omega) (Nat.lt_trans (lMP_le hpl hP9 hM2) (by decide))).mpr z9)))) (by rw [show nn - (k + 1) = mm by omega]; exact hW.trans (and_congr_right (fun _ => wQ_st hpr))) (by omega) _ _ _ hP hD hS (lv_sub hl [4, 5, 6, 7, 8, 9, 1, 2, 0] rfl) 
set_option maxHeartbeats 4000000 in
set_option maxRecDepth 100000 in
theorem ct_X5_way {KN : State → Prop} (hk : KNok KN) (l : Launch) (D : va_G) (ca : Nat → ClassId) (zH : Nat) (o : Nat) (ad : Nat → Nat) (nf mo : Int32) (kd sz : AI) (sh : AL) (g un : AI) (fc : AL) (x y z rs bs qt w0 tv lf : Q4) (s0 r0 i0 n0 : Int32) (hz : okS sz) (hR : okR g) (hU : UnOk un) : Met l yX5_way (ws_ yX5_way cX5_way 14 (some .int)) ({ frames := 3, cells := 0, slots := 0, locals := 81 }) (va_Pc [.ref o, .int s0, .int r0, .int i0, .int n0] (pr_ KN D ca [(o, mO ad nf mo), (ad 0, aI ca 6 kd), (ad 1, aI ca 6 sz), (ad 2, aL ca 96 sh), (ad 3, aI ca 64 g), (ad 4, aI ca 96 un), (ad 6, aL ca 48 fc), (ad 8, a4 ca x), (ad 9, a4 ca y), (ad 10, a4 ca z), (ad 11, a4 ca rs), (ad 12, a4 ca bs), (ad 13, a4 ca qt), (ad 14, a4 ca w0), (ad 15, a4 ca tv), (ad 16, a4 ca lf)] zH (fun _ => True))) (qI D (fun (r : Int32) (u : Int32 × AL × Q4 × Q4 × Q4 × Q4 × Q4 × Q4 × Q4 × Q4 × Q4) => (r, u.1, u.2.1) = m_way kd sz sh g un nf fc s0 r0 i0 n0) (fun u => [(o, mO ad u.1 mo), (ad 0, aI ca 6 kd), (ad 1, aI ca 6 sz), (ad 2, aL ca 96 sh), (ad 3, aI ca 64 g), (ad 4, aI ca 96 un), (ad 6, aL ca 48 u.2.1), (ad 8, a4 ca u.2.2.1), (ad 9, a4 ca u.2.2.2.1), (ad 10, a4 ca u.2.2.2.2.1), (ad 11, a4 ca u.2.2.2.2.2.1), (ad 12, a4 ca u.2.2.2.2.2.2.1), (ad 13, a4 ca u.2.2.2.2.2.2.2.1), (ad 14, a4 ca u.2.2.2.2.2.2.2.2.1), (ad 15, a4 ca u.2.2.2.2.2.2.2.2.2.1), (ad 16, a4 ca u.2.2.2.2.2.2.2.2.2.2)]) (fun u H => True) (va_A [(o, mO ad nf mo), (ad 0, aI ca 6 kd), (ad 1, aI ca 6 sz), (ad 2, aL ca 96 sh), (ad 3, aI ca 64 g), (ad 4, aI ca 96 un), (ad 6, aL ca 48 fc), (ad 8, a4 ca x), (ad 9, a4 ca y), (ad 10, a4 ca z), (ad 11, a4 ca rs), (ad 12, a4 ca bs), (ad 13, a4 ca qt), (ad 14, a4 ca w0), (ad 15, a4 ca tv), (ad 16, a4 ca lf)] zH)) 0 0 (va_A [(o, mO ad nf mo), (ad 0, aI ca 6 kd), (ad 1, aI ca 6 sz), (ad 2, aL ca 96 sh), (ad 3, aI ca 64 g), (ad 4, aI ca 96 un), (ad 6, aL ca 48 fc), (ad 8, a4 ca x), (ad 9, a4 ca y), (ad 10, a4 ca z), (ad 11, a4 ca rs), (ad 12, a4 ca bs), (ad 13, a4 ca qt), (ad 14, a4 ca w0), (ad 15, a4 ca tv), (ad 16, a4 ca lf)] zH) := by
  refine k_ofW (Qc := qI D (fun (r : Int32) (u : Int32 × AL × Q4 × Q4 × Q4 × Q4 × Q4 × Q4 × Q4 × Q4 × Q4) => (r, u.1, u.2.1) = m_way kd sz sh g un nf fc s0 r0 i0 n0) (fun u => [(o, mO ad u.1 mo), (ad 0, aI ca 6 kd), (ad 1, aI ca 6 sz), (ad 2, aL ca 96 sh), (ad 3, aI ca 64 g), (ad 4, aI ca 96 un), (ad 6, aL ca 48 u.2.1), (ad 8, a4 ca u.2.2.1), (ad 9, a4 ca u.2.2.2.1), (ad 10, a4 ca u.2.2.2.2.1), (ad 11, a4 ca u.2.2.2.2.2.1), (ad 12, a4 ca u.2.2.2.2.2.2.1), (ad 13, a4 ca u.2.2.2.2.2.2.2.1), (ad 14, a4 ca u.2.2.2.2.2.2.2.2.1), (ad 15, a4 ca u.2.2.2.2.2.2.2.2.2.1), (ad 16, a4 ca u.2.2.2.2.2.2.2.2.2.2)]) (fun u H => True)) (by decide) (Nat.le_of_ble_eq_true rfl) ?_
  intro p e s m below meth c ls A H hH hx hb hr hts hown hlocks hnm hml hsz hP hD hK hN hA hAn hS hro hl
  have hl : lv_has ls 14 [(0, .ref o), (1, .int s0), (2, .int r0), (3, .int i0), (4, .int n0)] := hl
  refine lv_iload_n hx hb dX5_way_0 rfl (lv_at hl 1 rfl) ?_
  refine k_calli (wr := [(o, mO ad nf mo), (ad 0, aI ca 6 kd), (ad 1, aI ca 6 sz), (ad 2, aL ca 96 sh), (ad 3, aI ca 64 g), (ad 4, aI ca 96 un), (ad 6, aL ca 48 fc), (ad 8, a4 ca x), (ad 9, a4 ca y), (ad 10, a4 ca z), (ad 11, a4 ca rs), (ad 12, a4 ca bs), (ad 13, a4 ca qt), (ad 14, a4 ca w0), (ad 15, a4 ca tv), (ad 16, a4 ca lf)]) (va_runS (As := [.int s0]) (rest := []) ⟨hx, hb, hml, hown, hts⟩ (ct_X5_isRegister hk l D ca H.size s0) (va_cwS 1 hts (lw_S q660 q661 q24 q662) rfl rfl rfl (by decide +kernel) ⟨Nat.le_of_ble_eq_true rfl, Nat.le_of_ble_eq_true rfl⟩) (k_pre hk hK hN hP hD [] (by decide) rfl trivial) rfl rfl hl.1 rfl (lv_room (Nat.le_of_ble_eq_true rfl)) dX5_way_1 ⟨Nat.le_of_ble_eq_true rfl, Nat.le_of_ble_eq_true rfl⟩) hP hD hS hA [] [0, 1, 2, 3, 4, 5, 6, 7, 8, 9, 10, 11, 12, 13, 14, 15] rfl rfl (by decide) (by decide) (fun r_1 u_2 H locs w_3 hP hD hxw_3 hzw_3 hqw_3 hS => ?_)
  obtain rfl : r_1 = bI (p_in s0.toInt64 0 15) := w_3
  refine lv_if_eq (tgt := 26) hx hb dX5_way_4 (by decide) (fun c_4 => ?_) (fun c_4 => ?_)
  · have c_4 := bI_z0 c_4
    refine lv_iconst (v := (-1)) hx hb dX5_way_26 (by decide) ?_
    exact k_iret (nf, fc, x, y, z, rs, bs, qt, w0, tv, lf) hx hb hr hlocks (by simp [m_way, c_4]) hP hD trivial hS (Nat.le_of_ble_eq_true rfl) (Nat.le_of_ble_eq_true rfl) dX5_way_27
  · have c_4 := bI_z1 c_4
    obtain ⟨js0, hjs0, rfl⟩ := in_nI (n := 16) (by decide) c_4
    refine lv_iload_n hx hb dX5_way_7 rfl (lv_at hl 2 rfl) ?_
    refine k_calli (wr := [(o, mO ad nf mo), (ad 0, aI ca 6 kd), (ad 1, aI ca 6 sz), (ad 2, aL ca 96 sh), (ad 3, aI ca 64 g), (ad 4, aI ca 96 un), (ad 6, aL ca 48 fc), (ad 8, a4 ca x), (ad 9, a4 ca y), (ad 10, a4 ca z), (ad 11, a4 ca rs), (ad 12, a4 ca bs), (ad 13, a4 ca qt), (ad 14, a4 ca w0), (ad 15, a4 ca tv), (ad 16, a4 ca lf)]) (va_runS (As := [.int r0]) (rest := []) ⟨hx, hb, hml, hown, hts⟩ (ct_X5_isSheet hk l D ca H.size r0) (va_cwS 1 hts (lw_S q631 q632 q24 q633) rfl rfl rfl (by decide +kernel) ⟨Nat.le_of_ble_eq_true rfl, Nat.le_of_ble_eq_true rfl⟩) (k_pre hk hK hN hP hD [] (by decide) rfl trivial) rfl rfl hl.1 rfl (lv_room (Nat.le_of_ble_eq_true rfl)) dX5_way_8 ⟨Nat.le_of_ble_eq_true rfl, Nat.le_of_ble_eq_true rfl⟩) hP hD hS hA [] [0, 1, 2, 3, 4, 5, 6, 7, 8, 9, 10, 11, 12, 13, 14, 15] rfl rfl (by decide) (by decide) (fun r_5 u_6 H locs w_7 hP hD hxw_7 hzw_7 hqw_7 hS => ?_)
    obtain rfl : r_5 = bI (p_in r0.toInt64 0 5) := w_7
    refine lv_if_eq (tgt := 26) hx hb dX5_way_11 (by decide) (fun c_8 => ?_) (fun c_8 => ?_)
    · have c_8 := bI_z0 c_8
      refine lv_iconst (v := (-1)) hx hb dX5_way_26 (by decide) ?_
      exact k_iret (nf, fc, x, y, z, rs, bs, qt, w0, tv, lf) hx hb hr hlocks (by simp [m_way, c_4, c_8, nI_clamp (show js0 < 2 ^ 31 by omega)]) hP hD trivial hS (Nat.le_of_ble_eq_true rfl) (Nat.le_of_ble_eq_true rfl) dX5_way_27
    · have c_8 := bI_z1 c_8
      obtain ⟨jr0, hjr0, rfl⟩ := in_nI (n := 6) (by decide) c_8
      refine lv_iload hx hb dX5_way_14 (lv_at hl 4 rfl) ?_
      refine lv_if_eq (tgt := 26) hx hb dX5_way_16 (by decide) (fun c_9 => ?_) (fun c_9 => ?_)
      · refine lv_iconst (v := (-1)) hx hb dX5_way_26 (by decide) ?_
        exact k_iret (nf, fc, x, y, z, rs, bs, qt, w0, tv, lf) hx hb hr hlocks (by simp [m_way, c_4, c_8, c_9, nI_clamp (show js0 < 2 ^ 31 by omega), nI_clamp (show jr0 < 2 ^ 31 by omega)]) hP hD trivial hS (Nat.le_of_ble_eq_true rfl) (Nat.le_of_ble_eq_true rfl) dX5_way_27
      · refine lv_iload hx hb dX5_way_19 (lv_at hl 4 rfl) ?_
        refine lv_bipush (v := 12) hx hb dX5_way_21 (by decide) ?_
        refine lv_icmp_le (tgt := 28) hx hb dX5_way_23 (by decide) (fun c_10 => ?_) (fun c_10 => ?_)
        · refine lv_aload_n hx hb dX5_way_28 rfl (lv_at hl 0 rfl) ?_
          refine va_get (D := D) (ci := 4) (v := .ref (ad 0)) (C := RX5) (T := TX5) (N := 18) hx hb hts in_X5 hown hK hP 0 rfl rfl 0 (by decide) (hts _ q573) (fun _ h9 => h9) rfl dX5_way_29 ?_
          refine lv_iload_n hx hb dX5_way_32 rfl (lv_at hl 2 rfl) ?_
          refine va_iald hx hb hK hP 1 1 rfl rfl (vin_nI (a := jr0) rfl (by omega) (by omega)) dX5_way_33 ?_
          refine lv_topi (fun z_11 ez_11 => ?_)
          obtain rfl : z_11 = kd jr0 := ez_11.trans (cl_nI (a := jr0) kd rfl (by omega))
          refine lv_if_ge (tgt := 40) hx hb dX5_way_34 (by decide) (fun c_12 => ?_) (fun c_12 => ?_)
          · refine lv_iload hx hb dX5_way_40 (lv_at hl 4 rfl) ?_
            refine lv_if_ge (tgt := 48) hx hb dX5_way_42 (by decide) (fun c_13 => ?_) (fun c_13 => ?_)
            · obtain ⟨nn, rfl, hn1, hn2⟩ := n_nn c_9 c_10 c_13
              refine lv_aload_n hx hb dX5_way_48 rfl (lv_at hl 0 rfl) ?_
              refine lv_iload_n hx hb dX5_way_49 rfl (lv_at hl 2 rfl) ?_
              refine lv_iload_n hx hb dX5_way_50 rfl (lv_at hl 3 rfl) ?_
              refine lv_iload hx hb dX5_way_51 (lv_at hl 4 rfl) ?_
              refine k_calli (wr := [(ad 2, aL ca 96 sh), (ad 3, aI ca 64 g), (ad 4, aI ca 96 un), (ad 6, aL ca 48 fc), (ad 8, a4 ca x), (ad 9, a4 ca y), (ad 10, a4 ca z), (ad 11, a4 ca rs), (ad 12, a4 ca bs), (ad 13, a4 ca qt), (ad 14, a4 ca w0), (ad 15, a4 ca tv), (ad 16, a4 ca lf)]) (va_runV (As := [.int (nI jr0), .int i0, .int (nI nn)]) (rest := []) ⟨hx, hb, hml, hown, hts⟩ (ct_X5_against hk l D ca H.size o ad nf mo kd sz jr0 i0 (nI nn) (by omega)) (cwV 3 hts (lw_V q644 q646 qs6 q24 q647) rfl rfl rfl (by decide +kernel) ⟨Nat.le_of_ble_eq_true rfl, Nat.le_of_ble_eq_true rfl⟩) (k_preV hk hK hN hP hD [0, 1, 2] (by decide) rfl trivial hP rfl (q0 := 0) rfl) rfl rfl hl.1 rfl (lv_room (Nat.le_of_ble_eq_true rfl)) dX5_way_53 ⟨Nat.le_of_ble_eq_true rfl, Nat.le_of_ble_eq_true rfl⟩) hP hD hS hA [0, 1, 2] [3, 4, 5, 6, 7, 8, 9, 10, 11, 12, 13, 14, 15] rfl rfl (by decide) (by decide) (fun r_14 u_15 H locs w_16 hP hD hxw_16 hzw_16 hqw_16 hS => ?_)
              have hP : va_P D vwCl [(ad 2, aL ca 96 sh), (ad 3, aI ca 64 g), (ad 4, aI ca 96 un), (ad 6, aL ca 48 fc), (ad 8, a4 ca x), (ad 9, a4 ca y), (ad 10, a4 ca z), (ad 11, a4 ca rs), (ad 12, a4 ca bs), (ad 13, a4 ca qt), (ad 14, a4 ca w0), (ad 15, a4 ca tv), (ad 16, a4 ca lf), (o, mO ad nf mo), (ad 0, aI ca 6 kd), (ad 1, aI ca 6 sz)] H := hP
              have hD : va_D A [(ad 2, aL ca 96 sh), (ad 3, aI ca 64 g), (ad 4, aI ca 96 un), (ad 6, aL ca 48 fc), (ad 8, a4 ca x), (ad 9, a4 ca y), (ad 10, a4 ca z), (ad 11, a4 ca rs), (ad 12, a4 ca bs), (ad 13, a4 ca qt), (ad 14, a4 ca w0), (ad 15, a4 ca tv), (ad 16, a4 ca lf), (o, mO ad nf mo), (ad 0, aI ca 6 kd), (ad 1, aI ca 6 sz)] := hD
              obtain rfl : r_14 = m_ag kd sz jr0 i0 (nI nn) := w_16
              refine lv_if_eq (tgt := 62) hx hb dX5_way_56 (by decide) (fun c_17 => ?_) (fun c_17 => ?_)
              · obtain ⟨ai, rfl, hai, -, hai2, hai3⟩ := ag_0 (n := nn) hz hjr0 (by omega) c_17
                have hsp := way_in (sh := sh) (g := g) (un := un) (nf := nf) (fc := fc) c_4 c_8 hjs0 hjr0 (show ai ≤ 16 by omega) hn1 hn2 c_12 c_17
                obtain ⟨hP1, hP9, hP4⟩ := norm_P hR hjs0
                refine lv_aload_n hx hb dX5_way_62 rfl (lv_at hl 0 rfl) ?_
                refine lv_aload_n hx hb dX5_way_63 rfl (lv_at hl 0 rfl) ?_
                refine va_get (D := D) (ci := 4) (v := .ref (ad 16)) (C := RX5) (T := TX5) (N := 18) hx hb hts in_X5 hown hK hP 13 rfl rfl 16 (by decide) (hts _ q589) (fun _ h9 => h9) rfl dX5_way_64 ?_
                refine lv_iload_n hx hb dX5_way_67 rfl (lv_at hl 1 rfl) ?_
                refine k_callv (wr := [(ad 2, aL ca 96 sh), (ad 4, aI ca 96 un), (ad 6, aL ca 48 fc), (ad 8, a4 ca x), (ad 9, a4 ca y), (ad 10, a4 ca z), (ad 11, a4 ca rs), (ad 12, a4 ca bs), (ad 13, a4 ca qt), (ad 14, a4 ca w0), (ad 15, a4 ca tv), (ad 0, aI ca 6 kd), (ad 1, aI ca 6 sz)]) (va_runV (As := [.ref (ad 16), .int (nI js0)]) (rest := []) ⟨hx, hb, hml, hown, hts⟩ (ct_X5_load hk l D ca H.size o ad nf mo (ad 16) g lf js0 (by omega)) (cwV 2 hts (lw_V q694 q696 qs10 q24 q697) rfl rfl rfl (by decide +kernel) ⟨Nat.le_of_ble_eq_true rfl, Nat.le_of_ble_eq_true rfl⟩) (k_preV hk hK hN hP hD [13, 1, 12] (by decide) rfl trivial hP rfl (q0 := 13) rfl) rfl rfl hl.1 rfl (lv_room (Nat.le_of_ble_eq_true rfl)) dX5_way_68 ⟨Nat.le_of_ble_eq_true rfl, Nat.le_of_ble_eq_true rfl⟩) hP hD hS hA [13, 1, 12] [0, 2, 3, 4, 5, 6, 7, 8, 9, 10, 11, 14, 15] rfl rfl (by decide) (by decide) (fun u_19 H locs w_20 hP hD hxw_20 hzw_20 hqw_20 hS => ?_)
                have hP : va_P D vwCl [(ad 2, aL ca 96 sh), (ad 4, aI ca 96 un), (ad 6, aL ca 48 fc), (ad 8, a4 ca x), (ad 9, a4 ca y), (ad 10, a4 ca z), (ad 11, a4 ca rs), (ad 12, a4 ca bs), (ad 13, a4 ca qt), (ad 14, a4 ca w0), (ad 15, a4 ca tv), (ad 0, aI ca 6 kd), (ad 1, aI ca 6 sz), (o, mO ad nf mo), (ad 3, aI ca 64 g), (ad 16, a4 ca (rq g js0))] H := hP
                have hD : va_D A [(ad 2, aL ca 96 sh), (ad 4, aI ca 96 un), (ad 6, aL ca 48 fc), (ad 8, a4 ca x), (ad 9, a4 ca y), (ad 10, a4 ca z), (ad 11, a4 ca rs), (ad 12, a4 ca bs), (ad 13, a4 ca qt), (ad 14, a4 ca w0), (ad 15, a4 ca tv), (ad 0, aI ca 6 kd), (ad 1, aI ca 6 sz), (o, mO ad nf mo), (ad 3, aI ca 64 g), (ad 16, a4 ca (rq g js0))] := hD
                refine lv_aload_n hx hb dX5_way_71 rfl (lv_at hl 0 rfl) ?_
                refine va_get (D := D) (ci := 4) (v := .ref (ad 16)) (C := RX5) (T := TX5) (N := 18) hx hb hts in_X5 hown hK hP 13 rfl rfl 16 (by decide) (hts _ q589) (fun _ h9 => h9) rfl dX5_way_72 ?_
                refine k_calll (wr := [(ad 2, aL ca 96 sh), (ad 4, aI ca 96 un), (ad 6, aL ca 48 fc), (ad 8, a4 ca x), (ad 9, a4 ca y), (ad 10, a4 ca z), (ad 11, a4 ca rs), (ad 12, a4 ca bs), (ad 13, a4 ca qt), (ad 14, a4 ca w0), (ad 15, a4 ca tv), (ad 0, aI ca 6 kd), (ad 1, aI ca 6 sz), (o, mO ad nf mo), (ad 3, aI ca 64 g)]) (va_runS (As := [.ref (ad 16)]) (rest := []) ⟨hx, hb, hml, hown, hts⟩ (ct_X5_norm hk l D ca H.size (ad 16) (rq g js0)) (va_cwS 1 hts (lw_S q698 q699 q24 q700) rfl rfl rfl (by decide +kernel) ⟨Nat.le_of_ble_eq_true rfl, Nat.le_of_ble_eq_true rfl⟩) (k_pre hk hK hN hP hD [15] (by decide) rfl trivial) rfl rfl hl.1 rfl (lv_room (Nat.le_of_ble_eq_true rfl)) dX5_way_75 ⟨Nat.le_of_ble_eq_true rfl, Nat.le_of_ble_eq_true rfl⟩) hP hD hS hA [15] [0, 1, 2, 3, 4, 5, 6, 7, 8, 9, 10, 11, 12, 13, 14] rfl rfl (by decide) (by decide) (fun r_21 u_22 H locs w_23 hP hD hxw_23 hzw_23 hqw_23 hS => ?_)
                have hP : va_P D vwCl [(ad 2, aL ca 96 sh), (ad 4, aI ca 96 un), (ad 6, aL ca 48 fc), (ad 8, a4 ca x), (ad 9, a4 ca y), (ad 10, a4 ca z), (ad 11, a4 ca rs), (ad 12, a4 ca bs), (ad 13, a4 ca qt), (ad 14, a4 ca w0), (ad 15, a4 ca tv), (ad 0, aI ca 6 kd), (ad 1, aI ca 6 sz), (o, mO ad nf mo), (ad 3, aI ca 64 g), (ad 16, a4 ca (rq g js0))] H := hP
                have hD : va_D A [(ad 2, aL ca 96 sh), (ad 4, aI ca 96 un), (ad 6, aL ca 48 fc), (ad 8, a4 ca x), (ad 9, a4 ca y), (ad 10, a4 ca z), (ad 11, a4 ca rs), (ad 12, a4 ca bs), (ad 13, a4 ca qt), (ad 14, a4 ca w0), (ad 15, a4 ca tv), (ad 0, aI ca 6 kd), (ad 1, aI ca 6 sz), (o, mO ad nf mo), (ad 3, aI ca 64 g), (ad 16, a4 ca (rq g js0))] := hD
                obtain rfl : r_21 = q_norm (rq g js0) := w_23
                refine lv_topl (fun z_24 ez_24 => ?_)
                obtain rfl : z_24 = lN (wP (rq g js0)) := ez_24.trans hP1
                refine lv_lstore (lv' := [(5, .long (lN (wP (rq g js0)))), (0, .ref o), (1, .int (nI js0)), (2, .int (nI jr0)), (3, .int (nI ai)), (4, .int (nI nn))]) hx hb dX5_way_78 hl (by decide) rfl (fun ls hl => ?_)
                refine lv_lconst (v := 1) hx hb dX5_way_80 (by decide) ?_
                refine lv_lstore (lv' := [(7, .long 1), (5, .long (lN (wP (rq g js0)))), (0, .ref o), (1, .int (nI js0)), (2, .int (nI jr0)), (3, .int (nI ai)), (4, .int (nI nn))]) hx hb dX5_way_81 hl (by decide) rfl (fun ls hl => ?_)
                refine lv_aload_n hx hb dX5_way_83 rfl (lv_at hl 2 rfl) ?_
                refine lv_aload_n hx hb dX5_way_84 rfl (lv_at hl 2 rfl) ?_
                refine va_get (D := D) (ci := 4) (v := .ref (ad 16)) (C := RX5) (T := TX5) (N := 18) hx hb hts in_X5 hown hK hP 13 rfl rfl 16 (by decide) (hts _ q589) (fun _ h9 => h9) rfl dX5_way_85 ?_
                refine k_calli (wr := [(ad 2, aL ca 96 sh), (ad 4, aI ca 96 un), (ad 6, aL ca 48 fc), (ad 8, a4 ca x), (ad 9, a4 ca y), (ad 10, a4 ca z), (ad 11, a4 ca rs), (ad 12, a4 ca bs), (ad 13, a4 ca qt), (ad 14, a4 ca w0), (ad 15, a4 ca tv), (ad 0, aI ca 6 kd), (ad 1, aI ca 6 sz), (ad 3, aI ca 64 g)]) (va_runV (As := [.ref (ad 16)]) (rest := []) ⟨hx, hb, hml, hown, hts⟩ (ct_X5_isPrimitive hk l D ca H.size o ad nf mo (ad 16) (rq g js0) (q_bd_le (hR.bd hjs0) (by decide))) (cwV 1 hts (lw_V q702 q704 qs11 q24 q705) rfl rfl rfl (by decide +kernel) ⟨Nat.le_of_ble_eq_true rfl, Nat.le_of_ble_eq_true rfl⟩) (k_preV hk hK hN hP hD [13, 15] (by decide) rfl trivial hP rfl (q0 := 13) rfl) rfl rfl hl.1 rfl (lv_room (Nat.le_of_ble_eq_true rfl)) dX5_way_88 ⟨Nat.le_of_ble_eq_true rfl, Nat.le_of_ble_eq_true rfl⟩) hP hD hS hA [13, 15] [0, 1, 2, 3, 4, 5, 6, 7, 8, 9, 10, 11, 12, 14] rfl rfl (by decide) (by decide) (fun r_25 u_26 H locs w_27 hP hD hxw_27 hzw_27 hqw_27 hS => ?_)
                have hP : va_P D vwCl [(ad 2, aL ca 96 sh), (ad 4, aI ca 96 un), (ad 6, aL ca 48 fc), (ad 8, a4 ca x), (ad 9, a4 ca y), (ad 10, a4 ca z), (ad 11, a4 ca rs), (ad 12, a4 ca bs), (ad 13, a4 ca qt), (ad 14, a4 ca w0), (ad 15, a4 ca tv), (ad 0, aI ca 6 kd), (ad 1, aI ca 6 sz), (ad 3, aI ca 64 g), (o, mO ad nf mo), (ad 16, a4 ca (rq g js0))] H := hP
                have hD : va_D A [(ad 2, aL ca 96 sh), (ad 4, aI ca 96 un), (ad 6, aL ca 48 fc), (ad 8, a4 ca x), (ad 9, a4 ca y), (ad 10, a4 ca z), (ad 11, a4 ca rs), (ad 12, a4 ca bs), (ad 13, a4 ca qt), (ad 14, a4 ca w0), (ad 15, a4 ca tv), (ad 0, aI ca 6 kd), (ad 1, aI ca 6 sz), (ad 3, aI ca 64 g), (o, mO ad nf mo), (ad 16, a4 ca (rq g js0))] := hD
                obtain ⟨hrr_25, hur_25⟩ := w_27
                subst hrr_25
                refine lv_istore (lv' := [(9, .int (bI u_26)), (7, .long 1), (5, .long (lN (wP (rq g js0)))), (0, .ref o), (1, .int (nI js0)), (2, .int (nI jr0)), (3, .int (nI ai)), (4, .int (nI nn))]) hx hb dX5_way_91 hl (by decide) rfl (fun ls hl => ?_)
                refine lv_iconst (v := 0) hx hb dX5_way_93 (by decide) ?_
                refine lv_istore (lv' := [(10, .int 0), (9, .int (bI u_26)), (7, .long 1), (5, .long (lN (wP (rq g js0)))), (0, .ref o), (1, .int (nI js0)), (2, .int (nI jr0)), (3, .int (nI ai)), (4, .int (nI nn))]) hx hb dX5_way_94 hl (by decide) rfl (fun ls hl => ?_)
                exact lp_X5_way1 hk o ad nf mo kd sz sh g un fc x y z rs bs qt w0 tv js0 jr0 ai nn hjs0 hjr0 hai hn1 hn2 hP9 hsp hR hU  hx hb hr hts hown hlocks hnm hml hK hN hA  (nn + 1) 0 1 u_26 (by omega) (by decide) (Classical.or_iff_not_imp_left.mpr (fun z9 => by
        have h0 := z_sq_nn (z4 (rq g js0))
        cases hq : u_26 with
        | false => rfl
        | true => exact absurd (prim_pos hR hjs0 (hur_25.mp hq)) (by omega))) (by rw [Nat.sub_zero, wQ_0, hur_25]) (by omega) _ _ _ (hP.sub [14, 11, 12, 0, 13, 1, 2, 3, 4, 5, 6, 7, 8, 9, 10, 15] rfl) (hD.sub [14, 11, 12, 0, 13, 1, 2, 3, 4, 5, 6, 7, 8, 9, 10, 15] (by decide) rfl) hS (lv_sub hl [4, 5, 6, 7, 8, 3, 2, 1, 0] rfl) 
              · refine lv_bipush (v := (-12)) hx hb dX5_way_59 (by decide) ?_
                exact k_iret (nf, fc, x, y, z, rs, bs, qt, w0, tv, lf) hx hb hr hlocks (by simp [m_way, c_4, c_8, c_9, c_10, c_12, c_13, c_17, nI_clamp (show js0 < 2 ^ 31 by omega), nI_clamp (show jr0 < 2 ^ 31 by omega), nI_clamp (show nn < 2 ^ 31 by omega)]) (hP.sub [13, 14, 15, 0, 1, 2, 3, 4, 5, 6, 7, 8, 9, 10, 11, 12] rfl) (hD.sub [13, 14, 15, 0, 1, 2, 3, 4, 5, 6, 7, 8, 9, 10, 11, 12] (by decide) rfl) trivial hS (Nat.le_of_ble_eq_true rfl) (Nat.le_of_ble_eq_true rfl) dX5_way_61
            · refine lv_bipush (v := (-13)) hx hb dX5_way_45 (by decide) ?_
              exact k_iret (nf, fc, x, y, z, rs, bs, qt, w0, tv, lf) hx hb hr hlocks (by simp [m_way, c_4, c_8, c_9, c_10, c_12, c_13, nI_clamp (show js0 < 2 ^ 31 by omega), nI_clamp (show jr0 < 2 ^ 31 by omega)]) hP hD trivial hS (Nat.le_of_ble_eq_true rfl) (Nat.le_of_ble_eq_true rfl) dX5_way_47
          · refine lv_bipush (v := (-11)) hx hb dX5_way_37 (by decide) ?_
            exact k_iret (nf, fc, x, y, z, rs, bs, qt, w0, tv, lf) hx hb hr hlocks (by simp [m_way, c_4, c_8, c_9, c_10, c_12, nI_clamp (show js0 < 2 ^ 31 by omega), nI_clamp (show jr0 < 2 ^ 31 by omega)]) hP hD trivial hS (Nat.le_of_ble_eq_true rfl) (Nat.le_of_ble_eq_true rfl) dX5_way_39
        · refine lv_iconst (v := (-1)) hx hb dX5_way_26 (by decide) ?_
          exact k_iret (nf, fc, x, y, z, rs, bs, qt, w0, tv, lf) hx hb hr hlocks (by simp [m_way, c_4, c_8, c_9, c_10, nI_clamp (show js0 < 2 ^ 31 by omega), nI_clamp (show jr0 < 2 ^ 31 by omega)]) hP hD trivial hS (Nat.le_of_ble_eq_true rfl) (Nat.le_of_ble_eq_true rfl) dX5_way_27
