theorem i4n (n : Nat) : iZ (4 * (n : Int)) = nI (4 * n) := by
  rw [iZ_n]
  congr 1
theorem iZ_nn {z : Int} (h : 0 ≤ z) : iZ z = nI z.toNat := by
  rw [iZ_n]
  congr 1
  omega
noncomputable def cW (wh : Nat) (q : Z4') : Nat := if wh = 0 then 1 else if wh = 1 then (if q.1 % 2 = 0 then 1 else 0) else @ite Nat (m_prim (qz q)) (Classical.propDecidable _) 1 0
noncomputable def cS (wh : Nat) : List Z4' → Nat
  | [] => 0
  | q :: L => cW wh q + cS wh L
theorem cS_app (wh : Nat) (L K : List Z4') : cS wh (L ++ K) = cS wh L + cS wh K := by
  induction L with
  | nil => simp [cS]
  | cons q L ih => simp [cS, ih, Nat.add_assoc]
theorem cW_le (wh : Nat) (q : Z4') : cW wh q ≤ 1 := by
  unfold cW
  split
  · exact Nat.le_refl 1
  · split
    · split <;> omega
    · split <;> omega
theorem cS_le (wh : Nat) (L : List Z4') : cS wh L ≤ L.length := by
  induction L with
  | nil => exact Nat.le_refl 0
  | cons q L ih =>
    have := cW_le wh q
    simp only [cS, List.length_cons]
    omega
theorem cW_0 (q : Z4') : cW 0 q = 1 := rfl
theorem cW_1y {q : Z4'} (h : q.1 % 2 = 0) : cW 1 q = 1 := by simp [cW, h]
theorem cW_1n {q : Z4'} (h : ¬ q.1 % 2 = 0) : cW 1 q = 0 := by simp [cW, h]
theorem cW_2y {q : Z4'} (h : m_prim (qz q)) : cW 2 q = 1 := by simp [cW, h]
theorem cW_2n {q : Z4'} (h : ¬ m_prim (qz q)) : cW 2 q = 0 := by simp [cW, h]
theorem cS_0 (L : List Z4') : cS 0 L = L.length := by
  induction L with
  | nil => rfl
  | cons q L ih => simp only [cS, cW_0, ih, List.length_cons]; omega
theorem cS_1 (L : List Z4') : cS 1 L = (L.filter (fun q => decide (q.1 % 2 = 0))).length := by
  induction L with
  | nil => rfl
  | cons q L ih =>
    by_cases h : q.1 % 2 = 0
    · simp only [cS, cW_1y h, ih, List.filter_cons, h, decide_true, if_true, List.length_cons]; omega
    · simp only [cS, cW_1n h, ih, List.filter_cons, h, decide_false]; simp
theorem ds_root {N a b c lf : Int} {M d : Nat} (hN : lf = N - a * a - b * b - c * c) (h1 : d * d ≤ lf.toNat) (h2 : lf.toNat < (d + 1) * (d + 1)) (h0 : 0 ≤ lf) (h3 : ¬ (d : Int) * (d : Int) = lf) : ds N M a b c = [] := by
  refine ds_nsq hN (d := d + 1) (fun e he => ?_) ?_ ?_
  · have := Nat.mul_le_mul (show e ≤ d by omega) (show e ≤ d by omega)
    have h4 : ((d * d : Nat) : Int) = (d : Int) * (d : Int) := Int.natCast_mul d d
    omega
  · omega
  · omega
theorem one_par {a b c d : Int} (ha : -28 ≤ a ∧ a ≤ 28) (hb : -28 ≤ b ∧ b ≤ 28) (hc : -28 ≤ c ∧ c ≤ 28) (hd : -28 ≤ d ∧ d ≤ 28) : p_one (iZ a).toInt64 (iZ b).toInt64 (iZ c).toInt64 (iZ d).toInt64 = true ↔ ((a - b) % 2 = 0 ∧ (a - c) % 2 = 0 ∧ (a - d) % 2 = 0) := by
  have h := one_z (v := ((iZ a).toInt64, (iZ b).toInt64, (iZ c).toInt64, (iZ d).toInt64))
  have e : z4 ((iZ a).toInt64, (iZ b).toInt64, (iZ c).toInt64, (iZ d).toInt64) = (a, b, c, d) := by
    simp only [z4, Int32.toInt_toInt64, iZ_t (show -2 ^ 31 ≤ a ∧ a < 2 ^ 31 by omega), iZ_t (show -2 ^ 31 ≤ b ∧ b < 2 ^ 31 by omega), iZ_t (show -2 ^ 31 ≤ c ∧ c < 2 ^ 31 by omega), iZ_t (show -2 ^ 31 ≤ d ∧ d < 2 ^ 31 by omega)]
  rw [e] at h
  rw [show p_one (iZ a).toInt64 (iZ b).toInt64 (iZ c).toInt64 (iZ d).toInt64 = q_one ((iZ a).toInt64, (iZ b).toInt64, (iZ c).toInt64, (iZ d).toInt64) from rfl, h]
  constructor
  · rintro ⟨x, y, z, w, e, h1, h2⟩
    simp only [Prod.mk.injEq] at h1
    omega
  · intro h
    exact ⟨a / 2, b / 2, c / 2, d / 2, a % 2, by simp only [Prod.mk.injEq]; omega, by omega⟩
theorem qz_bd {a b c d : Int} (ha : -28 ≤ a ∧ a ≤ 28) (hb : -28 ≤ b ∧ b ≤ 28) (hc : -28 ≤ c ∧ c ≤ 28) (hd : -28 ≤ d ∧ d ≤ 28) : q_bd (2 ^ 30) ((iZ a).toInt64, (iZ b).toInt64, (iZ c).toInt64, (iZ d).toInt64) := by
  have k : ∀ x : Int, -28 ≤ x ∧ x ≤ 28 → (iZ x).toInt64.toInt.natAbs ≤ 2 ^ 30 := fun x hx => by
    rw [Int32.toInt_toInt64, iZ_t (show -2 ^ 31 ≤ x ∧ x < 2 ^ 31 by omega)]
    omega
  exact ⟨k a ha, k b hb, k c hc, k d hd⟩
set_option maxHeartbeats 4000000 in
set_option maxRecDepth 100000 in
theorem lp_X5_go_c0 {KN : State → Prop} (hk : KNok KN) {l : Launch} {D : va_G} {ca : Nat → ClassId} (o : Nat) (ad : Nat → Nat) (nf : Int32) (mo : Int32) (x : Q4) (n0 : Nat) (M : Nat) (T : Nat) (N : Int) (ya : Int) (yb : Int) (R : List Z4') (hn0 : n0 ≤ 200) (hM28 : M ≤ 28) (hM0 : 4 * n0 < (M + 1) * (M + 1)) (hNn : N = 4 * (n0 : Int)) (hTb : T ≤ 2 ^ 20) (hMM : M * M ≤ 4 * n0) (hTT : T = cS 0 (S0 (4 * (n0 : Int)) M)) (hba : -(M : Int) ≤ ya ∧ ya ≤ M) (hbb : -(M : Int) ≤ yb ∧ yb ≤ M) {p : Program} {e : Env} {s : State} {m : MethodId} {below : List Frame} {meth : Method} {c : Code} {A : Nat → Prop} (hOut : ∀ (cn : Nat) (xv : Q4), cn + cS 0 (R) = T → ∀ (H : Heap) (locs : List Loc) (ls : Array Slot), va_P D vwCl [(o, mO ad nf mo), (ad 8, a4 ca xv)] H → va_D A [(o, mO ad nf mo), (ad 8, a4 ca xv)] → va_S A s.heap H locs → lv_has ls 14 [(0, .ref o), (1, .int (nI n0)), (2, .int (nI 0)), (3, .int (-1)), (4, .int (iZ N)), (5, .int (nI M)), (6, .int (nI cn)), (7, .int (iZ ya)), (8, .int (iZ yb))] → W p l e ({ frames := 2, cells := 0, slots := 0, locals := 53 }) s m ([.ref o, .int (nI n0), .int (nI 0), .int (-1)] : List Value).toArray below meth c H locs 0 0 (MQ below (qI D (fun (r : Int32) (u : Nat × Q4) => r = nI (cS 0 (S0 (4 * (n0 : Int)) u.1)) ∧ u.1 * u.1 ≤ 4 * n0 ∧ 4 * n0 < (u.1 + 1) * (u.1 + 1)) (fun u => [(o, mO ad nf mo), (ad 8, a4 ca u.2)]) (fun u H => True) A) ([.ref o, .int (nI n0), .int (nI 0), .int (-1)] : List Value).toArray s 0 0 A) (F0 m 285 ls [])) (hx : p.tables.exec = Jvm.exec) (hb : c.code = cX5_goThrough) (hr : meth.sig.returnType = (some .int)) (hts : ∀ w ∈ lw_all, w.before ([.ref o, .int (nI n0), .int (nI 0), .int (-1)] : List Value).toArray s = true) (hown : s.vm.findClass yX5_goThrough.cls = some m.cls) (hlocks : meth.locks = false) (hnm : meth.name = yX5_goThrough.name) (hml : c.maxLocals = 14) (hK : va_K D vwCl (tysG ca) s) (hN : KN s) (hA : ∀ q, s.heap.size ≤ q → A q)  :
    ∀ (n : Nat) (yc : Int) (cn : Nat) (xv : Q4), (-(M : Int) - 1 ≤ yc) → (yc ≤ M) → (cn + cS 0 (TC N M ya yb yc ++ R) = T) → (yc + M + 1 < (n : Int)) →  ∀ (H : Heap) (locs : List Loc) (ls : Array Slot), va_P D vwCl [(o, mO ad nf mo), (ad 8, a4 ca xv)] H → va_D A [(o, mO ad nf mo), (ad 8, a4 ca xv)] → va_S A s.heap H locs → lv_has ls 14 [(9, .int (iZ yc)), (0, .ref o), (1, .int (nI n0)), (2, .int (nI 0)), (3, .int (-1)), (4, .int (iZ N)), (5, .int (nI M)), (6, .int (nI cn)), (7, .int (iZ ya)), (8, .int (iZ yb))] → W p l e ({ frames := 2, cells := 0, slots := 0, locals := 53 }) s m ([.ref o, .int (nI n0), .int (nI 0), .int (-1)] : List Value).toArray below meth c H locs 0 0 (MQ below (qI D (fun (r : Int32) (u : Nat × Q4) => r = nI (cS 0 (S0 (4 * (n0 : Int)) u.1)) ∧ u.1 * u.1 ≤ 4 * n0 ∧ 4 * n0 < (u.1 + 1) * (u.1 + 1)) (fun u => [(o, mO ad nf mo), (ad 8, a4 ca u.2)]) (fun u H => True) A) ([.ref o, .int (nI n0), .int (nI 0), .int (-1)] : List Value).toArray s 0 0 A) (F0 m 43 ls []) := by
  intro n
  induction n with
  | zero =>
    intro yc cn xv hc1 hc2 hT hfuel H locs ls hP hD hS hl 
    exact absurd hfuel (by omega)
  | succ n ih =>
    intro yc cn xv hc1 hc2 hT hfuel H locs ls hP hD hS hl 
    have hqa := sqz (a := ya) (by omega) (by omega)
    have hqb := sqz (a := yb) (by omega) (by omega)
    refine lv_iload hx hb dX5_goThrough_43 (lv_at hl 0 rfl) ?_
    refine lv_iload hx hb dX5_goThrough_45 (lv_at hl 6 rfl) ?_
    refine lv_ineg hx hb dX5_goThrough_47 ?_
    refine lv_topi (fun z_1 ez_1 => ?_)
    obtain rfl : z_1 = iZ (-((M : Nat) : Int)) := ez_1.trans (zneg (iZ_n _))
    refine lv_icmp_lt (tgt := 285) hx hb dX5_goThrough_48 (by decide) (fun c_2 => ?_) (fun c_2 => ?_)
    · have c_2 := ltz_y (a := yc) (b := -((M : Nat) : Int)) rfl rfl (by omega) (by omega) c_2
      rw [TC_e (by omega), List.nil_append] at hT
      exact hOut cn xv hT _ _ _ hP hD hS (lv_sub hl [1, 2, 3, 4, 5, 6, 7, 8, 9] rfl)
    · have c_2 := ltz_no (a := yc) (b := -((M : Nat) : Int)) rfl rfl (by omega) (by omega) c_2
      refine lv_iload hx hb dX5_goThrough_51 (lv_at hl 8 rfl) ?_
      refine lv_iload hx hb dX5_goThrough_53 (lv_at hl 8 rfl) ?_
      refine lv_imul hx hb dX5_goThrough_55 ?_
      refine lv_topi (fun z_3 ez_3 => ?_)
      obtain rfl : z_3 = iZ (ya * ya) := ez_3.trans (zmul rfl rfl)
      refine lv_iload hx hb dX5_goThrough_56 (lv_at hl 9 rfl) ?_
      refine lv_iload hx hb dX5_goThrough_58 (lv_at hl 9 rfl) ?_
      refine lv_imul hx hb dX5_goThrough_60 ?_
      refine lv_topi (fun z_4 ez_4 => ?_)
      obtain rfl : z_4 = iZ (yb * yb) := ez_4.trans (zmul rfl rfl)
      refine lv_iadd hx hb dX5_goThrough_61 ?_
      refine lv_topi (fun z_5 ez_5 => ?_)
      obtain rfl : z_5 = iZ ((ya * ya) + (yb * yb)) := ez_5.trans (zadd rfl rfl)
      refine lv_iload hx hb dX5_goThrough_62 (lv_at hl 5 rfl) ?_
      refine lv_icmp_gt (tgt := 285) hx hb dX5_goThrough_64 (by decide) (fun c_6 => ?_) (fun c_6 => ?_)
      · have c_6 := ltz_y (a := N) (b := (ya * ya) + (yb * yb)) rfl rfl (by omega) (by omega) c_6
        rw [TC_neg (by omega), List.nil_append] at hT
        exact hOut cn xv hT _ _ _ hP hD hS (lv_sub hl [1, 2, 3, 4, 5, 6, 7, 8, 9] rfl)
      · have c_6 := ltz_no (a := N) (b := (ya * ya) + (yb * yb)) rfl rfl (by omega) (by omega) c_6
        have hqc := sqz (a := yc) (by omega) (by omega)
        rw [TC_s (by omega), List.append_assoc, cS_app] at hT
        refine lv_iload hx hb dX5_goThrough_67 (lv_at hl 5 rfl) ?_
        refine lv_iload hx hb dX5_goThrough_69 (lv_at hl 8 rfl) ?_
        refine lv_iload hx hb dX5_goThrough_71 (lv_at hl 8 rfl) ?_
        refine lv_imul hx hb dX5_goThrough_73 ?_
        refine lv_topi (fun z_7 ez_7 => ?_)
        obtain rfl : z_7 = iZ (ya * ya) := ez_7.trans (zmul rfl rfl)
        refine lv_isub hx hb dX5_goThrough_74 ?_
        refine lv_topi (fun z_8 ez_8 => ?_)
        obtain rfl : z_8 = iZ (N - (ya * ya)) := ez_8.trans (zsub rfl rfl)
        refine lv_iload hx hb dX5_goThrough_75 (lv_at hl 9 rfl) ?_
        refine lv_iload hx hb dX5_goThrough_77 (lv_at hl 9 rfl) ?_
        refine lv_imul hx hb dX5_goThrough_79 ?_
        refine lv_topi (fun z_9 ez_9 => ?_)
        obtain rfl : z_9 = iZ (yb * yb) := ez_9.trans (zmul rfl rfl)
        refine lv_isub hx hb dX5_goThrough_80 ?_
        refine lv_topi (fun z_10 ez_10 => ?_)
        obtain rfl : z_10 = iZ ((N - (ya * ya)) - (yb * yb)) := ez_10.trans (zsub rfl rfl)
        refine lv_iload hx hb dX5_goThrough_81 (lv_at hl 0 rfl) ?_
        refine lv_iload hx hb dX5_goThrough_83 (lv_at hl 0 rfl) ?_
        refine lv_imul hx hb dX5_goThrough_85 ?_
        refine lv_topi (fun z_11 ez_11 => ?_)
        obtain rfl : z_11 = iZ (yc * yc) := ez_11.trans (zmul rfl rfl)
        refine lv_isub hx hb dX5_goThrough_86 ?_
        refine lv_topi (fun z_12 ez_12 => ?_)
        obtain rfl : z_12 = iZ (((N - (ya * ya)) - (yb * yb)) - (yc * yc)) := ez_12.trans (zsub rfl rfl)
        refine lv_istore (lv' := [(10, .int (iZ (((N - (ya * ya)) - (yb * yb)) - (yc * yc)))), (9, .int (iZ yc)), (0, .ref o), (1, .int (nI n0)), (2, .int (nI 0)), (3, .int (-1)), (4, .int (iZ N)), (5, .int (nI M)), (6, .int (nI cn)), (7, .int (iZ ya)), (8, .int (iZ yb))]) hx hb dX5_goThrough_87 hl (by decide) rfl (fun ls hl => ?_)
        refine lv_iload hx hb dX5_goThrough_89 (lv_at hl 0 rfl) ?_
        refine lv_if_ge (tgt := 98) hx hb dX5_goThrough_91 (by decide) (fun c_13 => ?_) (fun c_13 => ?_)
        · have c_13 := lez_y (a := 0) (b := ((N - (ya * ya)) - (yb * yb)) - (yc * yc)) (by decide) rfl (by omega) (by omega) c_13
          refine lv_iload hx hb dX5_goThrough_98 (lv_at hl 0 rfl) ?_
          refine lv_topi (fun z_14 ez_14 => ?_)
          obtain rfl : z_14 = nI (((N - (ya * ya)) - (yb * yb)) - (yc * yc)).toNat := ez_14.trans (iZ_nn (by omega))
          refine k_calli (wr := [(o, mO ad nf mo), (ad 8, a4 ca xv)]) (va_runS (As := [.int (nI (((N - (ya * ya)) - (yb * yb)) - (yc * yc)).toNat)]) (rest := []) ⟨hx, hb, hml, hown, hts⟩ (ct_X5_rootOf hk l D ca H.size ((((N - (ya * ya)) - (yb * yb)) - (yc * yc)).toNat) (by omega)) (va_cwS 1 hts (lw_S q788 q789 q24 q790) rfl rfl rfl (by decide +kernel) ⟨Nat.le_of_ble_eq_true rfl, Nat.le_of_ble_eq_true rfl⟩) (k_pre hk hK hN hP hD [] (by decide) rfl trivial) rfl rfl hl.1 rfl (lv_room (Nat.le_of_ble_eq_true rfl)) dX5_goThrough_100 ⟨Nat.le_of_ble_eq_true rfl, Nat.le_of_ble_eq_true rfl⟩) hP hD hS hA [] [0, 1] rfl rfl (by decide) (by decide) (fun r_15 u_16 H locs w_17 hP hD hxw_17 hzw_17 hqw_17 hS => ?_)
          obtain ⟨ew_17, hr1w_17, hr2w_17⟩ := w_17
          subst ew_17
          have hrd : u_16 ≤ 28 := root_le (b := 28) hr1w_17 (by omega)
          have hrs := sqz (a := ((u_16 : Nat) : Int)) (by omega) (by omega)
          refine lv_istore (lv' := [(11, .int (nI u_16)), (10, .int (iZ (((N - (ya * ya)) - (yb * yb)) - (yc * yc)))), (9, .int (iZ yc)), (0, .ref o), (1, .int (nI n0)), (2, .int (nI 0)), (3, .int (-1)), (4, .int (iZ N)), (5, .int (nI M)), (6, .int (nI cn)), (7, .int (iZ ya)), (8, .int (iZ yb))]) hx hb dX5_goThrough_103 hl (by decide) rfl (fun ls hl => ?_)
          refine lv_iconst (v := 0) hx hb dX5_goThrough_105 (by decide) ?_
          refine lv_istore (lv' := [(12, .int 0), (11, .int (nI u_16)), (10, .int (iZ (((N - (ya * ya)) - (yb * yb)) - (yc * yc)))), (9, .int (iZ yc)), (0, .ref o), (1, .int (nI n0)), (2, .int (nI 0)), (3, .int (-1)), (4, .int (iZ N)), (5, .int (nI M)), (6, .int (nI cn)), (7, .int (iZ ya)), (8, .int (iZ yb))]) hx hb dX5_goThrough_106 hl (by decide) rfl (fun ls hl => ?_)
          refine lv_iload hx hb dX5_goThrough_108 (lv_at hl 0 rfl) ?_
          refine lv_iconst (v := 2) hx hb dX5_goThrough_110 (by decide) ?_
          refine lv_icmp_ge (tgt := 279) hx hb dX5_goThrough_111 (by decide) (fun c_18 => absurd c_18 (by decide)) (fun c_18 => ?_)
          refine lv_iload hx hb dX5_goThrough_114 (lv_at hl 1 rfl) ?_
          refine lv_if_lt (tgt := 279) hx hb dX5_goThrough_116 (by decide) (fun c_19 => absurd c_19 (fun z => absurd (lt_y (a := u_16) (b := 0) rfl rfl (by omega) (by decide) z) (Nat.not_lt_zero _))) (fun c_19 => ?_)
          refine lv_iload hx hb dX5_goThrough_119 (lv_at hl 1 rfl) ?_
          refine lv_iload hx hb dX5_goThrough_121 (lv_at hl 1 rfl) ?_
          refine lv_imul hx hb dX5_goThrough_123 ?_
          refine lv_topi (fun z_20 ez_20 => ?_)
          obtain rfl : z_20 = iZ (((u_16 : Nat) : Int) * ((u_16 : Nat) : Int)) := ez_20.trans (zmul (iZ_n _) (iZ_n _))
          refine lv_iload hx hb dX5_goThrough_124 (lv_at hl 2 rfl) ?_
          refine lv_icmp_ne (tgt := 279) hx hb dX5_goThrough_126 (by decide) (fun c_21 => ?_) (fun c_21 => ?_)
          · have c_21 := eqz_no (a := ((u_16 : Nat) : Int) * ((u_16 : Nat) : Int)) (b := ((N - (ya * ya)) - (yb * yb)) - (yc * yc)) rfl rfl (by omega) (by omega) c_21
            refine lv_iinc (v := iZ (yc - 1)) (lv' := [(9, .int (iZ (yc - 1))), (12, .int 0), (11, .int (nI u_16)), (10, .int (iZ (((N - (ya * ya)) - (yb * yb)) - (yc * yc)))), (0, .ref o), (1, .int (nI n0)), (2, .int (nI 0)), (3, .int (-1)), (4, .int (iZ N)), (5, .int (nI M)), (6, .int (nI cn)), (7, .int (iZ ya)), (8, .int (iZ yb))]) hx hb dX5_goThrough_279 hl (k := 3) rfl ((zadd rfl (b := -1) (by decide)).trans (by rw [Int.sub_eq_add_neg])) (by decide) rfl (fun ls hl => ?_)
            refine lv_goto (tgt := 43) hx hb dX5_goThrough_282 (by decide) ?_
            have hds : ds N M ya yb yc = [] := ds_root (lf := ((N - (ya * ya)) - (yb * yb)) - (yc * yc)) (by omega) hr1w_17 hr2w_17 (by omega) c_21
            have hcs : cS 0 (S3 N M ya yb yc) = 0 := by rw [S3, hds]; rfl
            exact ih (yc - 1) cn xv (by omega) (by omega) (by omega) (by omega) _ _ _ hP hD hS (lv_sub hl [0, 4, 5, 6, 7, 8, 9, 10, 11, 12] rfl) 
          · have c_21 := eqz_y (a := ((u_16 : Nat) : Int) * ((u_16 : Nat) : Int)) (b := ((N - (ya * ya)) - (yb * yb)) - (yc * yc)) rfl rfl (by omega) (by omega) c_21
            refine lv_aload_n hx hb dX5_goThrough_129 rfl (lv_at hl 4 rfl) ?_
            refine va_get (D := D) (ci := 4) (v := .ref (ad 8)) (C := RX5) (T := TX5) (N := 18) hx hb hts in_X5 hown hK hP 0 rfl rfl 8 (by decide) (hts _ q581) (fun _ h9 => h9) rfl dX5_goThrough_130 ?_
            refine lv_iconst (v := 0) hx hb dX5_goThrough_133 (by decide) ?_
            refine lv_iload hx hb dX5_goThrough_134 (lv_at hl 11 rfl) ?_
            refine lv_i2l (v := (iZ ya).toInt64) hx hb dX5_goThrough_136 rfl ?_
            refine va_last hx hb hK hP hD hS 1 2 rfl rfl (vin (by decide)) dX5_goThrough_137 (fun H locs hP hD hS => ?_)
            rw [L4_s0] at hP hD
            have hP : va_P D vwCl [(o, mO ad nf mo), (ad 8, a4 ca ((iZ ya).toInt64, xv.2.1, xv.2.2.1, xv.2.2.2))] H := hP
            have hD : va_D A [(o, mO ad nf mo), (ad 8, a4 ca ((iZ ya).toInt64, xv.2.1, xv.2.2.1, xv.2.2.2))] := hD
            refine lv_aload_n hx hb dX5_goThrough_138 rfl (lv_at hl 4 rfl) ?_
            refine va_get (D := D) (ci := 4) (v := .ref (ad 8)) (C := RX5) (T := TX5) (N := 18) hx hb hts in_X5 hown hK hP 0 rfl rfl 8 (by decide) (hts _ q581) (fun _ h9 => h9) rfl dX5_goThrough_139 ?_
            refine lv_iconst (v := 1) hx hb dX5_goThrough_142 (by decide) ?_
            refine lv_iload hx hb dX5_goThrough_143 (lv_at hl 12 rfl) ?_
            refine lv_i2l (v := (iZ yb).toInt64) hx hb dX5_goThrough_145 rfl ?_
            refine va_last hx hb hK hP hD hS 1 2 rfl rfl (vin (by decide)) dX5_goThrough_146 (fun H locs hP hD hS => ?_)
            rw [L4_s1] at hP hD
            have hP : va_P D vwCl [(o, mO ad nf mo), (ad 8, a4 ca ((iZ ya).toInt64, (iZ yb).toInt64, xv.2.2.1, xv.2.2.2))] H := hP
            have hD : va_D A [(o, mO ad nf mo), (ad 8, a4 ca ((iZ ya).toInt64, (iZ yb).toInt64, xv.2.2.1, xv.2.2.2))] := hD
            refine lv_aload_n hx hb dX5_goThrough_147 rfl (lv_at hl 4 rfl) ?_
            refine va_get (D := D) (ci := 4) (v := .ref (ad 8)) (C := RX5) (T := TX5) (N := 18) hx hb hts in_X5 hown hK hP 0 rfl rfl 8 (by decide) (hts _ q581) (fun _ h9 => h9) rfl dX5_goThrough_148 ?_
            refine lv_iconst (v := 2) hx hb dX5_goThrough_151 (by decide) ?_
            refine lv_iload hx hb dX5_goThrough_152 (lv_at hl 3 rfl) ?_
            refine lv_i2l (v := (iZ yc).toInt64) hx hb dX5_goThrough_154 rfl ?_
            refine va_last hx hb hK hP hD hS 1 2 rfl rfl (vin (by decide)) dX5_goThrough_155 (fun H locs hP hD hS => ?_)
            rw [L4_s2] at hP hD
            have hP : va_P D vwCl [(o, mO ad nf mo), (ad 8, a4 ca ((iZ ya).toInt64, (iZ yb).toInt64, (iZ yc).toInt64, xv.2.2.2))] H := hP
            have hD : va_D A [(o, mO ad nf mo), (ad 8, a4 ca ((iZ ya).toInt64, (iZ yb).toInt64, (iZ yc).toInt64, xv.2.2.2))] := hD
            refine lv_aload_n hx hb dX5_goThrough_156 rfl (lv_at hl 4 rfl) ?_
            refine va_get (D := D) (ci := 4) (v := .ref (ad 8)) (C := RX5) (T := TX5) (N := 18) hx hb hts in_X5 hown hK hP 0 rfl rfl 8 (by decide) (hts _ q581) (fun _ h9 => h9) rfl dX5_goThrough_157 ?_
            refine lv_iconst (v := 3) hx hb dX5_goThrough_160 (by decide) ?_
            refine lv_iload hx hb dX5_goThrough_161 (lv_at hl 0 rfl) ?_
            refine lv_if_ne (tgt := 172) hx hb dX5_goThrough_163 (by decide) (fun c_22 => absurd (by decide) c_22) (fun c_22 => ?_)
            refine lv_iload hx hb dX5_goThrough_166 (lv_at hl 1 rfl) ?_
            refine lv_topi (fun z_23 ez_23 => ?_)
            obtain rfl : z_23 = iZ ((u_16 : Nat) : Int) := ez_23.trans (iZ_n u_16)
            refine lv_i2l (v := (iZ ((u_16 : Nat) : Int)).toInt64) hx hb dX5_goThrough_168 rfl ?_
            refine lv_goto (tgt := 176) hx hb dX5_goThrough_169 (by decide) ?_
            refine va_last hx hb hK hP hD hS 1 2 rfl rfl (vin (by decide)) dX5_goThrough_176 (fun H locs hP hD hS => ?_)
            rw [L4_s3] at hP hD
            have hP : va_P D vwCl [(o, mO ad nf mo), (ad 8, a4 ca ((iZ ya).toInt64, (iZ yb).toInt64, (iZ yc).toInt64, (iZ ((u_16 : Nat) : Int)).toInt64))] H := hP
            have hD : va_D A [(o, mO ad nf mo), (ad 8, a4 ca ((iZ ya).toInt64, (iZ yb).toInt64, (iZ yc).toInt64, (iZ ((u_16 : Nat) : Int)).toInt64))] := hD
            refine lv_iload hx hb dX5_goThrough_177 (lv_at hl 11 rfl) ?_
            refine lv_i2l (v := (iZ ya).toInt64) hx hb dX5_goThrough_179 rfl ?_
            refine lv_iload hx hb dX5_goThrough_180 (lv_at hl 12 rfl) ?_
            refine lv_i2l (v := (iZ yb).toInt64) hx hb dX5_goThrough_182 rfl ?_
            refine lv_iload hx hb dX5_goThrough_183 (lv_at hl 3 rfl) ?_
            refine lv_i2l (v := (iZ yc).toInt64) hx hb dX5_goThrough_185 rfl ?_
            refine lv_iload hx hb dX5_goThrough_186 (lv_at hl 1 rfl) ?_
            refine lv_topi (fun z_24 ez_24 => ?_)
            obtain rfl : z_24 = iZ ((u_16 : Nat) : Int) := ez_24.trans (iZ_n u_16)
            refine lv_i2l (v := (iZ ((u_16 : Nat) : Int)).toInt64) hx hb dX5_goThrough_188 rfl ?_
            refine k_calli (wr := [(o, mO ad nf mo), (ad 8, a4 ca ((iZ ya).toInt64, (iZ yb).toInt64, (iZ yc).toInt64, (iZ ((u_16 : Nat) : Int)).toInt64))]) (va_runS (As := [.long ((iZ ya).toInt64), .long ((iZ yb).toInt64), .long ((iZ yc).toInt64), .long ((iZ ((u_16 : Nat) : Int)).toInt64)]) (rest := []) ⟨hx, hb, hml, hown, hts⟩ (ct_X5_isOne hk l D ca H.size ((iZ ya).toInt64) ((iZ yb).toInt64) ((iZ yc).toInt64) ((iZ ((u_16 : Nat) : Int)).toInt64)) (va_cwS 4 hts (lw_S q570 q571 q24 q572) rfl rfl rfl (by decide +kernel) ⟨Nat.le_of_ble_eq_true rfl, Nat.le_of_ble_eq_true rfl⟩) (k_pre hk hK hN hP hD [] (by decide) rfl trivial) rfl rfl hl.1 rfl (lv_room (Nat.le_of_ble_eq_true rfl)) dX5_goThrough_189 ⟨Nat.le_of_ble_eq_true rfl, Nat.le_of_ble_eq_true rfl⟩) hP hD hS hA [] [0, 1] rfl rfl (by decide) (by decide) (fun r_25 u_26 H locs w_27 hP hD hxw_27 hzw_27 hqw_27 hS => ?_)
            obtain rfl : r_25 = bI (p_one ((iZ ya).toInt64) ((iZ yb).toInt64) ((iZ yc).toInt64) ((iZ ((u_16 : Nat) : Int)).toInt64)) := w_27
            refine lv_if_eq (tgt := 241) hx hb dX5_goThrough_192 (by decide) (fun c_28 => ?_) (fun c_28 => ?_)
            · have c_28 := bI_z0 c_28
              refine lv_iconst (v := 0) hx hb dX5_goThrough_241 (by decide) ?_
              refine lv_istore (lv' := [(13, .int 0), (12, .int 0), (11, .int (nI u_16)), (10, .int (iZ (((N - (ya * ya)) - (yb * yb)) - (yc * yc)))), (9, .int (iZ yc)), (0, .ref o), (1, .int (nI n0)), (2, .int (nI 0)), (3, .int (-1)), (4, .int (iZ N)), (5, .int (nI M)), (6, .int (nI cn)), (7, .int (iZ ya)), (8, .int (iZ yb))]) hx hb dX5_goThrough_242 hl (by decide) rfl (fun ls hl => ?_)
              refine lv_iload hx hb dX5_goThrough_244 (lv_at hl 0 rfl) ?_
              refine lv_if_eq (tgt := 258) hx hb dX5_goThrough_246 (by decide) (fun c_29 => ?_) (fun c_29 => absurd (by decide) c_29)
              refine lv_iload hx hb dX5_goThrough_258 (lv_at hl 11 rfl) ?_
              refine lv_iload hx hb dX5_goThrough_260 (lv_at hl 0 rfl) ?_
              refine lv_if_eq (tgt := 269) hx hb dX5_goThrough_262 (by decide) (fun c_30 => ?_) (fun c_30 => absurd (by decide) c_30)
              refine lv_iconst (v := 0) hx hb dX5_goThrough_269 (by decide) ?_
              refine lv_iadd hx hb dX5_goThrough_270 ?_
              refine lv_topi (fun z_31 ez_31 => ?_)
              obtain rfl : z_31 = nI cn := ez_31.trans (eq_add0 rfl)
              refine lv_istore (lv' := [(6, .int (nI cn)), (13, .int 0), (12, .int 0), (11, .int (nI u_16)), (10, .int (iZ (((N - (ya * ya)) - (yb * yb)) - (yc * yc)))), (9, .int (iZ yc)), (0, .ref o), (1, .int (nI n0)), (2, .int (nI 0)), (3, .int (-1)), (4, .int (iZ N)), (5, .int (nI M)), (7, .int (iZ ya)), (8, .int (iZ yb))]) hx hb dX5_goThrough_271 hl (by decide) rfl (fun ls hl => ?_)
              refine lv_iinc (v := 1) (lv' := [(12, .int 1), (6, .int (nI cn)), (13, .int 0), (11, .int (nI u_16)), (10, .int (iZ (((N - (ya * ya)) - (yb * yb)) - (yc * yc)))), (9, .int (iZ yc)), (0, .ref o), (1, .int (nI n0)), (2, .int (nI 0)), (3, .int (-1)), (4, .int (iZ N)), (5, .int (nI M)), (7, .int (iZ ya)), (8, .int (iZ yb))]) hx hb dX5_goThrough_273 hl (k := 2) rfl (by decide) (by decide) rfl (fun ls hl => ?_)
              refine lv_goto (tgt := 108) hx hb dX5_goThrough_276 (by decide) ?_
              refine lv_iload hx hb dX5_goThrough_108 (lv_at hl 0 rfl) ?_
              refine lv_iconst (v := 2) hx hb dX5_goThrough_110 (by decide) ?_
              refine lv_icmp_ge (tgt := 279) hx hb dX5_goThrough_111 (by decide) (fun c_32 => absurd c_32 (by decide)) (fun c_32 => ?_)
              refine lv_iload hx hb dX5_goThrough_114 (lv_at hl 3 rfl) ?_
              refine lv_if_lt (tgt := 279) hx hb dX5_goThrough_116 (by decide) (fun c_33 => absurd c_33 (fun z => absurd (lt_y (a := u_16) (b := 0) rfl rfl (by omega) (by decide) z) (Nat.not_lt_zero _))) (fun c_33 => ?_)
              refine lv_iload hx hb dX5_goThrough_119 (lv_at hl 3 rfl) ?_
              refine lv_iload hx hb dX5_goThrough_121 (lv_at hl 3 rfl) ?_
              refine lv_imul hx hb dX5_goThrough_123 ?_
              refine lv_topi (fun z_34 ez_34 => ?_)
              obtain rfl : z_34 = iZ (((u_16 : Nat) : Int) * ((u_16 : Nat) : Int)) := ez_34.trans (zmul (iZ_n _) (iZ_n _))
              refine lv_iload hx hb dX5_goThrough_124 (lv_at hl 4 rfl) ?_
              refine lv_icmp_ne (tgt := 279) hx hb dX5_goThrough_126 (by decide) (fun c_35 => absurd (show iZ (((u_16 : Nat) : Int) * ((u_16 : Nat) : Int)) = iZ (((N - (ya * ya)) - (yb * yb)) - (yc * yc)) from congrArg iZ c_21) c_35) (fun c_35 => ?_)
              refine lv_aload_n hx hb dX5_goThrough_129 rfl (lv_at hl 6 rfl) ?_
              refine va_get (D := D) (ci := 4) (v := .ref (ad 8)) (C := RX5) (T := TX5) (N := 18) hx hb hts in_X5 hown hK hP 0 rfl rfl 8 (by decide) (hts _ q581) (fun _ h9 => h9) rfl dX5_goThrough_130 ?_
              refine lv_iconst (v := 0) hx hb dX5_goThrough_133 (by decide) ?_
              refine lv_iload hx hb dX5_goThrough_134 (lv_at hl 12 rfl) ?_
              refine lv_i2l (v := (iZ ya).toInt64) hx hb dX5_goThrough_136 rfl ?_
              refine va_last hx hb hK hP hD hS 1 2 rfl rfl (vin (by decide)) dX5_goThrough_137 (fun H locs hP hD hS => ?_)
              rw [L4_s0] at hP hD
              have hP : va_P D vwCl [(o, mO ad nf mo), (ad 8, a4 ca ((iZ ya).toInt64, (iZ yb).toInt64, (iZ yc).toInt64, (iZ ((u_16 : Nat) : Int)).toInt64))] H := hP
              have hD : va_D A [(o, mO ad nf mo), (ad 8, a4 ca ((iZ ya).toInt64, (iZ yb).toInt64, (iZ yc).toInt64, (iZ ((u_16 : Nat) : Int)).toInt64))] := hD
              refine lv_aload_n hx hb dX5_goThrough_138 rfl (lv_at hl 6 rfl) ?_
              refine va_get (D := D) (ci := 4) (v := .ref (ad 8)) (C := RX5) (T := TX5) (N := 18) hx hb hts in_X5 hown hK hP 0 rfl rfl 8 (by decide) (hts _ q581) (fun _ h9 => h9) rfl dX5_goThrough_139 ?_
              refine lv_iconst (v := 1) hx hb dX5_goThrough_142 (by decide) ?_
              refine lv_iload hx hb dX5_goThrough_143 (lv_at hl 13 rfl) ?_
              refine lv_i2l (v := (iZ yb).toInt64) hx hb dX5_goThrough_145 rfl ?_
              refine va_last hx hb hK hP hD hS 1 2 rfl rfl (vin (by decide)) dX5_goThrough_146 (fun H locs hP hD hS => ?_)
              rw [L4_s1] at hP hD
              have hP : va_P D vwCl [(o, mO ad nf mo), (ad 8, a4 ca ((iZ ya).toInt64, (iZ yb).toInt64, (iZ yc).toInt64, (iZ ((u_16 : Nat) : Int)).toInt64))] H := hP
              have hD : va_D A [(o, mO ad nf mo), (ad 8, a4 ca ((iZ ya).toInt64, (iZ yb).toInt64, (iZ yc).toInt64, (iZ ((u_16 : Nat) : Int)).toInt64))] := hD
              refine lv_aload_n hx hb dX5_goThrough_147 rfl (lv_at hl 6 rfl) ?_
              refine va_get (D := D) (ci := 4) (v := .ref (ad 8)) (C := RX5) (T := TX5) (N := 18) hx hb hts in_X5 hown hK hP 0 rfl rfl 8 (by decide) (hts _ q581) (fun _ h9 => h9) rfl dX5_goThrough_148 ?_
              refine lv_iconst (v := 2) hx hb dX5_goThrough_151 (by decide) ?_
              refine lv_iload hx hb dX5_goThrough_152 (lv_at hl 5 rfl) ?_
              refine lv_i2l (v := (iZ yc).toInt64) hx hb dX5_goThrough_154 rfl ?_
              refine va_last hx hb hK hP hD hS 1 2 rfl rfl (vin (by decide)) dX5_goThrough_155 (fun H locs hP hD hS => ?_)
              rw [L4_s2] at hP hD
              have hP : va_P D vwCl [(o, mO ad nf mo), (ad 8, a4 ca ((iZ ya).toInt64, (iZ yb).toInt64, (iZ yc).toInt64, (iZ ((u_16 : Nat) : Int)).toInt64))] H := hP
              have hD : va_D A [(o, mO ad nf mo), (ad 8, a4 ca ((iZ ya).toInt64, (iZ yb).toInt64, (iZ yc).toInt64, (iZ ((u_16 : Nat) : Int)).toInt64))] := hD
              refine lv_aload_n hx hb dX5_goThrough_156 rfl (lv_at hl 6 rfl) ?_
              refine va_get (D := D) (ci := 4) (v := .ref (ad 8)) (C := RX5) (T := TX5) (N := 18) hx hb hts in_X5 hown hK hP 0 rfl rfl 8 (by decide) (hts _ q581) (fun _ h9 => h9) rfl dX5_goThrough_157 ?_
              refine lv_iconst (v := 3) hx hb dX5_goThrough_160 (by decide) ?_
              refine lv_iload hx hb dX5_goThrough_161 (lv_at hl 0 rfl) ?_
              refine lv_if_ne (tgt := 172) hx hb dX5_goThrough_163 (by decide) (fun c_36 => ?_) (fun c_36 => absurd c_36 (by decide))
              refine lv_iload hx hb dX5_goThrough_172 (lv_at hl 3 rfl) ?_
              refine lv_ineg hx hb dX5_goThrough_174 ?_
              refine lv_topi (fun z_37 ez_37 => ?_)
              obtain rfl : z_37 = iZ (-((u_16 : Nat) : Int)) := ez_37.trans (zneg (iZ_n _))
              refine lv_i2l (v := (iZ (-((u_16 : Nat) : Int))).toInt64) hx hb dX5_goThrough_175 rfl ?_
              refine va_last hx hb hK hP hD hS 1 2 rfl rfl (vin (by decide)) dX5_goThrough_176 (fun H locs hP hD hS => ?_)
              rw [L4_s3] at hP hD
              have hP : va_P D vwCl [(o, mO ad nf mo), (ad 8, a4 ca ((iZ ya).toInt64, (iZ yb).toInt64, (iZ yc).toInt64, (iZ (-((u_16 : Nat) : Int))).toInt64))] H := hP
              have hD : va_D A [(o, mO ad nf mo), (ad 8, a4 ca ((iZ ya).toInt64, (iZ yb).toInt64, (iZ yc).toInt64, (iZ (-((u_16 : Nat) : Int))).toInt64))] := hD
              refine lv_iload hx hb dX5_goThrough_177 (lv_at hl 12 rfl) ?_
              refine lv_i2l (v := (iZ ya).toInt64) hx hb dX5_goThrough_179 rfl ?_
              refine lv_iload hx hb dX5_goThrough_180 (lv_at hl 13 rfl) ?_
              refine lv_i2l (v := (iZ yb).toInt64) hx hb dX5_goThrough_182 rfl ?_
              refine lv_iload hx hb dX5_goThrough_183 (lv_at hl 5 rfl) ?_
              refine lv_i2l (v := (iZ yc).toInt64) hx hb dX5_goThrough_185 rfl ?_
              refine lv_iload hx hb dX5_goThrough_186 (lv_at hl 3 rfl) ?_
              refine lv_topi (fun z_38 ez_38 => ?_)
              obtain rfl : z_38 = iZ ((u_16 : Nat) : Int) := ez_38.trans (iZ_n u_16)
              refine lv_i2l (v := (iZ ((u_16 : Nat) : Int)).toInt64) hx hb dX5_goThrough_188 rfl ?_
              refine k_calli (wr := [(o, mO ad nf mo), (ad 8, a4 ca ((iZ ya).toInt64, (iZ yb).toInt64, (iZ yc).toInt64, (iZ (-((u_16 : Nat) : Int))).toInt64))]) (va_runS (As := [.long ((iZ ya).toInt64), .long ((iZ yb).toInt64), .long ((iZ yc).toInt64), .long ((iZ ((u_16 : Nat) : Int)).toInt64)]) (rest := []) ⟨hx, hb, hml, hown, hts⟩ (ct_X5_isOne hk l D ca H.size ((iZ ya).toInt64) ((iZ yb).toInt64) ((iZ yc).toInt64) ((iZ ((u_16 : Nat) : Int)).toInt64)) (va_cwS 4 hts (lw_S q570 q571 q24 q572) rfl rfl rfl (by decide +kernel) ⟨Nat.le_of_ble_eq_true rfl, Nat.le_of_ble_eq_true rfl⟩) (k_pre hk hK hN hP hD [] (by decide) rfl trivial) rfl rfl hl.1 rfl (lv_room (Nat.le_of_ble_eq_true rfl)) dX5_goThrough_189 ⟨Nat.le_of_ble_eq_true rfl, Nat.le_of_ble_eq_true rfl⟩) hP hD hS hA [] [0, 1] rfl rfl (by decide) (by decide) (fun r_39 u_40 H locs w_41 hP hD hxw_41 hzw_41 hqw_41 hS => ?_)
              obtain rfl : r_39 = bI (p_one ((iZ ya).toInt64) ((iZ yb).toInt64) ((iZ yc).toInt64) ((iZ ((u_16 : Nat) : Int)).toInt64)) := w_41
              refine lv_if_eq (tgt := 241) hx hb dX5_goThrough_192 (by decide) (fun c_42 => ?_) (fun c_42 => absurd (by rw [c_28]; rfl) c_42)
              refine lv_iconst (v := 0) hx hb dX5_goThrough_241 (by decide) ?_
              refine lv_istore (lv' := [(13, .int 0), (12, .int 1), (6, .int (nI cn)), (11, .int (nI u_16)), (10, .int (iZ (((N - (ya * ya)) - (yb * yb)) - (yc * yc)))), (9, .int (iZ yc)), (0, .ref o), (1, .int (nI n0)), (2, .int (nI 0)), (3, .int (-1)), (4, .int (iZ N)), (5, .int (nI M)), (7, .int (iZ ya)), (8, .int (iZ yb))]) hx hb dX5_goThrough_242 hl (by decide) rfl (fun ls hl => ?_)
              refine lv_iload hx hb dX5_goThrough_244 (lv_at hl 0 rfl) ?_
              refine lv_if_eq (tgt := 258) hx hb dX5_goThrough_246 (by decide) (fun c_43 => ?_) (fun c_43 => absurd (by decide) c_43)
              refine lv_iload hx hb dX5_goThrough_258 (lv_at hl 2 rfl) ?_
              refine lv_iload hx hb dX5_goThrough_260 (lv_at hl 0 rfl) ?_
              refine lv_if_eq (tgt := 269) hx hb dX5_goThrough_262 (by decide) (fun c_44 => ?_) (fun c_44 => absurd (by decide) c_44)
              refine lv_iconst (v := 0) hx hb dX5_goThrough_269 (by decide) ?_
              refine lv_iadd hx hb dX5_goThrough_270 ?_
              refine lv_topi (fun z_45 ez_45 => ?_)
              obtain rfl : z_45 = nI cn := ez_45.trans (eq_add0 rfl)
              refine lv_istore (lv' := [(6, .int (nI cn)), (13, .int 0), (12, .int 1), (11, .int (nI u_16)), (10, .int (iZ (((N - (ya * ya)) - (yb * yb)) - (yc * yc)))), (9, .int (iZ yc)), (0, .ref o), (1, .int (nI n0)), (2, .int (nI 0)), (3, .int (-1)), (4, .int (iZ N)), (5, .int (nI M)), (7, .int (iZ ya)), (8, .int (iZ yb))]) hx hb dX5_goThrough_271 hl (by decide) rfl (fun ls hl => ?_)
              refine lv_iinc (v := 2) (lv' := [(12, .int 2), (6, .int (nI cn)), (13, .int 0), (11, .int (nI u_16)), (10, .int (iZ (((N - (ya * ya)) - (yb * yb)) - (yc * yc)))), (9, .int (iZ yc)), (0, .ref o), (1, .int (nI n0)), (2, .int (nI 0)), (3, .int (-1)), (4, .int (iZ N)), (5, .int (nI M)), (7, .int (iZ ya)), (8, .int (iZ yb))]) hx hb dX5_goThrough_273 hl (k := 2) rfl (by decide) (by decide) rfl (fun ls hl => ?_)
              refine lv_goto (tgt := 108) hx hb dX5_goThrough_276 (by decide) ?_
              refine lv_iload hx hb dX5_goThrough_108 (lv_at hl 0 rfl) ?_
              refine lv_iconst (v := 2) hx hb dX5_goThrough_110 (by decide) ?_
              refine lv_icmp_ge (tgt := 279) hx hb dX5_goThrough_111 (by decide) (fun c_46 => ?_) (fun c_46 => absurd (by decide) c_46)
              refine lv_iinc (v := iZ (yc - 1)) (lv' := [(9, .int (iZ (yc - 1))), (12, .int 2), (6, .int (nI cn)), (13, .int 0), (11, .int (nI u_16)), (10, .int (iZ (((N - (ya * ya)) - (yb * yb)) - (yc * yc)))), (0, .ref o), (1, .int (nI n0)), (2, .int (nI 0)), (3, .int (-1)), (4, .int (iZ N)), (5, .int (nI M)), (7, .int (iZ ya)), (8, .int (iZ yb))]) hx hb dX5_goThrough_279 hl (k := 5) rfl ((zadd rfl (b := -1) (by decide)).trans (by rw [Int.sub_eq_add_neg])) (by decide) rfl (fun ls hl => ?_)
              refine lv_goto (tgt := 43) hx hb dX5_goThrough_282 (by decide) ?_
              have hpp := one_par (a := ya) (b := yb) (c := yc) (d := ((u_16 : Nat) : Int)) (by omega) (by omega) (by omega) (by omega)
              have hds : ds N M ya yb yc = [] := ds_none (fun d9 => okQ_f (fun z9 => by have hz9 := sq_inj (x := d9) (d := ((u_16 : Nat) : Int)) (by omega) (by omega); rw [c_28] at hpp; have hn9 : ¬ ((ya - yb) % 2 = 0 ∧ (ya - yc) % 2 = 0 ∧ (ya - ((u_16 : Nat) : Int)) % 2 = 0) := (fun q9 => absurd (hpp.mpr q9) (by decide)); exact hn9 ⟨z9.2.1, z9.2.2.1, by rcases hz9 with e9 | e9 <;> (rw [e9] at z9; omega)⟩))
              have hcs : cS 0 (S3 N M ya yb yc) = 0 := by rw [S3, hds]; rfl
              exact ih (yc - 1) cn ((iZ ya).toInt64, (iZ yb).toInt64, (iZ yc).toInt64, (iZ (-((u_16 : Nat) : Int))).toInt64) (by omega) (by omega) (by omega) (by omega) _ _ _ hP hD hS (lv_sub hl [0, 6, 7, 8, 9, 10, 11, 2, 12, 13] rfl) 
            · have c_28 := bI_z1 c_28
              refine lv_iload hx hb dX5_goThrough_195 (lv_at hl 0 rfl) ?_
              refine lv_if_eq (tgt := 205) hx hb dX5_goThrough_197 (by decide) (fun c_47 => ?_) (fun c_47 => absurd (by decide) c_47)
              refine lv_iload_n hx hb dX5_goThrough_205 rfl (lv_at hl 6 rfl) ?_
              refine lv_if_eq (tgt := 237) hx hb dX5_goThrough_206 (by decide) (fun c_48 => ?_) (fun c_48 => absurd rfl c_48)
              refine lv_iconst (v := 1) hx hb dX5_goThrough_237 (by decide) ?_
              refine lv_goto (tgt := 242) hx hb dX5_goThrough_238 (by decide) ?_
              refine lv_istore (lv' := [(13, .int 1), (12, .int 0), (11, .int (nI u_16)), (10, .int (iZ (((N - (ya * ya)) - (yb * yb)) - (yc * yc)))), (9, .int (iZ yc)), (0, .ref o), (1, .int (nI n0)), (2, .int (nI 0)), (3, .int (-1)), (4, .int (iZ N)), (5, .int (nI M)), (6, .int (nI cn)), (7, .int (iZ ya)), (8, .int (iZ yb))]) hx hb dX5_goThrough_242 hl (by decide) rfl (fun ls hl => ?_)
              refine lv_iload hx hb dX5_goThrough_244 (lv_at hl 0 rfl) ?_
              refine lv_if_eq (tgt := 258) hx hb dX5_goThrough_246 (by decide) (fun c_49 => absurd c_49 (by decide)) (fun c_49 => ?_)
              refine lv_iload hx hb dX5_goThrough_249 (lv_at hl 11 rfl) ?_
              refine lv_iload_n hx hb dX5_goThrough_251 rfl (lv_at hl 8 rfl) ?_
              refine lv_icmp_ne (tgt := 258) hx hb dX5_goThrough_252 (by decide) (fun c_50 => ?_) (fun c_50 => absurd c_50 (nI_m1 (by omega)))
              refine lv_iload hx hb dX5_goThrough_258 (lv_at hl 11 rfl) ?_
              refine lv_iload hx hb dX5_goThrough_260 (lv_at hl 0 rfl) ?_
              refine lv_if_eq (tgt := 269) hx hb dX5_goThrough_262 (by decide) (fun c_51 => absurd c_51 (by decide)) (fun c_51 => ?_)
              refine lv_iconst (v := 1) hx hb dX5_goThrough_265 (by decide) ?_
              refine lv_goto (tgt := 270) hx hb dX5_goThrough_266 (by decide) ?_
              refine lv_iadd hx hb dX5_goThrough_270 ?_
              refine lv_topi (fun z_52 ez_52 => ?_)
              obtain rfl : z_52 = nI (cn + 1) := ez_52.trans (eq_add rfl rfl)
              refine lv_istore (lv' := [(6, .int (nI (cn + 1))), (13, .int 1), (12, .int 0), (11, .int (nI u_16)), (10, .int (iZ (((N - (ya * ya)) - (yb * yb)) - (yc * yc)))), (9, .int (iZ yc)), (0, .ref o), (1, .int (nI n0)), (2, .int (nI 0)), (3, .int (-1)), (4, .int (iZ N)), (5, .int (nI M)), (7, .int (iZ ya)), (8, .int (iZ yb))]) hx hb dX5_goThrough_271 hl (by decide) rfl (fun ls hl => ?_)
              refine lv_iinc (v := 1) (lv' := [(12, .int 1), (6, .int (nI (cn + 1))), (13, .int 1), (11, .int (nI u_16)), (10, .int (iZ (((N - (ya * ya)) - (yb * yb)) - (yc * yc)))), (9, .int (iZ yc)), (0, .ref o), (1, .int (nI n0)), (2, .int (nI 0)), (3, .int (-1)), (4, .int (iZ N)), (5, .int (nI M)), (7, .int (iZ ya)), (8, .int (iZ yb))]) hx hb dX5_goThrough_273 hl (k := 2) rfl (by decide) (by decide) rfl (fun ls hl => ?_)
              refine lv_goto (tgt := 108) hx hb dX5_goThrough_276 (by decide) ?_
              refine lv_iload hx hb dX5_goThrough_108 (lv_at hl 0 rfl) ?_
              refine lv_iconst (v := 2) hx hb dX5_goThrough_110 (by decide) ?_
              refine lv_icmp_ge (tgt := 279) hx hb dX5_goThrough_111 (by decide) (fun c_53 => absurd c_53 (by decide)) (fun c_53 => ?_)
              refine lv_iload hx hb dX5_goThrough_114 (lv_at hl 3 rfl) ?_
              refine lv_if_lt (tgt := 279) hx hb dX5_goThrough_116 (by decide) (fun c_54 => absurd c_54 (fun z => absurd (lt_y (a := u_16) (b := 0) rfl rfl (by omega) (by decide) z) (Nat.not_lt_zero _))) (fun c_54 => ?_)
              refine lv_iload hx hb dX5_goThrough_119 (lv_at hl 3 rfl) ?_
              refine lv_iload hx hb dX5_goThrough_121 (lv_at hl 3 rfl) ?_
              refine lv_imul hx hb dX5_goThrough_123 ?_
              refine lv_topi (fun z_55 ez_55 => ?_)
              obtain rfl : z_55 = iZ (((u_16 : Nat) : Int) * ((u_16 : Nat) : Int)) := ez_55.trans (zmul (iZ_n _) (iZ_n _))
              refine lv_iload hx hb dX5_goThrough_124 (lv_at hl 4 rfl) ?_
              refine lv_icmp_ne (tgt := 279) hx hb dX5_goThrough_126 (by decide) (fun c_56 => absurd (show iZ (((u_16 : Nat) : Int) * ((u_16 : Nat) : Int)) = iZ (((N - (ya * ya)) - (yb * yb)) - (yc * yc)) from congrArg iZ c_21) c_56) (fun c_56 => ?_)
              refine lv_aload_n hx hb dX5_goThrough_129 rfl (lv_at hl 6 rfl) ?_
              refine va_get (D := D) (ci := 4) (v := .ref (ad 8)) (C := RX5) (T := TX5) (N := 18) hx hb hts in_X5 hown hK hP 0 rfl rfl 8 (by decide) (hts _ q581) (fun _ h9 => h9) rfl dX5_goThrough_130 ?_
              refine lv_iconst (v := 0) hx hb dX5_goThrough_133 (by decide) ?_
              refine lv_iload hx hb dX5_goThrough_134 (lv_at hl 12 rfl) ?_
              refine lv_i2l (v := (iZ ya).toInt64) hx hb dX5_goThrough_136 rfl ?_
              refine va_last hx hb hK hP hD hS 1 2 rfl rfl (vin (by decide)) dX5_goThrough_137 (fun H locs hP hD hS => ?_)
              rw [L4_s0] at hP hD
              have hP : va_P D vwCl [(o, mO ad nf mo), (ad 8, a4 ca ((iZ ya).toInt64, (iZ yb).toInt64, (iZ yc).toInt64, (iZ ((u_16 : Nat) : Int)).toInt64))] H := hP
              have hD : va_D A [(o, mO ad nf mo), (ad 8, a4 ca ((iZ ya).toInt64, (iZ yb).toInt64, (iZ yc).toInt64, (iZ ((u_16 : Nat) : Int)).toInt64))] := hD
              refine lv_aload_n hx hb dX5_goThrough_138 rfl (lv_at hl 6 rfl) ?_
              refine va_get (D := D) (ci := 4) (v := .ref (ad 8)) (C := RX5) (T := TX5) (N := 18) hx hb hts in_X5 hown hK hP 0 rfl rfl 8 (by decide) (hts _ q581) (fun _ h9 => h9) rfl dX5_goThrough_139 ?_
              refine lv_iconst (v := 1) hx hb dX5_goThrough_142 (by decide) ?_
              refine lv_iload hx hb dX5_goThrough_143 (lv_at hl 13 rfl) ?_
              refine lv_i2l (v := (iZ yb).toInt64) hx hb dX5_goThrough_145 rfl ?_
              refine va_last hx hb hK hP hD hS 1 2 rfl rfl (vin (by decide)) dX5_goThrough_146 (fun H locs hP hD hS => ?_)
              rw [L4_s1] at hP hD
              have hP : va_P D vwCl [(o, mO ad nf mo), (ad 8, a4 ca ((iZ ya).toInt64, (iZ yb).toInt64, (iZ yc).toInt64, (iZ ((u_16 : Nat) : Int)).toInt64))] H := hP
              have hD : va_D A [(o, mO ad nf mo), (ad 8, a4 ca ((iZ ya).toInt64, (iZ yb).toInt64, (iZ yc).toInt64, (iZ ((u_16 : Nat) : Int)).toInt64))] := hD
              refine lv_aload_n hx hb dX5_goThrough_147 rfl (lv_at hl 6 rfl) ?_
              refine va_get (D := D) (ci := 4) (v := .ref (ad 8)) (C := RX5) (T := TX5) (N := 18) hx hb hts in_X5 hown hK hP 0 rfl rfl 8 (by decide) (hts _ q581) (fun _ h9 => h9) rfl dX5_goThrough_148 ?_
              refine lv_iconst (v := 2) hx hb dX5_goThrough_151 (by decide) ?_
              refine lv_iload hx hb dX5_goThrough_152 (lv_at hl 5 rfl) ?_
              refine lv_i2l (v := (iZ yc).toInt64) hx hb dX5_goThrough_154 rfl ?_
              refine va_last hx hb hK hP hD hS 1 2 rfl rfl (vin (by decide)) dX5_goThrough_155 (fun H locs hP hD hS => ?_)
              rw [L4_s2] at hP hD
              have hP : va_P D vwCl [(o, mO ad nf mo), (ad 8, a4 ca ((iZ ya).toInt64, (iZ yb).toInt64, (iZ yc).toInt64, (iZ ((u_16 : Nat) : Int)).toInt64))] H := hP
              have hD : va_D A [(o, mO ad nf mo), (ad 8, a4 ca ((iZ ya).toInt64, (iZ yb).toInt64, (iZ yc).toInt64, (iZ ((u_16 : Nat) : Int)).toInt64))] := hD
              refine lv_aload_n hx hb dX5_goThrough_156 rfl (lv_at hl 6 rfl) ?_
              refine va_get (D := D) (ci := 4) (v := .ref (ad 8)) (C := RX5) (T := TX5) (N := 18) hx hb hts in_X5 hown hK hP 0 rfl rfl 8 (by decide) (hts _ q581) (fun _ h9 => h9) rfl dX5_goThrough_157 ?_
              refine lv_iconst (v := 3) hx hb dX5_goThrough_160 (by decide) ?_
              refine lv_iload hx hb dX5_goThrough_161 (lv_at hl 0 rfl) ?_
              refine lv_if_ne (tgt := 172) hx hb dX5_goThrough_163 (by decide) (fun c_57 => ?_) (fun c_57 => absurd c_57 (by decide))
              refine lv_iload hx hb dX5_goThrough_172 (lv_at hl 3 rfl) ?_
              refine lv_ineg hx hb dX5_goThrough_174 ?_
              refine lv_topi (fun z_58 ez_58 => ?_)
              obtain rfl : z_58 = iZ (-((u_16 : Nat) : Int)) := ez_58.trans (zneg (iZ_n _))
              refine lv_i2l (v := (iZ (-((u_16 : Nat) : Int))).toInt64) hx hb dX5_goThrough_175 rfl ?_
              refine va_last hx hb hK hP hD hS 1 2 rfl rfl (vin (by decide)) dX5_goThrough_176 (fun H locs hP hD hS => ?_)
              rw [L4_s3] at hP hD
              have hP : va_P D vwCl [(o, mO ad nf mo), (ad 8, a4 ca ((iZ ya).toInt64, (iZ yb).toInt64, (iZ yc).toInt64, (iZ (-((u_16 : Nat) : Int))).toInt64))] H := hP
              have hD : va_D A [(o, mO ad nf mo), (ad 8, a4 ca ((iZ ya).toInt64, (iZ yb).toInt64, (iZ yc).toInt64, (iZ (-((u_16 : Nat) : Int))).toInt64))] := hD
              refine lv_iload hx hb dX5_goThrough_177 (lv_at hl 12 rfl) ?_
              refine lv_i2l (v := (iZ ya).toInt64) hx hb dX5_goThrough_179 rfl ?_
              refine lv_iload hx hb dX5_goThrough_180 (lv_at hl 13 rfl) ?_
              refine lv_i2l (v := (iZ yb).toInt64) hx hb dX5_goThrough_182 rfl ?_
              refine lv_iload hx hb dX5_goThrough_183 (lv_at hl 5 rfl) ?_
              refine lv_i2l (v := (iZ yc).toInt64) hx hb dX5_goThrough_185 rfl ?_
              refine lv_iload hx hb dX5_goThrough_186 (lv_at hl 3 rfl) ?_
              refine lv_topi (fun z_59 ez_59 => ?_)
              obtain rfl : z_59 = iZ ((u_16 : Nat) : Int) := ez_59.trans (iZ_n u_16)
              refine lv_i2l (v := (iZ ((u_16 : Nat) : Int)).toInt64) hx hb dX5_goThrough_188 rfl ?_
              refine k_calli (wr := [(o, mO ad nf mo), (ad 8, a4 ca ((iZ ya).toInt64, (iZ yb).toInt64, (iZ yc).toInt64, (iZ (-((u_16 : Nat) : Int))).toInt64))]) (va_runS (As := [.long ((iZ ya).toInt64), .long ((iZ yb).toInt64), .long ((iZ yc).toInt64), .long ((iZ ((u_16 : Nat) : Int)).toInt64)]) (rest := []) ⟨hx, hb, hml, hown, hts⟩ (ct_X5_isOne hk l D ca H.size ((iZ ya).toInt64) ((iZ yb).toInt64) ((iZ yc).toInt64) ((iZ ((u_16 : Nat) : Int)).toInt64)) (va_cwS 4 hts (lw_S q570 q571 q24 q572) rfl rfl rfl (by decide +kernel) ⟨Nat.le_of_ble_eq_true rfl, Nat.le_of_ble_eq_true rfl⟩) (k_pre hk hK hN hP hD [] (by decide) rfl trivial) rfl rfl hl.1 rfl (lv_room (Nat.le_of_ble_eq_true rfl)) dX5_goThrough_189 ⟨Nat.le_of_ble_eq_true rfl, Nat.le_of_ble_eq_true rfl⟩) hP hD hS hA [] [0, 1] rfl rfl (by decide) (by decide) (fun r_60 u_61 H locs w_62 hP hD hxw_62 hzw_62 hqw_62 hS => ?_)
              obtain rfl : r_60 = bI (p_one ((iZ ya).toInt64) ((iZ yb).toInt64) ((iZ yc).toInt64) ((iZ ((u_16 : Nat) : Int)).toInt64)) := w_62
              refine lv_if_eq (tgt := 241) hx hb dX5_goThrough_192 (by decide) (fun c_63 => absurd c_63 (by rw [c_28]; decide)) (fun c_63 => ?_)
              refine lv_iload hx hb dX5_goThrough_195 (lv_at hl 0 rfl) ?_
              refine lv_if_eq (tgt := 205) hx hb dX5_goThrough_197 (by decide) (fun c_64 => absurd c_64 (by decide)) (fun c_64 => ?_)
              refine lv_iload hx hb dX5_goThrough_200 (lv_at hl 3 rfl) ?_
              refine lv_if_le (tgt := 241) hx hb dX5_goThrough_202 (by decide) (fun c_65 => ?_) (fun c_65 => ?_)
              · have c_65 := le_y (a := u_16) (b := 0) rfl rfl (by omega) (by omega) c_65
                refine lv_iconst (v := 0) hx hb dX5_goThrough_241 (by decide) ?_
                refine lv_istore (lv' := [(13, .int 0), (12, .int 1), (6, .int (nI (cn + 1))), (11, .int (nI u_16)), (10, .int (iZ (((N - (ya * ya)) - (yb * yb)) - (yc * yc)))), (9, .int (iZ yc)), (0, .ref o), (1, .int (nI n0)), (2, .int (nI 0)), (3, .int (-1)), (4, .int (iZ N)), (5, .int (nI M)), (7, .int (iZ ya)), (8, .int (iZ yb))]) hx hb dX5_goThrough_242 hl (by decide) rfl (fun ls hl => ?_)
                refine lv_iload hx hb dX5_goThrough_244 (lv_at hl 0 rfl) ?_
                refine lv_if_eq (tgt := 258) hx hb dX5_goThrough_246 (by decide) (fun c_66 => ?_) (fun c_66 => absurd (by decide) c_66)
                refine lv_iload hx hb dX5_goThrough_258 (lv_at hl 2 rfl) ?_
                refine lv_iload hx hb dX5_goThrough_260 (lv_at hl 0 rfl) ?_
                refine lv_if_eq (tgt := 269) hx hb dX5_goThrough_262 (by decide) (fun c_67 => ?_) (fun c_67 => absurd (by decide) c_67)
                refine lv_iconst (v := 0) hx hb dX5_goThrough_269 (by decide) ?_
                refine lv_iadd hx hb dX5_goThrough_270 ?_
                refine lv_topi (fun z_68 ez_68 => ?_)
                obtain rfl : z_68 = nI (cn + 1) := ez_68.trans (eq_add0 rfl)
                refine lv_istore (lv' := [(6, .int (nI (cn + 1))), (13, .int 0), (12, .int 1), (11, .int (nI u_16)), (10, .int (iZ (((N - (ya * ya)) - (yb * yb)) - (yc * yc)))), (9, .int (iZ yc)), (0, .ref o), (1, .int (nI n0)), (2, .int (nI 0)), (3, .int (-1)), (4, .int (iZ N)), (5, .int (nI M)), (7, .int (iZ ya)), (8, .int (iZ yb))]) hx hb dX5_goThrough_271 hl (by decide) rfl (fun ls hl => ?_)
                refine lv_iinc (v := 2) (lv' := [(12, .int 2), (6, .int (nI (cn + 1))), (13, .int 0), (11, .int (nI u_16)), (10, .int (iZ (((N - (ya * ya)) - (yb * yb)) - (yc * yc)))), (9, .int (iZ yc)), (0, .ref o), (1, .int (nI n0)), (2, .int (nI 0)), (3, .int (-1)), (4, .int (iZ N)), (5, .int (nI M)), (7, .int (iZ ya)), (8, .int (iZ yb))]) hx hb dX5_goThrough_273 hl (k := 2) rfl (by decide) (by decide) rfl (fun ls hl => ?_)
                refine lv_goto (tgt := 108) hx hb dX5_goThrough_276 (by decide) ?_
                refine lv_iload hx hb dX5_goThrough_108 (lv_at hl 0 rfl) ?_
                refine lv_iconst (v := 2) hx hb dX5_goThrough_110 (by decide) ?_
                refine lv_icmp_ge (tgt := 279) hx hb dX5_goThrough_111 (by decide) (fun c_69 => ?_) (fun c_69 => absurd (by decide) c_69)
                refine lv_iinc (v := iZ (yc - 1)) (lv' := [(9, .int (iZ (yc - 1))), (12, .int 2), (6, .int (nI (cn + 1))), (13, .int 0), (11, .int (nI u_16)), (10, .int (iZ (((N - (ya * ya)) - (yb * yb)) - (yc * yc)))), (0, .ref o), (1, .int (nI n0)), (2, .int (nI 0)), (3, .int (-1)), (4, .int (iZ N)), (5, .int (nI M)), (7, .int (iZ ya)), (8, .int (iZ yb))]) hx hb dX5_goThrough_279 hl (k := 5) rfl ((zadd rfl (b := -1) (by decide)).trans (by rw [Int.sub_eq_add_neg])) (by decide) rfl (fun ls hl => ?_)
                refine lv_goto (tgt := 43) hx hb dX5_goThrough_282 (by decide) ?_
                have hpp := one_par (a := ya) (b := yb) (c := yc) (d := ((u_16 : Nat) : Int)) (by omega) (by omega) (by omega) (by omega)
                have hpq := hpp.mp c_28
                have hds := ds_sq (M := M) (N := N) (a := ya) (b := yb) (c := yc) (lf := ((N - (ya * ya)) - (yb * yb)) - (yc * yc)) (by omega) hpq.1 hpq.2.1 (by rw [hNn]; omega) (d := u_16) (by rw [Int.natCast_mul]; omega) (by omega)
                rw [if_neg (show ¬ 0 < u_16 by omega)] at hds
                have hu0 : u_16 = 0 := by omega
                have hcs : cS 0 (S3 N M ya yb yc) = 1 := by rw [S3, hds]; simp only [List.map_cons, List.map_nil, cS, cW_0 (ya, yb, yc, (0 : Int))]
                exact ih (yc - 1) (cn + 1) ((iZ ya).toInt64, (iZ yb).toInt64, (iZ yc).toInt64, (iZ (-((u_16 : Nat) : Int))).toInt64) (by omega) (by omega) (by omega) (by omega) _ _ _ hP hD hS (lv_sub hl [0, 6, 7, 8, 9, 10, 11, 2, 12, 13] rfl) 
              · have c_65 := le_no (a := u_16) (b := 0) rfl rfl (by omega) (by omega) c_65
                refine lv_iload_n hx hb dX5_goThrough_205 rfl (lv_at hl 8 rfl) ?_
                refine lv_if_eq (tgt := 237) hx hb dX5_goThrough_206 (by decide) (fun c_70 => ?_) (fun c_70 => absurd rfl c_70)
                refine lv_iconst (v := 1) hx hb dX5_goThrough_237 (by decide) ?_
                refine lv_goto (tgt := 242) hx hb dX5_goThrough_238 (by decide) ?_
                refine lv_istore (lv' := [(13, .int 1), (12, .int 1), (6, .int (nI (cn + 1))), (11, .int (nI u_16)), (10, .int (iZ (((N - (ya * ya)) - (yb * yb)) - (yc * yc)))), (9, .int (iZ yc)), (0, .ref o), (1, .int (nI n0)), (2, .int (nI 0)), (3, .int (-1)), (4, .int (iZ N)), (5, .int (nI M)), (7, .int (iZ ya)), (8, .int (iZ yb))]) hx hb dX5_goThrough_242 hl (by decide) rfl (fun ls hl => ?_)
                refine lv_iload hx hb dX5_goThrough_244 (lv_at hl 0 rfl) ?_
                refine lv_if_eq (tgt := 258) hx hb dX5_goThrough_246 (by decide) (fun c_71 => absurd c_71 (by decide)) (fun c_71 => ?_)
                refine lv_iload hx hb dX5_goThrough_249 (lv_at hl 2 rfl) ?_
                refine lv_iload_n hx hb dX5_goThrough_251 rfl (lv_at hl 9 rfl) ?_
                refine lv_icmp_ne (tgt := 258) hx hb dX5_goThrough_252 (by decide) (fun c_72 => ?_) (fun c_72 => absurd c_72 (nI_m1 (by omega)))
                refine lv_iload hx hb dX5_goThrough_258 (lv_at hl 2 rfl) ?_
                refine lv_iload hx hb dX5_goThrough_260 (lv_at hl 0 rfl) ?_
                refine lv_if_eq (tgt := 269) hx hb dX5_goThrough_262 (by decide) (fun c_73 => absurd c_73 (by decide)) (fun c_73 => ?_)
                refine lv_iconst (v := 1) hx hb dX5_goThrough_265 (by decide) ?_
                refine lv_goto (tgt := 270) hx hb dX5_goThrough_266 (by decide) ?_
                refine lv_iadd hx hb dX5_goThrough_270 ?_
                refine lv_topi (fun z_74 ez_74 => ?_)
                obtain rfl : z_74 = nI ((cn + 1) + 1) := ez_74.trans (eq_add rfl rfl)
                refine lv_istore (lv' := [(6, .int (nI ((cn + 1) + 1))), (13, .int 1), (12, .int 1), (11, .int (nI u_16)), (10, .int (iZ (((N - (ya * ya)) - (yb * yb)) - (yc * yc)))), (9, .int (iZ yc)), (0, .ref o), (1, .int (nI n0)), (2, .int (nI 0)), (3, .int (-1)), (4, .int (iZ N)), (5, .int (nI M)), (7, .int (iZ ya)), (8, .int (iZ yb))]) hx hb dX5_goThrough_271 hl (by decide) rfl (fun ls hl => ?_)
                refine lv_iinc (v := 2) (lv' := [(12, .int 2), (6, .int (nI ((cn + 1) + 1))), (13, .int 1), (11, .int (nI u_16)), (10, .int (iZ (((N - (ya * ya)) - (yb * yb)) - (yc * yc)))), (9, .int (iZ yc)), (0, .ref o), (1, .int (nI n0)), (2, .int (nI 0)), (3, .int (-1)), (4, .int (iZ N)), (5, .int (nI M)), (7, .int (iZ ya)), (8, .int (iZ yb))]) hx hb dX5_goThrough_273 hl (k := 2) rfl (by decide) (by decide) rfl (fun ls hl => ?_)
                refine lv_goto (tgt := 108) hx hb dX5_goThrough_276 (by decide) ?_
                refine lv_iload hx hb dX5_goThrough_108 (lv_at hl 0 rfl) ?_
                refine lv_iconst (v := 2) hx hb dX5_goThrough_110 (by decide) ?_
                refine lv_icmp_ge (tgt := 279) hx hb dX5_goThrough_111 (by decide) (fun c_75 => ?_) (fun c_75 => absurd (by decide) c_75)
                refine lv_iinc (v := iZ (yc - 1)) (lv' := [(9, .int (iZ (yc - 1))), (12, .int 2), (6, .int (nI ((cn + 1) + 1))), (13, .int 1), (11, .int (nI u_16)), (10, .int (iZ (((N - (ya * ya)) - (yb * yb)) - (yc * yc)))), (0, .ref o), (1, .int (nI n0)), (2, .int (nI 0)), (3, .int (-1)), (4, .int (iZ N)), (5, .int (nI M)), (7, .int (iZ ya)), (8, .int (iZ yb))]) hx hb dX5_goThrough_279 hl (k := 5) rfl ((zadd rfl (b := -1) (by decide)).trans (by rw [Int.sub_eq_add_neg])) (by decide) rfl (fun ls hl => ?_)
                refine lv_goto (tgt := 43) hx hb dX5_goThrough_282 (by decide) ?_
                have hpp := one_par (a := ya) (b := yb) (c := yc) (d := ((u_16 : Nat) : Int)) (by omega) (by omega) (by omega) (by omega)
                have hpq := hpp.mp c_28
                have hds := ds_sq (M := M) (N := N) (a := ya) (b := yb) (c := yc) (lf := ((N - (ya * ya)) - (yb * yb)) - (yc * yc)) (by omega) hpq.1 hpq.2.1 (by rw [hNn]; omega) (d := u_16) (by rw [Int.natCast_mul]; omega) (by omega)
                rw [if_pos (show 0 < u_16 by omega)] at hds
                have hcs : cS 0 (S3 N M ya yb yc) = 2 := by rw [S3, hds]; simp only [List.map_cons, List.map_nil, cS, cW_0 (ya, yb, yc, ((u_16 : Nat) : Int)), cW_0 (ya, yb, yc, -((u_16 : Nat) : Int))]
                exact ih (yc - 1) ((cn + 1) + 1) ((iZ ya).toInt64, (iZ yb).toInt64, (iZ yc).toInt64, (iZ (-((u_16 : Nat) : Int))).toInt64) (by omega) (by omega) (by omega) (by omega) _ _ _ hP hD hS (lv_sub hl [0, 6, 7, 8, 9, 10, 11, 2, 12, 13] rfl) 
        · have c_13 := lez_no (a := 0) (b := ((N - (ya * ya)) - (yb * yb)) - (yc * yc)) (by decide) rfl (by omega) (by omega) c_13
          refine lv_iconst (v := (-1)) hx hb dX5_goThrough_94 (by decide) ?_
          refine lv_goto (tgt := 103) hx hb dX5_goThrough_95 (by decide) ?_
          refine lv_istore (lv' := [(11, .int (-1)), (10, .int (iZ (((N - (ya * ya)) - (yb * yb)) - (yc * yc)))), (9, .int (iZ yc)), (0, .ref o), (1, .int (nI n0)), (2, .int (nI 0)), (3, .int (-1)), (4, .int (iZ N)), (5, .int (nI M)), (6, .int (nI cn)), (7, .int (iZ ya)), (8, .int (iZ yb))]) hx hb dX5_goThrough_103 hl (by decide) rfl (fun ls hl => ?_)
          refine lv_iconst (v := 0) hx hb dX5_goThrough_105 (by decide) ?_
          refine lv_istore (lv' := [(12, .int 0), (11, .int (-1)), (10, .int (iZ (((N - (ya * ya)) - (yb * yb)) - (yc * yc)))), (9, .int (iZ yc)), (0, .ref o), (1, .int (nI n0)), (2, .int (nI 0)), (3, .int (-1)), (4, .int (iZ N)), (5, .int (nI M)), (6, .int (nI cn)), (7, .int (iZ ya)), (8, .int (iZ yb))]) hx hb dX5_goThrough_106 hl (by decide) rfl (fun ls hl => ?_)
          refine lv_iload hx hb dX5_goThrough_108 (lv_at hl 0 rfl) ?_
          refine lv_iconst (v := 2) hx hb dX5_goThrough_110 (by decide) ?_
          refine lv_icmp_ge (tgt := 279) hx hb dX5_goThrough_111 (by decide) (fun c_76 => absurd c_76 (by decide)) (fun c_76 => ?_)
          refine lv_iload hx hb dX5_goThrough_114 (lv_at hl 1 rfl) ?_
          refine lv_if_lt (tgt := 279) hx hb dX5_goThrough_116 (by decide) (fun c_77 => ?_) (fun c_77 => absurd (by decide) c_77)
          refine lv_iinc (v := iZ (yc - 1)) (lv' := [(9, .int (iZ (yc - 1))), (12, .int 0), (11, .int (-1)), (10, .int (iZ (((N - (ya * ya)) - (yb * yb)) - (yc * yc)))), (0, .ref o), (1, .int (nI n0)), (2, .int (nI 0)), (3, .int (-1)), (4, .int (iZ N)), (5, .int (nI M)), (6, .int (nI cn)), (7, .int (iZ ya)), (8, .int (iZ yb))]) hx hb dX5_goThrough_279 hl (k := 3) rfl ((zadd rfl (b := -1) (by decide)).trans (by rw [Int.sub_eq_add_neg])) (by decide) rfl (fun ls hl => ?_)
          refine lv_goto (tgt := 43) hx hb dX5_goThrough_282 (by decide) ?_
          have hds : ds N M ya yb yc = [] := ds_neg (lf := ((N - (ya * ya)) - (yb * yb)) - (yc * yc)) (by omega) (by omega)
          have hcs : cS 0 (S3 N M ya yb yc) = 0 := by rw [S3, hds]; rfl
          exact ih (yc - 1) cn xv (by omega) (by omega) (by omega) (by omega) _ _ _ hP hD hS (lv_sub hl [0, 4, 5, 6, 7, 8, 9, 10, 11, 12] rfl) 
set_option maxHeartbeats 4000000 in
set_option maxRecDepth 100000 in
theorem lp_X5_go_b0 {KN : State → Prop} (hk : KNok KN) {l : Launch} {D : va_G} {ca : Nat → ClassId} (o : Nat) (ad : Nat → Nat) (nf : Int32) (mo : Int32) (x : Q4) (n0 : Nat) (M : Nat) (T : Nat) (N : Int) (ya : Int) (R : List Z4') (hn0 : n0 ≤ 200) (hM28 : M ≤ 28) (hM0 : 4 * n0 < (M + 1) * (M + 1)) (hNn : N = 4 * (n0 : Int)) (hTb : T ≤ 2 ^ 20) (hMM : M * M ≤ 4 * n0) (hTT : T = cS 0 (S0 (4 * (n0 : Int)) M)) (hba : -(M : Int) ≤ ya ∧ ya ≤ M) {p : Program} {e : Env} {s : State} {m : MethodId} {below : List Frame} {meth : Method} {c : Code} {A : Nat → Prop} (hOut : ∀ (cn : Nat) (xv : Q4), cn + cS 0 (R) = T → ∀ (H : Heap) (locs : List Loc) (ls : Array Slot), va_P D vwCl [(o, mO ad nf mo), (ad 8, a4 ca xv)] H → va_D A [(o, mO ad nf mo), (ad 8, a4 ca xv)] → va_S A s.heap H locs → lv_has ls 14 [(0, .ref o), (1, .int (nI n0)), (2, .int (nI 0)), (3, .int (-1)), (4, .int (iZ N)), (5, .int (nI M)), (6, .int (nI cn)), (7, .int (iZ ya))] → W p l e ({ frames := 2, cells := 0, slots := 0, locals := 53 }) s m ([.ref o, .int (nI n0), .int (nI 0), .int (-1)] : List Value).toArray below meth c H locs 0 0 (MQ below (qI D (fun (r : Int32) (u : Nat × Q4) => r = nI (cS 0 (S0 (4 * (n0 : Int)) u.1)) ∧ u.1 * u.1 ≤ 4 * n0 ∧ 4 * n0 < (u.1 + 1) * (u.1 + 1)) (fun u => [(o, mO ad nf mo), (ad 8, a4 ca u.2)]) (fun u H => True) A) ([.ref o, .int (nI n0), .int (nI 0), .int (-1)] : List Value).toArray s 0 0 A) (F0 m 291 ls [])) (hx : p.tables.exec = Jvm.exec) (hb : c.code = cX5_goThrough) (hr : meth.sig.returnType = (some .int)) (hts : ∀ w ∈ lw_all, w.before ([.ref o, .int (nI n0), .int (nI 0), .int (-1)] : List Value).toArray s = true) (hown : s.vm.findClass yX5_goThrough.cls = some m.cls) (hlocks : meth.locks = false) (hnm : meth.name = yX5_goThrough.name) (hml : c.maxLocals = 14) (hK : va_K D vwCl (tysG ca) s) (hN : KN s) (hA : ∀ q, s.heap.size ≤ q → A q)  :
    ∀ (n : Nat) (yb : Int) (cn : Nat) (xv : Q4), (-(M : Int) - 1 ≤ yb) → (yb ≤ M) → (cn + cS 0 (TB N M ya yb ++ R) = T) → (yb + M + 1 < (n : Int)) →  ∀ (H : Heap) (locs : List Loc) (ls : Array Slot), va_P D vwCl [(o, mO ad nf mo), (ad 8, a4 ca xv)] H → va_D A [(o, mO ad nf mo), (ad 8, a4 ca xv)] → va_S A s.heap H locs → lv_has ls 14 [(8, .int (iZ yb)), (0, .ref o), (1, .int (nI n0)), (2, .int (nI 0)), (3, .int (-1)), (4, .int (iZ N)), (5, .int (nI M)), (6, .int (nI cn)), (7, .int (iZ ya))] → W p l e ({ frames := 2, cells := 0, slots := 0, locals := 53 }) s m ([.ref o, .int (nI n0), .int (nI 0), .int (-1)] : List Value).toArray below meth c H locs 0 0 (MQ below (qI D (fun (r : Int32) (u : Nat × Q4) => r = nI (cS 0 (S0 (4 * (n0 : Int)) u.1)) ∧ u.1 * u.1 ≤ 4 * n0 ∧ 4 * n0 < (u.1 + 1) * (u.1 + 1)) (fun u => [(o, mO ad nf mo), (ad 8, a4 ca u.2)]) (fun u H => True) A) ([.ref o, .int (nI n0), .int (nI 0), .int (-1)] : List Value).toArray s 0 0 A) (F0 m 31 ls []) := by
  intro n
  induction n with
  | zero =>
    intro yb cn xv hb1 hb2 hT hfuel H locs ls hP hD hS hl 
    exact absurd hfuel (by omega)
  | succ n ih =>
    intro yb cn xv hb1 hb2 hT hfuel H locs ls hP hD hS hl 
    refine lv_iload hx hb dX5_goThrough_31 (lv_at hl 0 rfl) ?_
    refine lv_iload hx hb dX5_goThrough_33 (lv_at hl 6 rfl) ?_
    refine lv_ineg hx hb dX5_goThrough_35 ?_
    refine lv_topi (fun z_1 ez_1 => ?_)
    obtain rfl : z_1 = iZ (-((M : Nat) : Int)) := ez_1.trans (zneg (iZ_n _))
    refine lv_icmp_lt (tgt := 291) hx hb dX5_goThrough_36 (by decide) (fun c_2 => ?_) (fun c_2 => ?_)
    · have c_2 := ltz_y (a := yb) (b := -((M : Nat) : Int)) rfl rfl (by omega) (by omega) c_2
      rw [TB_e (by omega), List.nil_append] at hT
      exact hOut cn xv hT _ _ _ hP hD hS (lv_sub hl [1, 2, 3, 4, 5, 6, 7, 8] rfl)
    · have c_2 := ltz_no (a := yb) (b := -((M : Nat) : Int)) rfl rfl (by omega) (by omega) c_2
      refine lv_iload hx hb dX5_goThrough_39 (lv_at hl 6 rfl) ?_
      refine lv_topi (fun z_3 ez_3 => ?_)
      obtain rfl : z_3 = iZ ((M : Nat) : Int) := ez_3.trans (iZ_n M)
      refine lv_istore (lv' := [(9, .int (iZ ((M : Nat) : Int))), (8, .int (iZ yb)), (0, .ref o), (1, .int (nI n0)), (2, .int (nI 0)), (3, .int (-1)), (4, .int (iZ N)), (5, .int (nI M)), (6, .int (nI cn)), (7, .int (iZ ya))]) hx hb dX5_goThrough_41 hl (by decide) rfl (fun ls hl => ?_)
      rw [TB_s (by omega), List.append_assoc] at hT
      refine lp_X5_go_c0 hk o ad nf mo x n0 M T N ya yb (TB N M ya (yb - 1) ++ R) hn0 hM28 hM0 hNn hTb hMM hTT hba (by omega) (fun cn xv hT H locs ls hP hD hS hl => ?_) hx hb hr hts hown hlocks hnm hml hK hN hA  (((M : Int) + M + 2).toNat) ((M : Nat) : Int) cn xv (by omega) (by omega) hT (by omega) _ _ _ hP hD hS (lv_sub hl [0, 2, 3, 4, 5, 6, 7, 8, 9, 1] rfl)
      refine lv_iinc (v := iZ (yb - 1)) (lv' := [(8, .int (iZ (yb - 1))), (0, .ref o), (1, .int (nI n0)), (2, .int (nI 0)), (3, .int (-1)), (4, .int (iZ N)), (5, .int (nI M)), (6, .int (nI cn)), (7, .int (iZ ya))]) hx hb dX5_goThrough_285 hl (k := 8) rfl ((zadd rfl (b := -1) (by decide)).trans (by rw [Int.sub_eq_add_neg])) (by decide) rfl (fun ls hl => ?_)
      refine lv_goto (tgt := 31) hx hb dX5_goThrough_288 (by decide) ?_
      exact ih (yb - 1) cn xv (by omega) (by omega) hT (by omega) _ _ _ hP hD hS (lv_sub hl [0, 1, 2, 3, 4, 5, 6, 7, 8] rfl) 
set_option maxHeartbeats 4000000 in
set_option maxRecDepth 100000 in
theorem lp_X5_go_a0 {KN : State → Prop} (hk : KNok KN) {l : Launch} {D : va_G} {ca : Nat → ClassId} (o : Nat) (ad : Nat → Nat) (nf : Int32) (mo : Int32) (x : Q4) (n0 : Nat) (M : Nat) (T : Nat) (N : Int) (hn0 : n0 ≤ 200) (hM28 : M ≤ 28) (hM0 : 4 * n0 < (M + 1) * (M + 1)) (hNn : N = 4 * (n0 : Int)) (hTb : T ≤ 2 ^ 20) (hMM : M * M ≤ 4 * n0) (hTT : T = cS 0 (S0 (4 * (n0 : Int)) M)) {p : Program} {e : Env} {s : State} {m : MethodId} {below : List Frame} {meth : Method} {c : Code} {A : Nat → Prop}  (hx : p.tables.exec = Jvm.exec) (hb : c.code = cX5_goThrough) (hr : meth.sig.returnType = (some .int)) (hts : ∀ w ∈ lw_all, w.before ([.ref o, .int (nI n0), .int (nI 0), .int (-1)] : List Value).toArray s = true) (hown : s.vm.findClass yX5_goThrough.cls = some m.cls) (hlocks : meth.locks = false) (hnm : meth.name = yX5_goThrough.name) (hml : c.maxLocals = 14) (hK : va_K D vwCl (tysG ca) s) (hN : KN s) (hA : ∀ q, s.heap.size ≤ q → A q)  :
    ∀ (n : Nat) (ya : Int) (cn : Nat) (xv : Q4), (-(M : Int) - 1 ≤ ya) → (ya ≤ M) → (cn + cS 0 (TA N M ya) = T) → (ya + M + 1 < (n : Int)) →  ∀ (H : Heap) (locs : List Loc) (ls : Array Slot), va_P D vwCl [(o, mO ad nf mo), (ad 8, a4 ca xv)] H → va_D A [(o, mO ad nf mo), (ad 8, a4 ca xv)] → va_S A s.heap H locs → lv_has ls 14 [(7, .int (iZ ya)), (0, .ref o), (1, .int (nI n0)), (2, .int (nI 0)), (3, .int (-1)), (4, .int (iZ N)), (5, .int (nI M)), (6, .int (nI cn))] → W p l e ({ frames := 2, cells := 0, slots := 0, locals := 53 }) s m ([.ref o, .int (nI n0), .int (nI 0), .int (-1)] : List Value).toArray below meth c H locs 0 0 (MQ below (qI D (fun (r : Int32) (u : Nat × Q4) => r = nI (cS 0 (S0 (4 * (n0 : Int)) u.1)) ∧ u.1 * u.1 ≤ 4 * n0 ∧ 4 * n0 < (u.1 + 1) * (u.1 + 1)) (fun u => [(o, mO ad nf mo), (ad 8, a4 ca u.2)]) (fun u H => True) A) ([.ref o, .int (nI n0), .int (nI 0), .int (-1)] : List Value).toArray s 0 0 A) (F0 m 19 ls []) := by
  intro n
  induction n with
  | zero =>
    intro ya cn xv ha1 ha2 hT hfuel H locs ls hP hD hS hl 
    exact absurd hfuel (by omega)
  | succ n ih =>
    intro ya cn xv ha1 ha2 hT hfuel H locs ls hP hD hS hl 
    refine lv_iload hx hb dX5_goThrough_19 (lv_at hl 0 rfl) ?_
    refine lv_iload hx hb dX5_goThrough_21 (lv_at hl 6 rfl) ?_
    refine lv_ineg hx hb dX5_goThrough_23 ?_
    refine lv_topi (fun z_1 ez_1 => ?_)
    obtain rfl : z_1 = iZ (-((M : Nat) : Int)) := ez_1.trans (zneg (iZ_n _))
    refine lv_icmp_lt (tgt := 297) hx hb dX5_goThrough_24 (by decide) (fun c_2 => ?_) (fun c_2 => ?_)
    · have c_2 := ltz_y (a := ya) (b := -((M : Nat) : Int)) rfl rfl (by omega) (by omega) c_2
      refine lv_iload hx hb dX5_goThrough_297 (lv_at hl 7 rfl) ?_
      exact k_iret (M, xv) hx hb hr hlocks (⟨by rw [← hTT]; rw [TA_e (by omega)] at hT; exact congrArg nI hT, hMM, hM0⟩) hP hD trivial hS (Nat.le_of_ble_eq_true rfl) (Nat.le_of_ble_eq_true rfl) dX5_goThrough_299
    · have c_2 := ltz_no (a := ya) (b := -((M : Nat) : Int)) rfl rfl (by omega) (by omega) c_2
      refine lv_iload hx hb dX5_goThrough_27 (lv_at hl 6 rfl) ?_
      refine lv_topi (fun z_3 ez_3 => ?_)
      obtain rfl : z_3 = iZ ((M : Nat) : Int) := ez_3.trans (iZ_n M)
      refine lv_istore (lv' := [(8, .int (iZ ((M : Nat) : Int))), (7, .int (iZ ya)), (0, .ref o), (1, .int (nI n0)), (2, .int (nI 0)), (3, .int (-1)), (4, .int (iZ N)), (5, .int (nI M)), (6, .int (nI cn))]) hx hb dX5_goThrough_29 hl (by decide) rfl (fun ls hl => ?_)
      rw [TA_s (by omega)] at hT
      refine lp_X5_go_b0 hk o ad nf mo x n0 M T N ya (TA N M (ya - 1)) hn0 hM28 hM0 hNn hTb hMM hTT (by omega) (fun cn xv hT H locs ls hP hD hS hl => ?_) hx hb hr hts hown hlocks hnm hml hK hN hA  (((M : Int) + M + 2).toNat) ((M : Nat) : Int) cn xv (by omega) (by omega) hT (by omega) _ _ _ hP hD hS (lv_sub hl [0, 2, 3, 4, 5, 6, 7, 8, 1] rfl)
      refine lv_iinc (v := iZ (ya - 1)) (lv' := [(7, .int (iZ (ya - 1))), (0, .ref o), (1, .int (nI n0)), (2, .int (nI 0)), (3, .int (-1)), (4, .int (iZ N)), (5, .int (nI M)), (6, .int (nI cn))]) hx hb dX5_goThrough_291 hl (k := 7) rfl ((zadd rfl (b := -1) (by decide)).trans (by rw [Int.sub_eq_add_neg])) (by decide) rfl (fun ls hl => ?_)
      refine lv_goto (tgt := 19) hx hb dX5_goThrough_294 (by decide) ?_
      exact ih (ya - 1) cn xv (by omega) (by omega) hT (by omega) _ _ _ hP hD hS (lv_sub hl [0, 1, 2, 3, 4, 5, 6, 7] rfl) 
set_option maxHeartbeats 4000000 in
set_option maxRecDepth 100000 in
theorem ct_X5_go_0 {KN : State → Prop} (hk : KNok KN) (l : Launch) (D : va_G) (ca : Nat → ClassId) (zH : Nat) (o : Nat) (ad : Nat → Nat) (nf mo : Int32) (x : Q4) (n0 : Nat) (hn1 : 1 ≤ n0) (hn0 : n0 ≤ 200) : Met l yX5_goThrough (ws_ yX5_goThrough cX5_goThrough 14 (some .int)) ({ frames := 2, cells := 0, slots := 0, locals := 53 }) (va_Pc [.ref o, .int (nI n0), .int (nI 0), .int (-1)] (pr_ KN D ca [(o, mO ad nf mo), (ad 8, a4 ca x)] zH (fun _ => True))) (qI D (fun (r : Int32) (u : Nat × Q4) => r = nI (cS 0 (S0 (4 * (n0 : Int)) u.1)) ∧ u.1 * u.1 ≤ 4 * n0 ∧ 4 * n0 < (u.1 + 1) * (u.1 + 1)) (fun u => [(o, mO ad nf mo), (ad 8, a4 ca u.2)]) (fun u H => True) (va_A [(o, mO ad nf mo), (ad 8, a4 ca x)] zH)) 0 0 (va_A [(o, mO ad nf mo), (ad 8, a4 ca x)] zH) := by
  refine k_ofW (Qc := qI D (fun (r : Int32) (u : Nat × Q4) => r = nI (cS 0 (S0 (4 * (n0 : Int)) u.1)) ∧ u.1 * u.1 ≤ 4 * n0 ∧ 4 * n0 < (u.1 + 1) * (u.1 + 1)) (fun u => [(o, mO ad nf mo), (ad 8, a4 ca u.2)]) (fun u H => True)) (by decide) (Nat.le_of_ble_eq_true rfl) ?_
  intro p e s m below meth c ls A H hH hx hb hr hts hown hlocks hnm hml hsz hP hD hK hN hA hAn hS hro hl
  have hl : lv_has ls 14 [(0, .ref o), (1, .int (nI n0)), (2, .int (nI 0)), (3, .int (-1))] := hl
  refine lv_iconst (v := 4) hx hb dX5_goThrough_0 (by decide) ?_
  refine lv_iload_n hx hb dX5_goThrough_1 rfl (lv_at hl 1 rfl) ?_
  refine lv_imul hx hb dX5_goThrough_2 ?_
  refine lv_topi (fun z_1 ez_1 => ?_)
  obtain rfl : z_1 = iZ (4 * ((n0 : Nat) : Int)) := ez_1.trans (zmul (by decide) (iZ_n _))
  refine lv_istore (lv' := [(4, .int (iZ (4 * ((n0 : Nat) : Int)))), (0, .ref o), (1, .int (nI n0)), (2, .int (nI 0)), (3, .int (-1))]) hx hb dX5_goThrough_3 hl (by decide) rfl (fun ls hl => ?_)
  refine lv_iload hx hb dX5_goThrough_5 (lv_at hl 0 rfl) ?_
  refine lv_topi (fun z_2 ez_2 => ?_)
  obtain rfl : z_2 = nI (4 * n0) := ez_2.trans (i4n n0)
  refine k_calli (wr := [(o, mO ad nf mo), (ad 8, a4 ca x)]) (va_runS (As := [.int (nI (4 * n0))]) (rest := []) ⟨hx, hb, hml, hown, hts⟩ (ct_X5_rootOf hk l D ca H.size (4 * n0) (by omega)) (va_cwS 1 hts (lw_S q788 q789 q24 q790) rfl rfl rfl (by decide +kernel) ⟨Nat.le_of_ble_eq_true rfl, Nat.le_of_ble_eq_true rfl⟩) (k_pre hk hK hN hP hD [] (by decide) rfl trivial) rfl rfl hl.1 rfl (lv_room (Nat.le_of_ble_eq_true rfl)) dX5_goThrough_7 ⟨Nat.le_of_ble_eq_true rfl, Nat.le_of_ble_eq_true rfl⟩) hP hD hS hA [] [0, 1] rfl rfl (by decide) (by decide) (fun r_3 u_4 H locs w_5 hP hD hxw_5 hzw_5 hqw_5 hS => ?_)
  obtain ⟨ew_5, hr1w_5, hr2w_5⟩ := w_5
  subst ew_5
  refine lv_istore (lv' := [(5, .int (nI u_4)), (4, .int (iZ (4 * ((n0 : Nat) : Int)))), (0, .ref o), (1, .int (nI n0)), (2, .int (nI 0)), (3, .int (-1))]) hx hb dX5_goThrough_10 hl (by decide) rfl (fun ls hl => ?_)
  have hM28 : u_4 ≤ 28 := root_le (b := 28) hr1w_5 (by omega)
  obtain ⟨hS1, hS2, hS3⟩ := S0_T hn1 hn0 hM28 hr2w_5
  refine lv_iconst (v := 0) hx hb dX5_goThrough_12 (by decide) ?_
  refine lv_istore (lv' := [(6, .int 0), (5, .int (nI u_4)), (4, .int (iZ (4 * ((n0 : Nat) : Int)))), (0, .ref o), (1, .int (nI n0)), (2, .int (nI 0)), (3, .int (-1))]) hx hb dX5_goThrough_13 hl (by decide) rfl (fun ls hl => ?_)
  refine lv_iload hx hb dX5_goThrough_15 (lv_at hl 1 rfl) ?_
  refine lv_topi (fun z_6 ez_6 => ?_)
  obtain rfl : z_6 = iZ ((u_4 : Nat) : Int) := ez_6.trans (iZ_n u_4)
  refine lv_istore (lv' := [(7, .int (iZ ((u_4 : Nat) : Int))), (6, .int 0), (5, .int (nI u_4)), (4, .int (iZ (4 * ((n0 : Nat) : Int)))), (0, .ref o), (1, .int (nI n0)), (2, .int (nI 0)), (3, .int (-1))]) hx hb dX5_goThrough_17 hl (by decide) rfl (fun ls hl => ?_)
  exact lp_X5_go_a0 hk o ad nf mo x n0 u_4 (cS 0 (S0 (4 * (n0 : Int)) u_4)) (4 * (n0 : Int)) hn0 hM28 hr2w_5 rfl (Nat.le_trans (cS_le _ _) hS3) hr1w_5 rfl  hx hb hr hts hown hlocks hnm hml hK hN hA  (((u_4 : Int) + u_4 + 2).toNat) ((u_4 : Nat) : Int) 0 x (by omega) (by omega) (by rw [TA_0, Nat.zero_add]) (by omega) _ _ _ hP hD hS (lv_sub hl [0, 4, 5, 6, 7, 3, 2, 1] rfl) 
set_option maxHeartbeats 4000000 in
set_option maxRecDepth 100000 in
theorem lp_X5_go_c1 {KN : State → Prop} (hk : KNok KN) {l : Launch} {D : va_G} {ca : Nat → ClassId} (o : Nat) (ad : Nat → Nat) (nf : Int32) (mo : Int32) (x : Q4) (n0 : Nat) (M : Nat) (T : Nat) (N : Int) (ya : Int) (yb : Int) (R : List Z4') (hn0 : n0 ≤ 200) (hM28 : M ≤ 28) (hM0 : 4 * n0 < (M + 1) * (M + 1)) (hNn : N = 4 * (n0 : Int)) (hTb : T ≤ 2 ^ 20) (hMM : M * M ≤ 4 * n0) (hTT : T = cS 1 (S0 (4 * (n0 : Int)) M)) (hba : -(M : Int) ≤ ya ∧ ya ≤ M) (hbb : -(M : Int) ≤ yb ∧ yb ≤ M) {p : Program} {e : Env} {s : State} {m : MethodId} {below : List Frame} {meth : Method} {c : Code} {A : Nat → Prop} (hOut : ∀ (cn : Nat) (xv : Q4), cn + cS 1 (R) = T → ∀ (H : Heap) (locs : List Loc) (ls : Array Slot), va_P D vwCl [(o, mO ad nf mo), (ad 8, a4 ca xv)] H → va_D A [(o, mO ad nf mo), (ad 8, a4 ca xv)] → va_S A s.heap H locs → lv_has ls 14 [(0, .ref o), (1, .int (nI n0)), (2, .int (nI 1)), (3, .int (-1)), (4, .int (iZ N)), (5, .int (nI M)), (6, .int (nI cn)), (7, .int (iZ ya)), (8, .int (iZ yb))] → W p l e ({ frames := 2, cells := 0, slots := 0, locals := 53 }) s m ([.ref o, .int (nI n0), .int (nI 1), .int (-1)] : List Value).toArray below meth c H locs 0 0 (MQ below (qI D (fun (r : Int32) (u : Nat × Q4) => r = nI (cS 1 (S0 (4 * (n0 : Int)) u.1)) ∧ u.1 * u.1 ≤ 4 * n0 ∧ 4 * n0 < (u.1 + 1) * (u.1 + 1)) (fun u => [(o, mO ad nf mo), (ad 8, a4 ca u.2)]) (fun u H => True) A) ([.ref o, .int (nI n0), .int (nI 1), .int (-1)] : List Value).toArray s 0 0 A) (F0 m 285 ls [])) (hx : p.tables.exec = Jvm.exec) (hb : c.code = cX5_goThrough) (hr : meth.sig.returnType = (some .int)) (hts : ∀ w ∈ lw_all, w.before ([.ref o, .int (nI n0), .int (nI 1), .int (-1)] : List Value).toArray s = true) (hown : s.vm.findClass yX5_goThrough.cls = some m.cls) (hlocks : meth.locks = false) (hnm : meth.name = yX5_goThrough.name) (hml : c.maxLocals = 14) (hK : va_K D vwCl (tysG ca) s) (hN : KN s) (hA : ∀ q, s.heap.size ≤ q → A q)  :
    ∀ (n : Nat) (yc : Int) (cn : Nat) (xv : Q4), (-(M : Int) - 1 ≤ yc) → (yc ≤ M) → (cn + cS 1 (TC N M ya yb yc ++ R) = T) → (yc + M + 1 < (n : Int)) →  ∀ (H : Heap) (locs : List Loc) (ls : Array Slot), va_P D vwCl [(o, mO ad nf mo), (ad 8, a4 ca xv)] H → va_D A [(o, mO ad nf mo), (ad 8, a4 ca xv)] → va_S A s.heap H locs → lv_has ls 14 [(9, .int (iZ yc)), (0, .ref o), (1, .int (nI n0)), (2, .int (nI 1)), (3, .int (-1)), (4, .int (iZ N)), (5, .int (nI M)), (6, .int (nI cn)), (7, .int (iZ ya)), (8, .int (iZ yb))] → W p l e ({ frames := 2, cells := 0, slots := 0, locals := 53 }) s m ([.ref o, .int (nI n0), .int (nI 1), .int (-1)] : List Value).toArray below meth c H locs 0 0 (MQ below (qI D (fun (r : Int32) (u : Nat × Q4) => r = nI (cS 1 (S0 (4 * (n0 : Int)) u.1)) ∧ u.1 * u.1 ≤ 4 * n0 ∧ 4 * n0 < (u.1 + 1) * (u.1 + 1)) (fun u => [(o, mO ad nf mo), (ad 8, a4 ca u.2)]) (fun u H => True) A) ([.ref o, .int (nI n0), .int (nI 1), .int (-1)] : List Value).toArray s 0 0 A) (F0 m 43 ls []) := by
  intro n
  induction n with
  | zero =>
    intro yc cn xv hc1 hc2 hT hfuel H locs ls hP hD hS hl 
    exact absurd hfuel (by omega)
  | succ n ih =>
    intro yc cn xv hc1 hc2 hT hfuel H locs ls hP hD hS hl 
    have hqa := sqz (a := ya) (by omega) (by omega)
    have hqb := sqz (a := yb) (by omega) (by omega)
    refine lv_iload hx hb dX5_goThrough_43 (lv_at hl 0 rfl) ?_
    refine lv_iload hx hb dX5_goThrough_45 (lv_at hl 6 rfl) ?_
    refine lv_ineg hx hb dX5_goThrough_47 ?_
    refine lv_topi (fun z_1 ez_1 => ?_)
    obtain rfl : z_1 = iZ (-((M : Nat) : Int)) := ez_1.trans (zneg (iZ_n _))
    refine lv_icmp_lt (tgt := 285) hx hb dX5_goThrough_48 (by decide) (fun c_2 => ?_) (fun c_2 => ?_)
    · have c_2 := ltz_y (a := yc) (b := -((M : Nat) : Int)) rfl rfl (by omega) (by omega) c_2
      rw [TC_e (by omega), List.nil_append] at hT
      exact hOut cn xv hT _ _ _ hP hD hS (lv_sub hl [1, 2, 3, 4, 5, 6, 7, 8, 9] rfl)
    · have c_2 := ltz_no (a := yc) (b := -((M : Nat) : Int)) rfl rfl (by omega) (by omega) c_2
      refine lv_iload hx hb dX5_goThrough_51 (lv_at hl 8 rfl) ?_
      refine lv_iload hx hb dX5_goThrough_53 (lv_at hl 8 rfl) ?_
      refine lv_imul hx hb dX5_goThrough_55 ?_
      refine lv_topi (fun z_3 ez_3 => ?_)
      obtain rfl : z_3 = iZ (ya * ya) := ez_3.trans (zmul rfl rfl)
      refine lv_iload hx hb dX5_goThrough_56 (lv_at hl 9 rfl) ?_
      refine lv_iload hx hb dX5_goThrough_58 (lv_at hl 9 rfl) ?_
      refine lv_imul hx hb dX5_goThrough_60 ?_
      refine lv_topi (fun z_4 ez_4 => ?_)
      obtain rfl : z_4 = iZ (yb * yb) := ez_4.trans (zmul rfl rfl)
      refine lv_iadd hx hb dX5_goThrough_61 ?_
      refine lv_topi (fun z_5 ez_5 => ?_)
      obtain rfl : z_5 = iZ ((ya * ya) + (yb * yb)) := ez_5.trans (zadd rfl rfl)
      refine lv_iload hx hb dX5_goThrough_62 (lv_at hl 5 rfl) ?_
      refine lv_icmp_gt (tgt := 285) hx hb dX5_goThrough_64 (by decide) (fun c_6 => ?_) (fun c_6 => ?_)
      · have c_6 := ltz_y (a := N) (b := (ya * ya) + (yb * yb)) rfl rfl (by omega) (by omega) c_6
        rw [TC_neg (by omega), List.nil_append] at hT
        exact hOut cn xv hT _ _ _ hP hD hS (lv_sub hl [1, 2, 3, 4, 5, 6, 7, 8, 9] rfl)
      · have c_6 := ltz_no (a := N) (b := (ya * ya) + (yb * yb)) rfl rfl (by omega) (by omega) c_6
        have hqc := sqz (a := yc) (by omega) (by omega)
        rw [TC_s (by omega), List.append_assoc, cS_app] at hT
        refine lv_iload hx hb dX5_goThrough_67 (lv_at hl 5 rfl) ?_
        refine lv_iload hx hb dX5_goThrough_69 (lv_at hl 8 rfl) ?_
        refine lv_iload hx hb dX5_goThrough_71 (lv_at hl 8 rfl) ?_
        refine lv_imul hx hb dX5_goThrough_73 ?_
        refine lv_topi (fun z_7 ez_7 => ?_)
        obtain rfl : z_7 = iZ (ya * ya) := ez_7.trans (zmul rfl rfl)
        refine lv_isub hx hb dX5_goThrough_74 ?_
        refine lv_topi (fun z_8 ez_8 => ?_)
        obtain rfl : z_8 = iZ (N - (ya * ya)) := ez_8.trans (zsub rfl rfl)
        refine lv_iload hx hb dX5_goThrough_75 (lv_at hl 9 rfl) ?_
        refine lv_iload hx hb dX5_goThrough_77 (lv_at hl 9 rfl) ?_
        refine lv_imul hx hb dX5_goThrough_79 ?_
        refine lv_topi (fun z_9 ez_9 => ?_)
        obtain rfl : z_9 = iZ (yb * yb) := ez_9.trans (zmul rfl rfl)
        refine lv_isub hx hb dX5_goThrough_80 ?_
        refine lv_topi (fun z_10 ez_10 => ?_)
        obtain rfl : z_10 = iZ ((N - (ya * ya)) - (yb * yb)) := ez_10.trans (zsub rfl rfl)
        refine lv_iload hx hb dX5_goThrough_81 (lv_at hl 0 rfl) ?_
        refine lv_iload hx hb dX5_goThrough_83 (lv_at hl 0 rfl) ?_
        refine lv_imul hx hb dX5_goThrough_85 ?_
        refine lv_topi (fun z_11 ez_11 => ?_)
        obtain rfl : z_11 = iZ (yc * yc) := ez_11.trans (zmul rfl rfl)
        refine lv_isub hx hb dX5_goThrough_86 ?_
        refine lv_topi (fun z_12 ez_12 => ?_)
        obtain rfl : z_12 = iZ (((N - (ya * ya)) - (yb * yb)) - (yc * yc)) := ez_12.trans (zsub rfl rfl)
        refine lv_istore (lv' := [(10, .int (iZ (((N - (ya * ya)) - (yb * yb)) - (yc * yc)))), (9, .int (iZ yc)), (0, .ref o), (1, .int (nI n0)), (2, .int (nI 1)), (3, .int (-1)), (4, .int (iZ N)), (5, .int (nI M)), (6, .int (nI cn)), (7, .int (iZ ya)), (8, .int (iZ yb))]) hx hb dX5_goThrough_87 hl (by decide) rfl (fun ls hl => ?_)
        refine lv_iload hx hb dX5_goThrough_89 (lv_at hl 0 rfl) ?_
        refine lv_if_ge (tgt := 98) hx hb dX5_goThrough_91 (by decide) (fun c_13 => ?_) (fun c_13 => ?_)
        · have c_13 := lez_y (a := 0) (b := ((N - (ya * ya)) - (yb * yb)) - (yc * yc)) (by decide) rfl (by omega) (by omega) c_13
          refine lv_iload hx hb dX5_goThrough_98 (lv_at hl 0 rfl) ?_
          refine lv_topi (fun z_14 ez_14 => ?_)
          obtain rfl : z_14 = nI (((N - (ya * ya)) - (yb * yb)) - (yc * yc)).toNat := ez_14.trans (iZ_nn (by omega))
          refine k_calli (wr := [(o, mO ad nf mo), (ad 8, a4 ca xv)]) (va_runS (As := [.int (nI (((N - (ya * ya)) - (yb * yb)) - (yc * yc)).toNat)]) (rest := []) ⟨hx, hb, hml, hown, hts⟩ (ct_X5_rootOf hk l D ca H.size ((((N - (ya * ya)) - (yb * yb)) - (yc * yc)).toNat) (by omega)) (va_cwS 1 hts (lw_S q788 q789 q24 q790) rfl rfl rfl (by decide +kernel) ⟨Nat.le_of_ble_eq_true rfl, Nat.le_of_ble_eq_true rfl⟩) (k_pre hk hK hN hP hD [] (by decide) rfl trivial) rfl rfl hl.1 rfl (lv_room (Nat.le_of_ble_eq_true rfl)) dX5_goThrough_100 ⟨Nat.le_of_ble_eq_true rfl, Nat.le_of_ble_eq_true rfl⟩) hP hD hS hA [] [0, 1] rfl rfl (by decide) (by decide) (fun r_15 u_16 H locs w_17 hP hD hxw_17 hzw_17 hqw_17 hS => ?_)
          obtain ⟨ew_17, hr1w_17, hr2w_17⟩ := w_17
          subst ew_17
          have hrd : u_16 ≤ 28 := root_le (b := 28) hr1w_17 (by omega)
          have hrs := sqz (a := ((u_16 : Nat) : Int)) (by omega) (by omega)
          refine lv_istore (lv' := [(11, .int (nI u_16)), (10, .int (iZ (((N - (ya * ya)) - (yb * yb)) - (yc * yc)))), (9, .int (iZ yc)), (0, .ref o), (1, .int (nI n0)), (2, .int (nI 1)), (3, .int (-1)), (4, .int (iZ N)), (5, .int (nI M)), (6, .int (nI cn)), (7, .int (iZ ya)), (8, .int (iZ yb))]) hx hb dX5_goThrough_103 hl (by decide) rfl (fun ls hl => ?_)
          refine lv_iconst (v := 0) hx hb dX5_goThrough_105 (by decide) ?_
          refine lv_istore (lv' := [(12, .int 0), (11, .int (nI u_16)), (10, .int (iZ (((N - (ya * ya)) - (yb * yb)) - (yc * yc)))), (9, .int (iZ yc)), (0, .ref o), (1, .int (nI n0)), (2, .int (nI 1)), (3, .int (-1)), (4, .int (iZ N)), (5, .int (nI M)), (6, .int (nI cn)), (7, .int (iZ ya)), (8, .int (iZ yb))]) hx hb dX5_goThrough_106 hl (by decide) rfl (fun ls hl => ?_)
          refine lv_iload hx hb dX5_goThrough_108 (lv_at hl 0 rfl) ?_
          refine lv_iconst (v := 2) hx hb dX5_goThrough_110 (by decide) ?_
          refine lv_icmp_ge (tgt := 279) hx hb dX5_goThrough_111 (by decide) (fun c_18 => absurd c_18 (by decide)) (fun c_18 => ?_)
          refine lv_iload hx hb dX5_goThrough_114 (lv_at hl 1 rfl) ?_
          refine lv_if_lt (tgt := 279) hx hb dX5_goThrough_116 (by decide) (fun c_19 => absurd c_19 (fun z => absurd (lt_y (a := u_16) (b := 0) rfl rfl (by omega) (by decide) z) (Nat.not_lt_zero _))) (fun c_19 => ?_)
          refine lv_iload hx hb dX5_goThrough_119 (lv_at hl 1 rfl) ?_
          refine lv_iload hx hb dX5_goThrough_121 (lv_at hl 1 rfl) ?_
          refine lv_imul hx hb dX5_goThrough_123 ?_
          refine lv_topi (fun z_20 ez_20 => ?_)
          obtain rfl : z_20 = iZ (((u_16 : Nat) : Int) * ((u_16 : Nat) : Int)) := ez_20.trans (zmul (iZ_n _) (iZ_n _))
          refine lv_iload hx hb dX5_goThrough_124 (lv_at hl 2 rfl) ?_
          refine lv_icmp_ne (tgt := 279) hx hb dX5_goThrough_126 (by decide) (fun c_21 => ?_) (fun c_21 => ?_)
          · have c_21 := eqz_no (a := ((u_16 : Nat) : Int) * ((u_16 : Nat) : Int)) (b := ((N - (ya * ya)) - (yb * yb)) - (yc * yc)) rfl rfl (by omega) (by omega) c_21
            refine lv_iinc (v := iZ (yc - 1)) (lv' := [(9, .int (iZ (yc - 1))), (12, .int 0), (11, .int (nI u_16)), (10, .int (iZ (((N - (ya * ya)) - (yb * yb)) - (yc * yc)))), (0, .ref o), (1, .int (nI n0)), (2, .int (nI 1)), (3, .int (-1)), (4, .int (iZ N)), (5, .int (nI M)), (6, .int (nI cn)), (7, .int (iZ ya)), (8, .int (iZ yb))]) hx hb dX5_goThrough_279 hl (k := 3) rfl ((zadd rfl (b := -1) (by decide)).trans (by rw [Int.sub_eq_add_neg])) (by decide) rfl (fun ls hl => ?_)
            refine lv_goto (tgt := 43) hx hb dX5_goThrough_282 (by decide) ?_
            have hds : ds N M ya yb yc = [] := ds_root (lf := ((N - (ya * ya)) - (yb * yb)) - (yc * yc)) (by omega) hr1w_17 hr2w_17 (by omega) c_21
            have hcs : cS 1 (S3 N M ya yb yc) = 0 := by rw [S3, hds]; rfl
            exact ih (yc - 1) cn xv (by omega) (by omega) (by omega) (by omega) _ _ _ hP hD hS (lv_sub hl [0, 4, 5, 6, 7, 8, 9, 10, 11, 12] rfl) 
          · have c_21 := eqz_y (a := ((u_16 : Nat) : Int) * ((u_16 : Nat) : Int)) (b := ((N - (ya * ya)) - (yb * yb)) - (yc * yc)) rfl rfl (by omega) (by omega) c_21
            refine lv_aload_n hx hb dX5_goThrough_129 rfl (lv_at hl 4 rfl) ?_
            refine va_get (D := D) (ci := 4) (v := .ref (ad 8)) (C := RX5) (T := TX5) (N := 18) hx hb hts in_X5 hown hK hP 0 rfl rfl 8 (by decide) (hts _ q581) (fun _ h9 => h9) rfl dX5_goThrough_130 ?_
            refine lv_iconst (v := 0) hx hb dX5_goThrough_133 (by decide) ?_
            refine lv_iload hx hb dX5_goThrough_134 (lv_at hl 11 rfl) ?_
            refine lv_i2l (v := (iZ ya).toInt64) hx hb dX5_goThrough_136 rfl ?_
            refine va_last hx hb hK hP hD hS 1 2 rfl rfl (vin (by decide)) dX5_goThrough_137 (fun H locs hP hD hS => ?_)
            rw [L4_s0] at hP hD
            have hP : va_P D vwCl [(o, mO ad nf mo), (ad 8, a4 ca ((iZ ya).toInt64, xv.2.1, xv.2.2.1, xv.2.2.2))] H := hP
            have hD : va_D A [(o, mO ad nf mo), (ad 8, a4 ca ((iZ ya).toInt64, xv.2.1, xv.2.2.1, xv.2.2.2))] := hD
            refine lv_aload_n hx hb dX5_goThrough_138 rfl (lv_at hl 4 rfl) ?_
            refine va_get (D := D) (ci := 4) (v := .ref (ad 8)) (C := RX5) (T := TX5) (N := 18) hx hb hts in_X5 hown hK hP 0 rfl rfl 8 (by decide) (hts _ q581) (fun _ h9 => h9) rfl dX5_goThrough_139 ?_
            refine lv_iconst (v := 1) hx hb dX5_goThrough_142 (by decide) ?_
            refine lv_iload hx hb dX5_goThrough_143 (lv_at hl 12 rfl) ?_
            refine lv_i2l (v := (iZ yb).toInt64) hx hb dX5_goThrough_145 rfl ?_
            refine va_last hx hb hK hP hD hS 1 2 rfl rfl (vin (by decide)) dX5_goThrough_146 (fun H locs hP hD hS => ?_)
            rw [L4_s1] at hP hD
            have hP : va_P D vwCl [(o, mO ad nf mo), (ad 8, a4 ca ((iZ ya).toInt64, (iZ yb).toInt64, xv.2.2.1, xv.2.2.2))] H := hP
            have hD : va_D A [(o, mO ad nf mo), (ad 8, a4 ca ((iZ ya).toInt64, (iZ yb).toInt64, xv.2.2.1, xv.2.2.2))] := hD
            refine lv_aload_n hx hb dX5_goThrough_147 rfl (lv_at hl 4 rfl) ?_
            refine va_get (D := D) (ci := 4) (v := .ref (ad 8)) (C := RX5) (T := TX5) (N := 18) hx hb hts in_X5 hown hK hP 0 rfl rfl 8 (by decide) (hts _ q581) (fun _ h9 => h9) rfl dX5_goThrough_148 ?_
            refine lv_iconst (v := 2) hx hb dX5_goThrough_151 (by decide) ?_
            refine lv_iload hx hb dX5_goThrough_152 (lv_at hl 3 rfl) ?_
            refine lv_i2l (v := (iZ yc).toInt64) hx hb dX5_goThrough_154 rfl ?_
            refine va_last hx hb hK hP hD hS 1 2 rfl rfl (vin (by decide)) dX5_goThrough_155 (fun H locs hP hD hS => ?_)
            rw [L4_s2] at hP hD
            have hP : va_P D vwCl [(o, mO ad nf mo), (ad 8, a4 ca ((iZ ya).toInt64, (iZ yb).toInt64, (iZ yc).toInt64, xv.2.2.2))] H := hP
            have hD : va_D A [(o, mO ad nf mo), (ad 8, a4 ca ((iZ ya).toInt64, (iZ yb).toInt64, (iZ yc).toInt64, xv.2.2.2))] := hD
            refine lv_aload_n hx hb dX5_goThrough_156 rfl (lv_at hl 4 rfl) ?_
            refine va_get (D := D) (ci := 4) (v := .ref (ad 8)) (C := RX5) (T := TX5) (N := 18) hx hb hts in_X5 hown hK hP 0 rfl rfl 8 (by decide) (hts _ q581) (fun _ h9 => h9) rfl dX5_goThrough_157 ?_
            refine lv_iconst (v := 3) hx hb dX5_goThrough_160 (by decide) ?_
            refine lv_iload hx hb dX5_goThrough_161 (lv_at hl 0 rfl) ?_
            refine lv_if_ne (tgt := 172) hx hb dX5_goThrough_163 (by decide) (fun c_22 => absurd (by decide) c_22) (fun c_22 => ?_)
            refine lv_iload hx hb dX5_goThrough_166 (lv_at hl 1 rfl) ?_
            refine lv_topi (fun z_23 ez_23 => ?_)
            obtain rfl : z_23 = iZ ((u_16 : Nat) : Int) := ez_23.trans (iZ_n u_16)
            refine lv_i2l (v := (iZ ((u_16 : Nat) : Int)).toInt64) hx hb dX5_goThrough_168 rfl ?_
            refine lv_goto (tgt := 176) hx hb dX5_goThrough_169 (by decide) ?_
            refine va_last hx hb hK hP hD hS 1 2 rfl rfl (vin (by decide)) dX5_goThrough_176 (fun H locs hP hD hS => ?_)
            rw [L4_s3] at hP hD
            have hP : va_P D vwCl [(o, mO ad nf mo), (ad 8, a4 ca ((iZ ya).toInt64, (iZ yb).toInt64, (iZ yc).toInt64, (iZ ((u_16 : Nat) : Int)).toInt64))] H := hP
            have hD : va_D A [(o, mO ad nf mo), (ad 8, a4 ca ((iZ ya).toInt64, (iZ yb).toInt64, (iZ yc).toInt64, (iZ ((u_16 : Nat) : Int)).toInt64))] := hD
            refine lv_iload hx hb dX5_goThrough_177 (lv_at hl 11 rfl) ?_
            refine lv_i2l (v := (iZ ya).toInt64) hx hb dX5_goThrough_179 rfl ?_
            refine lv_iload hx hb dX5_goThrough_180 (lv_at hl 12 rfl) ?_
            refine lv_i2l (v := (iZ yb).toInt64) hx hb dX5_goThrough_182 rfl ?_
            refine lv_iload hx hb dX5_goThrough_183 (lv_at hl 3 rfl) ?_
            refine lv_i2l (v := (iZ yc).toInt64) hx hb dX5_goThrough_185 rfl ?_
            refine lv_iload hx hb dX5_goThrough_186 (lv_at hl 1 rfl) ?_
            refine lv_topi (fun z_24 ez_24 => ?_)
            obtain rfl : z_24 = iZ ((u_16 : Nat) : Int) := ez_24.trans (iZ_n u_16)
            refine lv_i2l (v := (iZ ((u_16 : Nat) : Int)).toInt64) hx hb dX5_goThrough_188 rfl ?_
            refine k_calli (wr := [(o, mO ad nf mo), (ad 8, a4 ca ((iZ ya).toInt64, (iZ yb).toInt64, (iZ yc).toInt64, (iZ ((u_16 : Nat) : Int)).toInt64))]) (va_runS (As := [.long ((iZ ya).toInt64), .long ((iZ yb).toInt64), .long ((iZ yc).toInt64), .long ((iZ ((u_16 : Nat) : Int)).toInt64)]) (rest := []) ⟨hx, hb, hml, hown, hts⟩ (ct_X5_isOne hk l D ca H.size ((iZ ya).toInt64) ((iZ yb).toInt64) ((iZ yc).toInt64) ((iZ ((u_16 : Nat) : Int)).toInt64)) (va_cwS 4 hts (lw_S q570 q571 q24 q572) rfl rfl rfl (by decide +kernel) ⟨Nat.le_of_ble_eq_true rfl, Nat.le_of_ble_eq_true rfl⟩) (k_pre hk hK hN hP hD [] (by decide) rfl trivial) rfl rfl hl.1 rfl (lv_room (Nat.le_of_ble_eq_true rfl)) dX5_goThrough_189 ⟨Nat.le_of_ble_eq_true rfl, Nat.le_of_ble_eq_true rfl⟩) hP hD hS hA [] [0, 1] rfl rfl (by decide) (by decide) (fun r_25 u_26 H locs w_27 hP hD hxw_27 hzw_27 hqw_27 hS => ?_)
            obtain rfl : r_25 = bI (p_one ((iZ ya).toInt64) ((iZ yb).toInt64) ((iZ yc).toInt64) ((iZ ((u_16 : Nat) : Int)).toInt64)) := w_27
            refine lv_if_eq (tgt := 241) hx hb dX5_goThrough_192 (by decide) (fun c_28 => ?_) (fun c_28 => ?_)
            · have c_28 := bI_z0 c_28
              refine lv_iconst (v := 0) hx hb dX5_goThrough_241 (by decide) ?_
              refine lv_istore (lv' := [(13, .int 0), (12, .int 0), (11, .int (nI u_16)), (10, .int (iZ (((N - (ya * ya)) - (yb * yb)) - (yc * yc)))), (9, .int (iZ yc)), (0, .ref o), (1, .int (nI n0)), (2, .int (nI 1)), (3, .int (-1)), (4, .int (iZ N)), (5, .int (nI M)), (6, .int (nI cn)), (7, .int (iZ ya)), (8, .int (iZ yb))]) hx hb dX5_goThrough_242 hl (by decide) rfl (fun ls hl => ?_)
              refine lv_iload hx hb dX5_goThrough_244 (lv_at hl 0 rfl) ?_
              refine lv_if_eq (tgt := 258) hx hb dX5_goThrough_246 (by decide) (fun c_29 => ?_) (fun c_29 => absurd (by decide) c_29)
              refine lv_iload hx hb dX5_goThrough_258 (lv_at hl 11 rfl) ?_
              refine lv_iload hx hb dX5_goThrough_260 (lv_at hl 0 rfl) ?_
              refine lv_if_eq (tgt := 269) hx hb dX5_goThrough_262 (by decide) (fun c_30 => ?_) (fun c_30 => absurd (by decide) c_30)
              refine lv_iconst (v := 0) hx hb dX5_goThrough_269 (by decide) ?_
              refine lv_iadd hx hb dX5_goThrough_270 ?_
              refine lv_topi (fun z_31 ez_31 => ?_)
              obtain rfl : z_31 = nI cn := ez_31.trans (eq_add0 rfl)
              refine lv_istore (lv' := [(6, .int (nI cn)), (13, .int 0), (12, .int 0), (11, .int (nI u_16)), (10, .int (iZ (((N - (ya * ya)) - (yb * yb)) - (yc * yc)))), (9, .int (iZ yc)), (0, .ref o), (1, .int (nI n0)), (2, .int (nI 1)), (3, .int (-1)), (4, .int (iZ N)), (5, .int (nI M)), (7, .int (iZ ya)), (8, .int (iZ yb))]) hx hb dX5_goThrough_271 hl (by decide) rfl (fun ls hl => ?_)
              refine lv_iinc (v := 1) (lv' := [(12, .int 1), (6, .int (nI cn)), (13, .int 0), (11, .int (nI u_16)), (10, .int (iZ (((N - (ya * ya)) - (yb * yb)) - (yc * yc)))), (9, .int (iZ yc)), (0, .ref o), (1, .int (nI n0)), (2, .int (nI 1)), (3, .int (-1)), (4, .int (iZ N)), (5, .int (nI M)), (7, .int (iZ ya)), (8, .int (iZ yb))]) hx hb dX5_goThrough_273 hl (k := 2) rfl (by decide) (by decide) rfl (fun ls hl => ?_)
              refine lv_goto (tgt := 108) hx hb dX5_goThrough_276 (by decide) ?_
              refine lv_iload hx hb dX5_goThrough_108 (lv_at hl 0 rfl) ?_
              refine lv_iconst (v := 2) hx hb dX5_goThrough_110 (by decide) ?_
              refine lv_icmp_ge (tgt := 279) hx hb dX5_goThrough_111 (by decide) (fun c_32 => absurd c_32 (by decide)) (fun c_32 => ?_)
              refine lv_iload hx hb dX5_goThrough_114 (lv_at hl 3 rfl) ?_
              refine lv_if_lt (tgt := 279) hx hb dX5_goThrough_116 (by decide) (fun c_33 => absurd c_33 (fun z => absurd (lt_y (a := u_16) (b := 0) rfl rfl (by omega) (by decide) z) (Nat.not_lt_zero _))) (fun c_33 => ?_)
              refine lv_iload hx hb dX5_goThrough_119 (lv_at hl 3 rfl) ?_
              refine lv_iload hx hb dX5_goThrough_121 (lv_at hl 3 rfl) ?_
              refine lv_imul hx hb dX5_goThrough_123 ?_
              refine lv_topi (fun z_34 ez_34 => ?_)
              obtain rfl : z_34 = iZ (((u_16 : Nat) : Int) * ((u_16 : Nat) : Int)) := ez_34.trans (zmul (iZ_n _) (iZ_n _))
              refine lv_iload hx hb dX5_goThrough_124 (lv_at hl 4 rfl) ?_
              refine lv_icmp_ne (tgt := 279) hx hb dX5_goThrough_126 (by decide) (fun c_35 => absurd (show iZ (((u_16 : Nat) : Int) * ((u_16 : Nat) : Int)) = iZ (((N - (ya * ya)) - (yb * yb)) - (yc * yc)) from congrArg iZ c_21) c_35) (fun c_35 => ?_)
              refine lv_aload_n hx hb dX5_goThrough_129 rfl (lv_at hl 6 rfl) ?_
              refine va_get (D := D) (ci := 4) (v := .ref (ad 8)) (C := RX5) (T := TX5) (N := 18) hx hb hts in_X5 hown hK hP 0 rfl rfl 8 (by decide) (hts _ q581) (fun _ h9 => h9) rfl dX5_goThrough_130 ?_
              refine lv_iconst (v := 0) hx hb dX5_goThrough_133 (by decide) ?_
              refine lv_iload hx hb dX5_goThrough_134 (lv_at hl 12 rfl) ?_
              refine lv_i2l (v := (iZ ya).toInt64) hx hb dX5_goThrough_136 rfl ?_
              refine va_last hx hb hK hP hD hS 1 2 rfl rfl (vin (by decide)) dX5_goThrough_137 (fun H locs hP hD hS => ?_)
              rw [L4_s0] at hP hD
              have hP : va_P D vwCl [(o, mO ad nf mo), (ad 8, a4 ca ((iZ ya).toInt64, (iZ yb).toInt64, (iZ yc).toInt64, (iZ ((u_16 : Nat) : Int)).toInt64))] H := hP
              have hD : va_D A [(o, mO ad nf mo), (ad 8, a4 ca ((iZ ya).toInt64, (iZ yb).toInt64, (iZ yc).toInt64, (iZ ((u_16 : Nat) : Int)).toInt64))] := hD
              refine lv_aload_n hx hb dX5_goThrough_138 rfl (lv_at hl 6 rfl) ?_
              refine va_get (D := D) (ci := 4) (v := .ref (ad 8)) (C := RX5) (T := TX5) (N := 18) hx hb hts in_X5 hown hK hP 0 rfl rfl 8 (by decide) (hts _ q581) (fun _ h9 => h9) rfl dX5_goThrough_139 ?_
              refine lv_iconst (v := 1) hx hb dX5_goThrough_142 (by decide) ?_
              refine lv_iload hx hb dX5_goThrough_143 (lv_at hl 13 rfl) ?_
              refine lv_i2l (v := (iZ yb).toInt64) hx hb dX5_goThrough_145 rfl ?_
              refine va_last hx hb hK hP hD hS 1 2 rfl rfl (vin (by decide)) dX5_goThrough_146 (fun H locs hP hD hS => ?_)
              rw [L4_s1] at hP hD
              have hP : va_P D vwCl [(o, mO ad nf mo), (ad 8, a4 ca ((iZ ya).toInt64, (iZ yb).toInt64, (iZ yc).toInt64, (iZ ((u_16 : Nat) : Int)).toInt64))] H := hP
              have hD : va_D A [(o, mO ad nf mo), (ad 8, a4 ca ((iZ ya).toInt64, (iZ yb).toInt64, (iZ yc).toInt64, (iZ ((u_16 : Nat) : Int)).toInt64))] := hD
              refine lv_aload_n hx hb dX5_goThrough_147 rfl (lv_at hl 6 rfl) ?_
              refine va_get (D := D) (ci := 4) (v := .ref (ad 8)) (C := RX5) (T := TX5) (N := 18) hx hb hts in_X5 hown hK hP 0 rfl rfl 8 (by decide) (hts _ q581) (fun _ h9 => h9) rfl dX5_goThrough_148 ?_
              refine lv_iconst (v := 2) hx hb dX5_goThrough_151 (by decide) ?_
              refine lv_iload hx hb dX5_goThrough_152 (lv_at hl 5 rfl) ?_
              refine lv_i2l (v := (iZ yc).toInt64) hx hb dX5_goThrough_154 rfl ?_
              refine va_last hx hb hK hP hD hS 1 2 rfl rfl (vin (by decide)) dX5_goThrough_155 (fun H locs hP hD hS => ?_)
              rw [L4_s2] at hP hD
              have hP : va_P D vwCl [(o, mO ad nf mo), (ad 8, a4 ca ((iZ ya).toInt64, (iZ yb).toInt64, (iZ yc).toInt64, (iZ ((u_16 : Nat) : Int)).toInt64))] H := hP
              have hD : va_D A [(o, mO ad nf mo), (ad 8, a4 ca ((iZ ya).toInt64, (iZ yb).toInt64, (iZ yc).toInt64, (iZ ((u_16 : Nat) : Int)).toInt64))] := hD
              refine lv_aload_n hx hb dX5_goThrough_156 rfl (lv_at hl 6 rfl) ?_
              refine va_get (D := D) (ci := 4) (v := .ref (ad 8)) (C := RX5) (T := TX5) (N := 18) hx hb hts in_X5 hown hK hP 0 rfl rfl 8 (by decide) (hts _ q581) (fun _ h9 => h9) rfl dX5_goThrough_157 ?_
              refine lv_iconst (v := 3) hx hb dX5_goThrough_160 (by decide) ?_
              refine lv_iload hx hb dX5_goThrough_161 (lv_at hl 0 rfl) ?_
              refine lv_if_ne (tgt := 172) hx hb dX5_goThrough_163 (by decide) (fun c_36 => ?_) (fun c_36 => absurd c_36 (by decide))
              refine lv_iload hx hb dX5_goThrough_172 (lv_at hl 3 rfl) ?_
              refine lv_ineg hx hb dX5_goThrough_174 ?_
              refine lv_topi (fun z_37 ez_37 => ?_)
              obtain rfl : z_37 = iZ (-((u_16 : Nat) : Int)) := ez_37.trans (zneg (iZ_n _))
              refine lv_i2l (v := (iZ (-((u_16 : Nat) : Int))).toInt64) hx hb dX5_goThrough_175 rfl ?_
              refine va_last hx hb hK hP hD hS 1 2 rfl rfl (vin (by decide)) dX5_goThrough_176 (fun H locs hP hD hS => ?_)
              rw [L4_s3] at hP hD
              have hP : va_P D vwCl [(o, mO ad nf mo), (ad 8, a4 ca ((iZ ya).toInt64, (iZ yb).toInt64, (iZ yc).toInt64, (iZ (-((u_16 : Nat) : Int))).toInt64))] H := hP
              have hD : va_D A [(o, mO ad nf mo), (ad 8, a4 ca ((iZ ya).toInt64, (iZ yb).toInt64, (iZ yc).toInt64, (iZ (-((u_16 : Nat) : Int))).toInt64))] := hD
              refine lv_iload hx hb dX5_goThrough_177 (lv_at hl 12 rfl) ?_
              refine lv_i2l (v := (iZ ya).toInt64) hx hb dX5_goThrough_179 rfl ?_
              refine lv_iload hx hb dX5_goThrough_180 (lv_at hl 13 rfl) ?_
              refine lv_i2l (v := (iZ yb).toInt64) hx hb dX5_goThrough_182 rfl ?_
              refine lv_iload hx hb dX5_goThrough_183 (lv_at hl 5 rfl) ?_
              refine lv_i2l (v := (iZ yc).toInt64) hx hb dX5_goThrough_185 rfl ?_
              refine lv_iload hx hb dX5_goThrough_186 (lv_at hl 3 rfl) ?_
              refine lv_topi (fun z_38 ez_38 => ?_)
              obtain rfl : z_38 = iZ ((u_16 : Nat) : Int) := ez_38.trans (iZ_n u_16)
              refine lv_i2l (v := (iZ ((u_16 : Nat) : Int)).toInt64) hx hb dX5_goThrough_188 rfl ?_
              refine k_calli (wr := [(o, mO ad nf mo), (ad 8, a4 ca ((iZ ya).toInt64, (iZ yb).toInt64, (iZ yc).toInt64, (iZ (-((u_16 : Nat) : Int))).toInt64))]) (va_runS (As := [.long ((iZ ya).toInt64), .long ((iZ yb).toInt64), .long ((iZ yc).toInt64), .long ((iZ ((u_16 : Nat) : Int)).toInt64)]) (rest := []) ⟨hx, hb, hml, hown, hts⟩ (ct_X5_isOne hk l D ca H.size ((iZ ya).toInt64) ((iZ yb).toInt64) ((iZ yc).toInt64) ((iZ ((u_16 : Nat) : Int)).toInt64)) (va_cwS 4 hts (lw_S q570 q571 q24 q572) rfl rfl rfl (by decide +kernel) ⟨Nat.le_of_ble_eq_true rfl, Nat.le_of_ble_eq_true rfl⟩) (k_pre hk hK hN hP hD [] (by decide) rfl trivial) rfl rfl hl.1 rfl (lv_room (Nat.le_of_ble_eq_true rfl)) dX5_goThrough_189 ⟨Nat.le_of_ble_eq_true rfl, Nat.le_of_ble_eq_true rfl⟩) hP hD hS hA [] [0, 1] rfl rfl (by decide) (by decide) (fun r_39 u_40 H locs w_41 hP hD hxw_41 hzw_41 hqw_41 hS => ?_)
              obtain rfl : r_39 = bI (p_one ((iZ ya).toInt64) ((iZ yb).toInt64) ((iZ yc).toInt64) ((iZ ((u_16 : Nat) : Int)).toInt64)) := w_41
              refine lv_if_eq (tgt := 241) hx hb dX5_goThrough_192 (by decide) (fun c_42 => ?_) (fun c_42 => absurd (by rw [c_28]; rfl) c_42)
              refine lv_iconst (v := 0) hx hb dX5_goThrough_241 (by decide) ?_
              refine lv_istore (lv' := [(13, .int 0), (12, .int 1), (6, .int (nI cn)), (11, .int (nI u_16)), (10, .int (iZ (((N - (ya * ya)) - (yb * yb)) - (yc * yc)))), (9, .int (iZ yc)), (0, .ref o), (1, .int (nI n0)), (2, .int (nI 1)), (3, .int (-1)), (4, .int (iZ N)), (5, .int (nI M)), (7, .int (iZ ya)), (8, .int (iZ yb))]) hx hb dX5_goThrough_242 hl (by decide) rfl (fun ls hl => ?_)
              refine lv_iload hx hb dX5_goThrough_244 (lv_at hl 0 rfl) ?_
              refine lv_if_eq (tgt := 258) hx hb dX5_goThrough_246 (by decide) (fun c_43 => ?_) (fun c_43 => absurd (by decide) c_43)
              refine lv_iload hx hb dX5_goThrough_258 (lv_at hl 2 rfl) ?_
              refine lv_iload hx hb dX5_goThrough_260 (lv_at hl 0 rfl) ?_
              refine lv_if_eq (tgt := 269) hx hb dX5_goThrough_262 (by decide) (fun c_44 => ?_) (fun c_44 => absurd (by decide) c_44)
              refine lv_iconst (v := 0) hx hb dX5_goThrough_269 (by decide) ?_
              refine lv_iadd hx hb dX5_goThrough_270 ?_
              refine lv_topi (fun z_45 ez_45 => ?_)
              obtain rfl : z_45 = nI cn := ez_45.trans (eq_add0 rfl)
              refine lv_istore (lv' := [(6, .int (nI cn)), (13, .int 0), (12, .int 1), (11, .int (nI u_16)), (10, .int (iZ (((N - (ya * ya)) - (yb * yb)) - (yc * yc)))), (9, .int (iZ yc)), (0, .ref o), (1, .int (nI n0)), (2, .int (nI 1)), (3, .int (-1)), (4, .int (iZ N)), (5, .int (nI M)), (7, .int (iZ ya)), (8, .int (iZ yb))]) hx hb dX5_goThrough_271 hl (by decide) rfl (fun ls hl => ?_)
              refine lv_iinc (v := 2) (lv' := [(12, .int 2), (6, .int (nI cn)), (13, .int 0), (11, .int (nI u_16)), (10, .int (iZ (((N - (ya * ya)) - (yb * yb)) - (yc * yc)))), (9, .int (iZ yc)), (0, .ref o), (1, .int (nI n0)), (2, .int (nI 1)), (3, .int (-1)), (4, .int (iZ N)), (5, .int (nI M)), (7, .int (iZ ya)), (8, .int (iZ yb))]) hx hb dX5_goThrough_273 hl (k := 2) rfl (by decide) (by decide) rfl (fun ls hl => ?_)
              refine lv_goto (tgt := 108) hx hb dX5_goThrough_276 (by decide) ?_
              refine lv_iload hx hb dX5_goThrough_108 (lv_at hl 0 rfl) ?_
              refine lv_iconst (v := 2) hx hb dX5_goThrough_110 (by decide) ?_
              refine lv_icmp_ge (tgt := 279) hx hb dX5_goThrough_111 (by decide) (fun c_46 => ?_) (fun c_46 => absurd (by decide) c_46)
              refine lv_iinc (v := iZ (yc - 1)) (lv' := [(9, .int (iZ (yc - 1))), (12, .int 2), (6, .int (nI cn)), (13, .int 0), (11, .int (nI u_16)), (10, .int (iZ (((N - (ya * ya)) - (yb * yb)) - (yc * yc)))), (0, .ref o), (1, .int (nI n0)), (2, .int (nI 1)), (3, .int (-1)), (4, .int (iZ N)), (5, .int (nI M)), (7, .int (iZ ya)), (8, .int (iZ yb))]) hx hb dX5_goThrough_279 hl (k := 5) rfl ((zadd rfl (b := -1) (by decide)).trans (by rw [Int.sub_eq_add_neg])) (by decide) rfl (fun ls hl => ?_)
              refine lv_goto (tgt := 43) hx hb dX5_goThrough_282 (by decide) ?_
              have hpp := one_par (a := ya) (b := yb) (c := yc) (d := ((u_16 : Nat) : Int)) (by omega) (by omega) (by omega) (by omega)
              have hds : ds N M ya yb yc = [] := ds_none (fun d9 => okQ_f (fun z9 => by have hz9 := sq_inj (x := d9) (d := ((u_16 : Nat) : Int)) (by omega) (by omega); rw [c_28] at hpp; have hn9 : ¬ ((ya - yb) % 2 = 0 ∧ (ya - yc) % 2 = 0 ∧ (ya - ((u_16 : Nat) : Int)) % 2 = 0) := (fun q9 => absurd (hpp.mpr q9) (by decide)); exact hn9 ⟨z9.2.1, z9.2.2.1, by rcases hz9 with e9 | e9 <;> (rw [e9] at z9; omega)⟩))
              have hcs : cS 1 (S3 N M ya yb yc) = 0 := by rw [S3, hds]; rfl
              exact ih (yc - 1) cn ((iZ ya).toInt64, (iZ yb).toInt64, (iZ yc).toInt64, (iZ (-((u_16 : Nat) : Int))).toInt64) (by omega) (by omega) (by omega) (by omega) _ _ _ hP hD hS (lv_sub hl [0, 6, 7, 8, 9, 10, 11, 2, 12, 13] rfl) 
            · have c_28 := bI_z1 c_28
              refine lv_iload hx hb dX5_goThrough_195 (lv_at hl 0 rfl) ?_
              refine lv_if_eq (tgt := 205) hx hb dX5_goThrough_197 (by decide) (fun c_47 => ?_) (fun c_47 => absurd (by decide) c_47)
              refine lv_iload_n hx hb dX5_goThrough_205 rfl (lv_at hl 6 rfl) ?_
              refine lv_if_eq (tgt := 237) hx hb dX5_goThrough_206 (by decide) (fun c_48 => absurd c_48 (by decide)) (fun c_48 => ?_)
              refine lv_iload_n hx hb dX5_goThrough_209 rfl (lv_at hl 6 rfl) ?_
              refine lv_iconst (v := 1) hx hb dX5_goThrough_210 (by decide) ?_
              refine lv_icmp_ne (tgt := 221) hx hb dX5_goThrough_211 (by decide) (fun c_49 => absurd rfl c_49) (fun c_49 => ?_)
              refine lv_iload hx hb dX5_goThrough_214 (lv_at hl 11 rfl) ?_
              refine lv_iconst (v := 2) hx hb dX5_goThrough_216 (by decide) ?_
              refine lv_irem hx hb dX5_goThrough_217 (by decide) ?_
              refine lv_topi (fun z_50 ez_50 => ?_)
              obtain rfl : z_50 = iZ (rm2 (ya)) := ez_50.trans (remz2 rfl (by omega))
              have bz_50 := rm2_bd (ya)
              refine lv_if_eq (tgt := 237) hx hb dX5_goThrough_218 (by decide) (fun c_51 => ?_) (fun c_51 => ?_)
              · have c_51 := eqz_y (a := rm2 (ya)) (b := 0) rfl (by decide) (by omega) (by omega) c_51
                refine lv_iconst (v := 1) hx hb dX5_goThrough_237 (by decide) ?_
                refine lv_goto (tgt := 242) hx hb dX5_goThrough_238 (by decide) ?_
                refine lv_istore (lv' := [(13, .int 1), (12, .int 0), (11, .int (nI u_16)), (10, .int (iZ (((N - (ya * ya)) - (yb * yb)) - (yc * yc)))), (9, .int (iZ yc)), (0, .ref o), (1, .int (nI n0)), (2, .int (nI 1)), (3, .int (-1)), (4, .int (iZ N)), (5, .int (nI M)), (6, .int (nI cn)), (7, .int (iZ ya)), (8, .int (iZ yb))]) hx hb dX5_goThrough_242 hl (by decide) rfl (fun ls hl => ?_)
                refine lv_iload hx hb dX5_goThrough_244 (lv_at hl 0 rfl) ?_
                refine lv_if_eq (tgt := 258) hx hb dX5_goThrough_246 (by decide) (fun c_52 => absurd c_52 (by decide)) (fun c_52 => ?_)
                refine lv_iload hx hb dX5_goThrough_249 (lv_at hl 11 rfl) ?_
                refine lv_iload_n hx hb dX5_goThrough_251 rfl (lv_at hl 8 rfl) ?_
                refine lv_icmp_ne (tgt := 258) hx hb dX5_goThrough_252 (by decide) (fun c_53 => ?_) (fun c_53 => absurd c_53 (nI_m1 (by omega)))
                refine lv_iload hx hb dX5_goThrough_258 (lv_at hl 11 rfl) ?_
                refine lv_iload hx hb dX5_goThrough_260 (lv_at hl 0 rfl) ?_
                refine lv_if_eq (tgt := 269) hx hb dX5_goThrough_262 (by decide) (fun c_54 => absurd c_54 (by decide)) (fun c_54 => ?_)
                refine lv_iconst (v := 1) hx hb dX5_goThrough_265 (by decide) ?_
                refine lv_goto (tgt := 270) hx hb dX5_goThrough_266 (by decide) ?_
                refine lv_iadd hx hb dX5_goThrough_270 ?_
                refine lv_topi (fun z_55 ez_55 => ?_)
                obtain rfl : z_55 = nI (cn + 1) := ez_55.trans (eq_add rfl rfl)
                refine lv_istore (lv' := [(6, .int (nI (cn + 1))), (13, .int 1), (12, .int 0), (11, .int (nI u_16)), (10, .int (iZ (((N - (ya * ya)) - (yb * yb)) - (yc * yc)))), (9, .int (iZ yc)), (0, .ref o), (1, .int (nI n0)), (2, .int (nI 1)), (3, .int (-1)), (4, .int (iZ N)), (5, .int (nI M)), (7, .int (iZ ya)), (8, .int (iZ yb))]) hx hb dX5_goThrough_271 hl (by decide) rfl (fun ls hl => ?_)
                refine lv_iinc (v := 1) (lv' := [(12, .int 1), (6, .int (nI (cn + 1))), (13, .int 1), (11, .int (nI u_16)), (10, .int (iZ (((N - (ya * ya)) - (yb * yb)) - (yc * yc)))), (9, .int (iZ yc)), (0, .ref o), (1, .int (nI n0)), (2, .int (nI 1)), (3, .int (-1)), (4, .int (iZ N)), (5, .int (nI M)), (7, .int (iZ ya)), (8, .int (iZ yb))]) hx hb dX5_goThrough_273 hl (k := 2) rfl (by decide) (by decide) rfl (fun ls hl => ?_)
                refine lv_goto (tgt := 108) hx hb dX5_goThrough_276 (by decide) ?_
                refine lv_iload hx hb dX5_goThrough_108 (lv_at hl 0 rfl) ?_
                refine lv_iconst (v := 2) hx hb dX5_goThrough_110 (by decide) ?_
                refine lv_icmp_ge (tgt := 279) hx hb dX5_goThrough_111 (by decide) (fun c_56 => absurd c_56 (by decide)) (fun c_56 => ?_)
                refine lv_iload hx hb dX5_goThrough_114 (lv_at hl 3 rfl) ?_
                refine lv_if_lt (tgt := 279) hx hb dX5_goThrough_116 (by decide) (fun c_57 => absurd c_57 (fun z => absurd (lt_y (a := u_16) (b := 0) rfl rfl (by omega) (by decide) z) (Nat.not_lt_zero _))) (fun c_57 => ?_)
                refine lv_iload hx hb dX5_goThrough_119 (lv_at hl 3 rfl) ?_
                refine lv_iload hx hb dX5_goThrough_121 (lv_at hl 3 rfl) ?_
                refine lv_imul hx hb dX5_goThrough_123 ?_
                refine lv_topi (fun z_58 ez_58 => ?_)
                obtain rfl : z_58 = iZ (((u_16 : Nat) : Int) * ((u_16 : Nat) : Int)) := ez_58.trans (zmul (iZ_n _) (iZ_n _))
                refine lv_iload hx hb dX5_goThrough_124 (lv_at hl 4 rfl) ?_
                refine lv_icmp_ne (tgt := 279) hx hb dX5_goThrough_126 (by decide) (fun c_59 => absurd (show iZ (((u_16 : Nat) : Int) * ((u_16 : Nat) : Int)) = iZ (((N - (ya * ya)) - (yb * yb)) - (yc * yc)) from congrArg iZ c_21) c_59) (fun c_59 => ?_)
                refine lv_aload_n hx hb dX5_goThrough_129 rfl (lv_at hl 6 rfl) ?_
                refine va_get (D := D) (ci := 4) (v := .ref (ad 8)) (C := RX5) (T := TX5) (N := 18) hx hb hts in_X5 hown hK hP 0 rfl rfl 8 (by decide) (hts _ q581) (fun _ h9 => h9) rfl dX5_goThrough_130 ?_
                refine lv_iconst (v := 0) hx hb dX5_goThrough_133 (by decide) ?_
                refine lv_iload hx hb dX5_goThrough_134 (lv_at hl 12 rfl) ?_
                refine lv_i2l (v := (iZ ya).toInt64) hx hb dX5_goThrough_136 rfl ?_
                refine va_last hx hb hK hP hD hS 1 2 rfl rfl (vin (by decide)) dX5_goThrough_137 (fun H locs hP hD hS => ?_)
                rw [L4_s0] at hP hD
                have hP : va_P D vwCl [(o, mO ad nf mo), (ad 8, a4 ca ((iZ ya).toInt64, (iZ yb).toInt64, (iZ yc).toInt64, (iZ ((u_16 : Nat) : Int)).toInt64))] H := hP
                have hD : va_D A [(o, mO ad nf mo), (ad 8, a4 ca ((iZ ya).toInt64, (iZ yb).toInt64, (iZ yc).toInt64, (iZ ((u_16 : Nat) : Int)).toInt64))] := hD
                refine lv_aload_n hx hb dX5_goThrough_138 rfl (lv_at hl 6 rfl) ?_
                refine va_get (D := D) (ci := 4) (v := .ref (ad 8)) (C := RX5) (T := TX5) (N := 18) hx hb hts in_X5 hown hK hP 0 rfl rfl 8 (by decide) (hts _ q581) (fun _ h9 => h9) rfl dX5_goThrough_139 ?_
                refine lv_iconst (v := 1) hx hb dX5_goThrough_142 (by decide) ?_
                refine lv_iload hx hb dX5_goThrough_143 (lv_at hl 13 rfl) ?_
                refine lv_i2l (v := (iZ yb).toInt64) hx hb dX5_goThrough_145 rfl ?_
                refine va_last hx hb hK hP hD hS 1 2 rfl rfl (vin (by decide)) dX5_goThrough_146 (fun H locs hP hD hS => ?_)
                rw [L4_s1] at hP hD
                have hP : va_P D vwCl [(o, mO ad nf mo), (ad 8, a4 ca ((iZ ya).toInt64, (iZ yb).toInt64, (iZ yc).toInt64, (iZ ((u_16 : Nat) : Int)).toInt64))] H := hP
                have hD : va_D A [(o, mO ad nf mo), (ad 8, a4 ca ((iZ ya).toInt64, (iZ yb).toInt64, (iZ yc).toInt64, (iZ ((u_16 : Nat) : Int)).toInt64))] := hD
                refine lv_aload_n hx hb dX5_goThrough_147 rfl (lv_at hl 6 rfl) ?_
                refine va_get (D := D) (ci := 4) (v := .ref (ad 8)) (C := RX5) (T := TX5) (N := 18) hx hb hts in_X5 hown hK hP 0 rfl rfl 8 (by decide) (hts _ q581) (fun _ h9 => h9) rfl dX5_goThrough_148 ?_
                refine lv_iconst (v := 2) hx hb dX5_goThrough_151 (by decide) ?_
                refine lv_iload hx hb dX5_goThrough_152 (lv_at hl 5 rfl) ?_
                refine lv_i2l (v := (iZ yc).toInt64) hx hb dX5_goThrough_154 rfl ?_
                refine va_last hx hb hK hP hD hS 1 2 rfl rfl (vin (by decide)) dX5_goThrough_155 (fun H locs hP hD hS => ?_)
                rw [L4_s2] at hP hD
                have hP : va_P D vwCl [(o, mO ad nf mo), (ad 8, a4 ca ((iZ ya).toInt64, (iZ yb).toInt64, (iZ yc).toInt64, (iZ ((u_16 : Nat) : Int)).toInt64))] H := hP
                have hD : va_D A [(o, mO ad nf mo), (ad 8, a4 ca ((iZ ya).toInt64, (iZ yb).toInt64, (iZ yc).toInt64, (iZ ((u_16 : Nat) : Int)).toInt64))] := hD
                refine lv_aload_n hx hb dX5_goThrough_156 rfl (lv_at hl 6 rfl) ?_
                refine va_get (D := D) (ci := 4) (v := .ref (ad 8)) (C := RX5) (T := TX5) (N := 18) hx hb hts in_X5 hown hK hP 0 rfl rfl 8 (by decide) (hts _ q581) (fun _ h9 => h9) rfl dX5_goThrough_157 ?_
                refine lv_iconst (v := 3) hx hb dX5_goThrough_160 (by decide) ?_
                refine lv_iload hx hb dX5_goThrough_161 (lv_at hl 0 rfl) ?_
                refine lv_if_ne (tgt := 172) hx hb dX5_goThrough_163 (by decide) (fun c_60 => ?_) (fun c_60 => absurd c_60 (by decide))
                refine lv_iload hx hb dX5_goThrough_172 (lv_at hl 3 rfl) ?_
                refine lv_ineg hx hb dX5_goThrough_174 ?_
                refine lv_topi (fun z_61 ez_61 => ?_)
                obtain rfl : z_61 = iZ (-((u_16 : Nat) : Int)) := ez_61.trans (zneg (iZ_n _))
                refine lv_i2l (v := (iZ (-((u_16 : Nat) : Int))).toInt64) hx hb dX5_goThrough_175 rfl ?_
                refine va_last hx hb hK hP hD hS 1 2 rfl rfl (vin (by decide)) dX5_goThrough_176 (fun H locs hP hD hS => ?_)
                rw [L4_s3] at hP hD
                have hP : va_P D vwCl [(o, mO ad nf mo), (ad 8, a4 ca ((iZ ya).toInt64, (iZ yb).toInt64, (iZ yc).toInt64, (iZ (-((u_16 : Nat) : Int))).toInt64))] H := hP
                have hD : va_D A [(o, mO ad nf mo), (ad 8, a4 ca ((iZ ya).toInt64, (iZ yb).toInt64, (iZ yc).toInt64, (iZ (-((u_16 : Nat) : Int))).toInt64))] := hD
                refine lv_iload hx hb dX5_goThrough_177 (lv_at hl 12 rfl) ?_
                refine lv_i2l (v := (iZ ya).toInt64) hx hb dX5_goThrough_179 rfl ?_
                refine lv_iload hx hb dX5_goThrough_180 (lv_at hl 13 rfl) ?_
                refine lv_i2l (v := (iZ yb).toInt64) hx hb dX5_goThrough_182 rfl ?_
                refine lv_iload hx hb dX5_goThrough_183 (lv_at hl 5 rfl) ?_
                refine lv_i2l (v := (iZ yc).toInt64) hx hb dX5_goThrough_185 rfl ?_
                refine lv_iload hx hb dX5_goThrough_186 (lv_at hl 3 rfl) ?_
                refine lv_topi (fun z_62 ez_62 => ?_)
                obtain rfl : z_62 = iZ ((u_16 : Nat) : Int) := ez_62.trans (iZ_n u_16)
                refine lv_i2l (v := (iZ ((u_16 : Nat) : Int)).toInt64) hx hb dX5_goThrough_188 rfl ?_
                refine k_calli (wr := [(o, mO ad nf mo), (ad 8, a4 ca ((iZ ya).toInt64, (iZ yb).toInt64, (iZ yc).toInt64, (iZ (-((u_16 : Nat) : Int))).toInt64))]) (va_runS (As := [.long ((iZ ya).toInt64), .long ((iZ yb).toInt64), .long ((iZ yc).toInt64), .long ((iZ ((u_16 : Nat) : Int)).toInt64)]) (rest := []) ⟨hx, hb, hml, hown, hts⟩ (ct_X5_isOne hk l D ca H.size ((iZ ya).toInt64) ((iZ yb).toInt64) ((iZ yc).toInt64) ((iZ ((u_16 : Nat) : Int)).toInt64)) (va_cwS 4 hts (lw_S q570 q571 q24 q572) rfl rfl rfl (by decide +kernel) ⟨Nat.le_of_ble_eq_true rfl, Nat.le_of_ble_eq_true rfl⟩) (k_pre hk hK hN hP hD [] (by decide) rfl trivial) rfl rfl hl.1 rfl (lv_room (Nat.le_of_ble_eq_true rfl)) dX5_goThrough_189 ⟨Nat.le_of_ble_eq_true rfl, Nat.le_of_ble_eq_true rfl⟩) hP hD hS hA [] [0, 1] rfl rfl (by decide) (by decide) (fun r_63 u_64 H locs w_65 hP hD hxw_65 hzw_65 hqw_65 hS => ?_)
                obtain rfl : r_63 = bI (p_one ((iZ ya).toInt64) ((iZ yb).toInt64) ((iZ yc).toInt64) ((iZ ((u_16 : Nat) : Int)).toInt64)) := w_65
                refine lv_if_eq (tgt := 241) hx hb dX5_goThrough_192 (by decide) (fun c_66 => absurd c_66 (by rw [c_28]; decide)) (fun c_66 => ?_)
                refine lv_iload hx hb dX5_goThrough_195 (lv_at hl 0 rfl) ?_
                refine lv_if_eq (tgt := 205) hx hb dX5_goThrough_197 (by decide) (fun c_67 => absurd c_67 (by decide)) (fun c_67 => ?_)
                refine lv_iload hx hb dX5_goThrough_200 (lv_at hl 3 rfl) ?_
                refine lv_if_le (tgt := 241) hx hb dX5_goThrough_202 (by decide) (fun c_68 => ?_) (fun c_68 => ?_)
                · have c_68 := le_y (a := u_16) (b := 0) rfl rfl (by omega) (by omega) c_68
                  refine lv_iconst (v := 0) hx hb dX5_goThrough_241 (by decide) ?_
                  refine lv_istore (lv' := [(13, .int 0), (12, .int 1), (6, .int (nI (cn + 1))), (11, .int (nI u_16)), (10, .int (iZ (((N - (ya * ya)) - (yb * yb)) - (yc * yc)))), (9, .int (iZ yc)), (0, .ref o), (1, .int (nI n0)), (2, .int (nI 1)), (3, .int (-1)), (4, .int (iZ N)), (5, .int (nI M)), (7, .int (iZ ya)), (8, .int (iZ yb))]) hx hb dX5_goThrough_242 hl (by decide) rfl (fun ls hl => ?_)
                  refine lv_iload hx hb dX5_goThrough_244 (lv_at hl 0 rfl) ?_
                  refine lv_if_eq (tgt := 258) hx hb dX5_goThrough_246 (by decide) (fun c_69 => ?_) (fun c_69 => absurd (by decide) c_69)
                  refine lv_iload hx hb dX5_goThrough_258 (lv_at hl 2 rfl) ?_
                  refine lv_iload hx hb dX5_goThrough_260 (lv_at hl 0 rfl) ?_
                  refine lv_if_eq (tgt := 269) hx hb dX5_goThrough_262 (by decide) (fun c_70 => ?_) (fun c_70 => absurd (by decide) c_70)
                  refine lv_iconst (v := 0) hx hb dX5_goThrough_269 (by decide) ?_
                  refine lv_iadd hx hb dX5_goThrough_270 ?_
                  refine lv_topi (fun z_71 ez_71 => ?_)
                  obtain rfl : z_71 = nI (cn + 1) := ez_71.trans (eq_add0 rfl)
                  refine lv_istore (lv' := [(6, .int (nI (cn + 1))), (13, .int 0), (12, .int 1), (11, .int (nI u_16)), (10, .int (iZ (((N - (ya * ya)) - (yb * yb)) - (yc * yc)))), (9, .int (iZ yc)), (0, .ref o), (1, .int (nI n0)), (2, .int (nI 1)), (3, .int (-1)), (4, .int (iZ N)), (5, .int (nI M)), (7, .int (iZ ya)), (8, .int (iZ yb))]) hx hb dX5_goThrough_271 hl (by decide) rfl (fun ls hl => ?_)
                  refine lv_iinc (v := 2) (lv' := [(12, .int 2), (6, .int (nI (cn + 1))), (13, .int 0), (11, .int (nI u_16)), (10, .int (iZ (((N - (ya * ya)) - (yb * yb)) - (yc * yc)))), (9, .int (iZ yc)), (0, .ref o), (1, .int (nI n0)), (2, .int (nI 1)), (3, .int (-1)), (4, .int (iZ N)), (5, .int (nI M)), (7, .int (iZ ya)), (8, .int (iZ yb))]) hx hb dX5_goThrough_273 hl (k := 2) rfl (by decide) (by decide) rfl (fun ls hl => ?_)
                  refine lv_goto (tgt := 108) hx hb dX5_goThrough_276 (by decide) ?_
                  refine lv_iload hx hb dX5_goThrough_108 (lv_at hl 0 rfl) ?_
                  refine lv_iconst (v := 2) hx hb dX5_goThrough_110 (by decide) ?_
                  refine lv_icmp_ge (tgt := 279) hx hb dX5_goThrough_111 (by decide) (fun c_72 => ?_) (fun c_72 => absurd (by decide) c_72)
                  refine lv_iinc (v := iZ (yc - 1)) (lv' := [(9, .int (iZ (yc - 1))), (12, .int 2), (6, .int (nI (cn + 1))), (13, .int 0), (11, .int (nI u_16)), (10, .int (iZ (((N - (ya * ya)) - (yb * yb)) - (yc * yc)))), (0, .ref o), (1, .int (nI n0)), (2, .int (nI 1)), (3, .int (-1)), (4, .int (iZ N)), (5, .int (nI M)), (7, .int (iZ ya)), (8, .int (iZ yb))]) hx hb dX5_goThrough_279 hl (k := 5) rfl ((zadd rfl (b := -1) (by decide)).trans (by rw [Int.sub_eq_add_neg])) (by decide) rfl (fun ls hl => ?_)
                  refine lv_goto (tgt := 43) hx hb dX5_goThrough_282 (by decide) ?_
                  have hpp := one_par (a := ya) (b := yb) (c := yc) (d := ((u_16 : Nat) : Int)) (by omega) (by omega) (by omega) (by omega)
                  have hpq := hpp.mp c_28
                  have hds := ds_sq (M := M) (N := N) (a := ya) (b := yb) (c := yc) (lf := ((N - (ya * ya)) - (yb * yb)) - (yc * yc)) (by omega) hpq.1 hpq.2.1 (by rw [hNn]; omega) (d := u_16) (by rw [Int.natCast_mul]; omega) (by omega)
                  rw [if_neg (show ¬ 0 < u_16 by omega)] at hds
                  have hu0 : u_16 = 0 := by omega
                  have hcs : cS 1 (S3 N M ya yb yc) = 1 := by rw [S3, hds]; simp only [List.map_cons, List.map_nil, cS, cW_1y (q := (ya, yb, yc, (0 : Int))) ((rm2_0 ya).mp c_51)]
                  exact ih (yc - 1) (cn + 1) ((iZ ya).toInt64, (iZ yb).toInt64, (iZ yc).toInt64, (iZ (-((u_16 : Nat) : Int))).toInt64) (by omega) (by omega) (by omega) (by omega) _ _ _ hP hD hS (lv_sub hl [0, 6, 7, 8, 9, 10, 11, 2, 12, 13] rfl) 
                · have c_68 := le_no (a := u_16) (b := 0) rfl rfl (by omega) (by omega) c_68
                  refine lv_iload_n hx hb dX5_goThrough_205 rfl (lv_at hl 8 rfl) ?_
                  refine lv_if_eq (tgt := 237) hx hb dX5_goThrough_206 (by decide) (fun c_73 => absurd c_73 (by decide)) (fun c_73 => ?_)
                  refine lv_iload_n hx hb dX5_goThrough_209 rfl (lv_at hl 8 rfl) ?_
                  refine lv_iconst (v := 1) hx hb dX5_goThrough_210 (by decide) ?_
                  refine lv_icmp_ne (tgt := 221) hx hb dX5_goThrough_211 (by decide) (fun c_74 => absurd rfl c_74) (fun c_74 => ?_)
                  refine lv_iload hx hb dX5_goThrough_214 (lv_at hl 12 rfl) ?_
                  refine lv_iconst (v := 2) hx hb dX5_goThrough_216 (by decide) ?_
                  refine lv_irem hx hb dX5_goThrough_217 (by decide) ?_
                  refine lv_topi (fun z_75 ez_75 => ?_)
                  obtain rfl : z_75 = iZ (rm2 (ya)) := ez_75.trans (remz2 rfl (by omega))
                  have bz_75 := rm2_bd (ya)
                  refine lv_if_eq (tgt := 237) hx hb dX5_goThrough_218 (by decide) (fun c_76 => ?_) (fun c_76 => absurd (show iZ (rm2 ya) = 0 from by rw [c_51]; rfl) c_76)
                  refine lv_iconst (v := 1) hx hb dX5_goThrough_237 (by decide) ?_
                  refine lv_goto (tgt := 242) hx hb dX5_goThrough_238 (by decide) ?_
                  refine lv_istore (lv' := [(13, .int 1), (12, .int 1), (6, .int (nI (cn + 1))), (11, .int (nI u_16)), (10, .int (iZ (((N - (ya * ya)) - (yb * yb)) - (yc * yc)))), (9, .int (iZ yc)), (0, .ref o), (1, .int (nI n0)), (2, .int (nI 1)), (3, .int (-1)), (4, .int (iZ N)), (5, .int (nI M)), (7, .int (iZ ya)), (8, .int (iZ yb))]) hx hb dX5_goThrough_242 hl (by decide) rfl (fun ls hl => ?_)
                  refine lv_iload hx hb dX5_goThrough_244 (lv_at hl 0 rfl) ?_
                  refine lv_if_eq (tgt := 258) hx hb dX5_goThrough_246 (by decide) (fun c_77 => absurd c_77 (by decide)) (fun c_77 => ?_)
                  refine lv_iload hx hb dX5_goThrough_249 (lv_at hl 2 rfl) ?_
                  refine lv_iload_n hx hb dX5_goThrough_251 rfl (lv_at hl 9 rfl) ?_
                  refine lv_icmp_ne (tgt := 258) hx hb dX5_goThrough_252 (by decide) (fun c_78 => ?_) (fun c_78 => absurd c_78 (nI_m1 (by omega)))
                  refine lv_iload hx hb dX5_goThrough_258 (lv_at hl 2 rfl) ?_
                  refine lv_iload hx hb dX5_goThrough_260 (lv_at hl 0 rfl) ?_
                  refine lv_if_eq (tgt := 269) hx hb dX5_goThrough_262 (by decide) (fun c_79 => absurd c_79 (by decide)) (fun c_79 => ?_)
                  refine lv_iconst (v := 1) hx hb dX5_goThrough_265 (by decide) ?_
                  refine lv_goto (tgt := 270) hx hb dX5_goThrough_266 (by decide) ?_
                  refine lv_iadd hx hb dX5_goThrough_270 ?_
                  refine lv_topi (fun z_80 ez_80 => ?_)
                  obtain rfl : z_80 = nI ((cn + 1) + 1) := ez_80.trans (eq_add rfl rfl)
                  refine lv_istore (lv' := [(6, .int (nI ((cn + 1) + 1))), (13, .int 1), (12, .int 1), (11, .int (nI u_16)), (10, .int (iZ (((N - (ya * ya)) - (yb * yb)) - (yc * yc)))), (9, .int (iZ yc)), (0, .ref o), (1, .int (nI n0)), (2, .int (nI 1)), (3, .int (-1)), (4, .int (iZ N)), (5, .int (nI M)), (7, .int (iZ ya)), (8, .int (iZ yb))]) hx hb dX5_goThrough_271 hl (by decide) rfl (fun ls hl => ?_)
                  refine lv_iinc (v := 2) (lv' := [(12, .int 2), (6, .int (nI ((cn + 1) + 1))), (13, .int 1), (11, .int (nI u_16)), (10, .int (iZ (((N - (ya * ya)) - (yb * yb)) - (yc * yc)))), (9, .int (iZ yc)), (0, .ref o), (1, .int (nI n0)), (2, .int (nI 1)), (3, .int (-1)), (4, .int (iZ N)), (5, .int (nI M)), (7, .int (iZ ya)), (8, .int (iZ yb))]) hx hb dX5_goThrough_273 hl (k := 2) rfl (by decide) (by decide) rfl (fun ls hl => ?_)
                  refine lv_goto (tgt := 108) hx hb dX5_goThrough_276 (by decide) ?_
                  refine lv_iload hx hb dX5_goThrough_108 (lv_at hl 0 rfl) ?_
                  refine lv_iconst (v := 2) hx hb dX5_goThrough_110 (by decide) ?_
                  refine lv_icmp_ge (tgt := 279) hx hb dX5_goThrough_111 (by decide) (fun c_81 => ?_) (fun c_81 => absurd (by decide) c_81)
                  refine lv_iinc (v := iZ (yc - 1)) (lv' := [(9, .int (iZ (yc - 1))), (12, .int 2), (6, .int (nI ((cn + 1) + 1))), (13, .int 1), (11, .int (nI u_16)), (10, .int (iZ (((N - (ya * ya)) - (yb * yb)) - (yc * yc)))), (0, .ref o), (1, .int (nI n0)), (2, .int (nI 1)), (3, .int (-1)), (4, .int (iZ N)), (5, .int (nI M)), (7, .int (iZ ya)), (8, .int (iZ yb))]) hx hb dX5_goThrough_279 hl (k := 5) rfl ((zadd rfl (b := -1) (by decide)).trans (by rw [Int.sub_eq_add_neg])) (by decide) rfl (fun ls hl => ?_)
                  refine lv_goto (tgt := 43) hx hb dX5_goThrough_282 (by decide) ?_
                  have hpp := one_par (a := ya) (b := yb) (c := yc) (d := ((u_16 : Nat) : Int)) (by omega) (by omega) (by omega) (by omega)
                  have hpq := hpp.mp c_28
                  have hds := ds_sq (M := M) (N := N) (a := ya) (b := yb) (c := yc) (lf := ((N - (ya * ya)) - (yb * yb)) - (yc * yc)) (by omega) hpq.1 hpq.2.1 (by rw [hNn]; omega) (d := u_16) (by rw [Int.natCast_mul]; omega) (by omega)
                  rw [if_pos (show 0 < u_16 by omega)] at hds
                  have hcs : cS 1 (S3 N M ya yb yc) = 2 := by rw [S3, hds]; simp only [List.map_cons, List.map_nil, cS, cW_1y (q := (ya, yb, yc, ((u_16 : Nat) : Int))) ((rm2_0 ya).mp c_51), cW_1y (q := (ya, yb, yc, -((u_16 : Nat) : Int))) ((rm2_0 ya).mp c_51)]
                  exact ih (yc - 1) ((cn + 1) + 1) ((iZ ya).toInt64, (iZ yb).toInt64, (iZ yc).toInt64, (iZ (-((u_16 : Nat) : Int))).toInt64) (by omega) (by omega) (by omega) (by omega) _ _ _ hP hD hS (lv_sub hl [0, 6, 7, 8, 9, 10, 11, 2, 12, 13] rfl) 
              · have c_51 := eqz_no (a := rm2 (ya)) (b := 0) rfl (by decide) (by omega) (by omega) c_51
                refine lv_iload_n hx hb dX5_goThrough_221 rfl (lv_at hl 6 rfl) ?_
                refine lv_iconst (v := 2) hx hb dX5_goThrough_222 (by decide) ?_
                refine lv_icmp_ne (tgt := 241) hx hb dX5_goThrough_223 (by decide) (fun c_82 => ?_) (fun c_82 => absurd c_82 (by decide))
                refine lv_iconst (v := 0) hx hb dX5_goThrough_241 (by decide) ?_
                refine lv_istore (lv' := [(13, .int 0), (12, .int 0), (11, .int (nI u_16)), (10, .int (iZ (((N - (ya * ya)) - (yb * yb)) - (yc * yc)))), (9, .int (iZ yc)), (0, .ref o), (1, .int (nI n0)), (2, .int (nI 1)), (3, .int (-1)), (4, .int (iZ N)), (5, .int (nI M)), (6, .int (nI cn)), (7, .int (iZ ya)), (8, .int (iZ yb))]) hx hb dX5_goThrough_242 hl (by decide) rfl (fun ls hl => ?_)
                refine lv_iload hx hb dX5_goThrough_244 (lv_at hl 0 rfl) ?_
                refine lv_if_eq (tgt := 258) hx hb dX5_goThrough_246 (by decide) (fun c_83 => ?_) (fun c_83 => absurd (by decide) c_83)
                refine lv_iload hx hb dX5_goThrough_258 (lv_at hl 11 rfl) ?_
                refine lv_iload hx hb dX5_goThrough_260 (lv_at hl 0 rfl) ?_
                refine lv_if_eq (tgt := 269) hx hb dX5_goThrough_262 (by decide) (fun c_84 => ?_) (fun c_84 => absurd (by decide) c_84)
                refine lv_iconst (v := 0) hx hb dX5_goThrough_269 (by decide) ?_
                refine lv_iadd hx hb dX5_goThrough_270 ?_
                refine lv_topi (fun z_85 ez_85 => ?_)
                obtain rfl : z_85 = nI cn := ez_85.trans (eq_add0 rfl)
                refine lv_istore (lv' := [(6, .int (nI cn)), (13, .int 0), (12, .int 0), (11, .int (nI u_16)), (10, .int (iZ (((N - (ya * ya)) - (yb * yb)) - (yc * yc)))), (9, .int (iZ yc)), (0, .ref o), (1, .int (nI n0)), (2, .int (nI 1)), (3, .int (-1)), (4, .int (iZ N)), (5, .int (nI M)), (7, .int (iZ ya)), (8, .int (iZ yb))]) hx hb dX5_goThrough_271 hl (by decide) rfl (fun ls hl => ?_)
                refine lv_iinc (v := 1) (lv' := [(12, .int 1), (6, .int (nI cn)), (13, .int 0), (11, .int (nI u_16)), (10, .int (iZ (((N - (ya * ya)) - (yb * yb)) - (yc * yc)))), (9, .int (iZ yc)), (0, .ref o), (1, .int (nI n0)), (2, .int (nI 1)), (3, .int (-1)), (4, .int (iZ N)), (5, .int (nI M)), (7, .int (iZ ya)), (8, .int (iZ yb))]) hx hb dX5_goThrough_273 hl (k := 2) rfl (by decide) (by decide) rfl (fun ls hl => ?_)
                refine lv_goto (tgt := 108) hx hb dX5_goThrough_276 (by decide) ?_
                refine lv_iload hx hb dX5_goThrough_108 (lv_at hl 0 rfl) ?_
                refine lv_iconst (v := 2) hx hb dX5_goThrough_110 (by decide) ?_
                refine lv_icmp_ge (tgt := 279) hx hb dX5_goThrough_111 (by decide) (fun c_86 => absurd c_86 (by decide)) (fun c_86 => ?_)
                refine lv_iload hx hb dX5_goThrough_114 (lv_at hl 3 rfl) ?_
                refine lv_if_lt (tgt := 279) hx hb dX5_goThrough_116 (by decide) (fun c_87 => absurd c_87 (fun z => absurd (lt_y (a := u_16) (b := 0) rfl rfl (by omega) (by decide) z) (Nat.not_lt_zero _))) (fun c_87 => ?_)
                refine lv_iload hx hb dX5_goThrough_119 (lv_at hl 3 rfl) ?_
                refine lv_iload hx hb dX5_goThrough_121 (lv_at hl 3 rfl) ?_
                refine lv_imul hx hb dX5_goThrough_123 ?_
                refine lv_topi (fun z_88 ez_88 => ?_)
                obtain rfl : z_88 = iZ (((u_16 : Nat) : Int) * ((u_16 : Nat) : Int)) := ez_88.trans (zmul (iZ_n _) (iZ_n _))
                refine lv_iload hx hb dX5_goThrough_124 (lv_at hl 4 rfl) ?_
                refine lv_icmp_ne (tgt := 279) hx hb dX5_goThrough_126 (by decide) (fun c_89 => absurd (show iZ (((u_16 : Nat) : Int) * ((u_16 : Nat) : Int)) = iZ (((N - (ya * ya)) - (yb * yb)) - (yc * yc)) from congrArg iZ c_21) c_89) (fun c_89 => ?_)
                refine lv_aload_n hx hb dX5_goThrough_129 rfl (lv_at hl 6 rfl) ?_
                refine va_get (D := D) (ci := 4) (v := .ref (ad 8)) (C := RX5) (T := TX5) (N := 18) hx hb hts in_X5 hown hK hP 0 rfl rfl 8 (by decide) (hts _ q581) (fun _ h9 => h9) rfl dX5_goThrough_130 ?_
                refine lv_iconst (v := 0) hx hb dX5_goThrough_133 (by decide) ?_
                refine lv_iload hx hb dX5_goThrough_134 (lv_at hl 12 rfl) ?_
                refine lv_i2l (v := (iZ ya).toInt64) hx hb dX5_goThrough_136 rfl ?_
                refine va_last hx hb hK hP hD hS 1 2 rfl rfl (vin (by decide)) dX5_goThrough_137 (fun H locs hP hD hS => ?_)
                rw [L4_s0] at hP hD
                have hP : va_P D vwCl [(o, mO ad nf mo), (ad 8, a4 ca ((iZ ya).toInt64, (iZ yb).toInt64, (iZ yc).toInt64, (iZ ((u_16 : Nat) : Int)).toInt64))] H := hP
                have hD : va_D A [(o, mO ad nf mo), (ad 8, a4 ca ((iZ ya).toInt64, (iZ yb).toInt64, (iZ yc).toInt64, (iZ ((u_16 : Nat) : Int)).toInt64))] := hD
                refine lv_aload_n hx hb dX5_goThrough_138 rfl (lv_at hl 6 rfl) ?_
                refine va_get (D := D) (ci := 4) (v := .ref (ad 8)) (C := RX5) (T := TX5) (N := 18) hx hb hts in_X5 hown hK hP 0 rfl rfl 8 (by decide) (hts _ q581) (fun _ h9 => h9) rfl dX5_goThrough_139 ?_
                refine lv_iconst (v := 1) hx hb dX5_goThrough_142 (by decide) ?_
                refine lv_iload hx hb dX5_goThrough_143 (lv_at hl 13 rfl) ?_
                refine lv_i2l (v := (iZ yb).toInt64) hx hb dX5_goThrough_145 rfl ?_
                refine va_last hx hb hK hP hD hS 1 2 rfl rfl (vin (by decide)) dX5_goThrough_146 (fun H locs hP hD hS => ?_)
                rw [L4_s1] at hP hD
                have hP : va_P D vwCl [(o, mO ad nf mo), (ad 8, a4 ca ((iZ ya).toInt64, (iZ yb).toInt64, (iZ yc).toInt64, (iZ ((u_16 : Nat) : Int)).toInt64))] H := hP
                have hD : va_D A [(o, mO ad nf mo), (ad 8, a4 ca ((iZ ya).toInt64, (iZ yb).toInt64, (iZ yc).toInt64, (iZ ((u_16 : Nat) : Int)).toInt64))] := hD
                refine lv_aload_n hx hb dX5_goThrough_147 rfl (lv_at hl 6 rfl) ?_
                refine va_get (D := D) (ci := 4) (v := .ref (ad 8)) (C := RX5) (T := TX5) (N := 18) hx hb hts in_X5 hown hK hP 0 rfl rfl 8 (by decide) (hts _ q581) (fun _ h9 => h9) rfl dX5_goThrough_148 ?_
                refine lv_iconst (v := 2) hx hb dX5_goThrough_151 (by decide) ?_
                refine lv_iload hx hb dX5_goThrough_152 (lv_at hl 5 rfl) ?_
                refine lv_i2l (v := (iZ yc).toInt64) hx hb dX5_goThrough_154 rfl ?_
                refine va_last hx hb hK hP hD hS 1 2 rfl rfl (vin (by decide)) dX5_goThrough_155 (fun H locs hP hD hS => ?_)
                rw [L4_s2] at hP hD
                have hP : va_P D vwCl [(o, mO ad nf mo), (ad 8, a4 ca ((iZ ya).toInt64, (iZ yb).toInt64, (iZ yc).toInt64, (iZ ((u_16 : Nat) : Int)).toInt64))] H := hP
                have hD : va_D A [(o, mO ad nf mo), (ad 8, a4 ca ((iZ ya).toInt64, (iZ yb).toInt64, (iZ yc).toInt64, (iZ ((u_16 : Nat) : Int)).toInt64))] := hD
                refine lv_aload_n hx hb dX5_goThrough_156 rfl (lv_at hl 6 rfl) ?_
                refine va_get (D := D) (ci := 4) (v := .ref (ad 8)) (C := RX5) (T := TX5) (N := 18) hx hb hts in_X5 hown hK hP 0 rfl rfl 8 (by decide) (hts _ q581) (fun _ h9 => h9) rfl dX5_goThrough_157 ?_
                refine lv_iconst (v := 3) hx hb dX5_goThrough_160 (by decide) ?_
                refine lv_iload hx hb dX5_goThrough_161 (lv_at hl 0 rfl) ?_
                refine lv_if_ne (tgt := 172) hx hb dX5_goThrough_163 (by decide) (fun c_90 => ?_) (fun c_90 => absurd c_90 (by decide))
                refine lv_iload hx hb dX5_goThrough_172 (lv_at hl 3 rfl) ?_
                refine lv_ineg hx hb dX5_goThrough_174 ?_
                refine lv_topi (fun z_91 ez_91 => ?_)
                obtain rfl : z_91 = iZ (-((u_16 : Nat) : Int)) := ez_91.trans (zneg (iZ_n _))
                refine lv_i2l (v := (iZ (-((u_16 : Nat) : Int))).toInt64) hx hb dX5_goThrough_175 rfl ?_
                refine va_last hx hb hK hP hD hS 1 2 rfl rfl (vin (by decide)) dX5_goThrough_176 (fun H locs hP hD hS => ?_)
                rw [L4_s3] at hP hD
                have hP : va_P D vwCl [(o, mO ad nf mo), (ad 8, a4 ca ((iZ ya).toInt64, (iZ yb).toInt64, (iZ yc).toInt64, (iZ (-((u_16 : Nat) : Int))).toInt64))] H := hP
                have hD : va_D A [(o, mO ad nf mo), (ad 8, a4 ca ((iZ ya).toInt64, (iZ yb).toInt64, (iZ yc).toInt64, (iZ (-((u_16 : Nat) : Int))).toInt64))] := hD
                refine lv_iload hx hb dX5_goThrough_177 (lv_at hl 12 rfl) ?_
                refine lv_i2l (v := (iZ ya).toInt64) hx hb dX5_goThrough_179 rfl ?_
                refine lv_iload hx hb dX5_goThrough_180 (lv_at hl 13 rfl) ?_
                refine lv_i2l (v := (iZ yb).toInt64) hx hb dX5_goThrough_182 rfl ?_
                refine lv_iload hx hb dX5_goThrough_183 (lv_at hl 5 rfl) ?_
                refine lv_i2l (v := (iZ yc).toInt64) hx hb dX5_goThrough_185 rfl ?_
                refine lv_iload hx hb dX5_goThrough_186 (lv_at hl 3 rfl) ?_
                refine lv_topi (fun z_92 ez_92 => ?_)
                obtain rfl : z_92 = iZ ((u_16 : Nat) : Int) := ez_92.trans (iZ_n u_16)
                refine lv_i2l (v := (iZ ((u_16 : Nat) : Int)).toInt64) hx hb dX5_goThrough_188 rfl ?_
                refine k_calli (wr := [(o, mO ad nf mo), (ad 8, a4 ca ((iZ ya).toInt64, (iZ yb).toInt64, (iZ yc).toInt64, (iZ (-((u_16 : Nat) : Int))).toInt64))]) (va_runS (As := [.long ((iZ ya).toInt64), .long ((iZ yb).toInt64), .long ((iZ yc).toInt64), .long ((iZ ((u_16 : Nat) : Int)).toInt64)]) (rest := []) ⟨hx, hb, hml, hown, hts⟩ (ct_X5_isOne hk l D ca H.size ((iZ ya).toInt64) ((iZ yb).toInt64) ((iZ yc).toInt64) ((iZ ((u_16 : Nat) : Int)).toInt64)) (va_cwS 4 hts (lw_S q570 q571 q24 q572) rfl rfl rfl (by decide +kernel) ⟨Nat.le_of_ble_eq_true rfl, Nat.le_of_ble_eq_true rfl⟩) (k_pre hk hK hN hP hD [] (by decide) rfl trivial) rfl rfl hl.1 rfl (lv_room (Nat.le_of_ble_eq_true rfl)) dX5_goThrough_189 ⟨Nat.le_of_ble_eq_true rfl, Nat.le_of_ble_eq_true rfl⟩) hP hD hS hA [] [0, 1] rfl rfl (by decide) (by decide) (fun r_93 u_94 H locs w_95 hP hD hxw_95 hzw_95 hqw_95 hS => ?_)
                obtain rfl : r_93 = bI (p_one ((iZ ya).toInt64) ((iZ yb).toInt64) ((iZ yc).toInt64) ((iZ ((u_16 : Nat) : Int)).toInt64)) := w_95
                refine lv_if_eq (tgt := 241) hx hb dX5_goThrough_192 (by decide) (fun c_96 => absurd c_96 (by rw [c_28]; decide)) (fun c_96 => ?_)
                refine lv_iload hx hb dX5_goThrough_195 (lv_at hl 0 rfl) ?_
                refine lv_if_eq (tgt := 205) hx hb dX5_goThrough_197 (by decide) (fun c_97 => absurd c_97 (by decide)) (fun c_97 => ?_)
                refine lv_iload hx hb dX5_goThrough_200 (lv_at hl 3 rfl) ?_
                refine lv_if_le (tgt := 241) hx hb dX5_goThrough_202 (by decide) (fun c_98 => ?_) (fun c_98 => ?_)
                · have c_98 := le_y (a := u_16) (b := 0) rfl rfl (by omega) (by omega) c_98
                  refine lv_iconst (v := 0) hx hb dX5_goThrough_241 (by decide) ?_
                  refine lv_istore (lv' := [(13, .int 0), (12, .int 1), (6, .int (nI cn)), (11, .int (nI u_16)), (10, .int (iZ (((N - (ya * ya)) - (yb * yb)) - (yc * yc)))), (9, .int (iZ yc)), (0, .ref o), (1, .int (nI n0)), (2, .int (nI 1)), (3, .int (-1)), (4, .int (iZ N)), (5, .int (nI M)), (7, .int (iZ ya)), (8, .int (iZ yb))]) hx hb dX5_goThrough_242 hl (by decide) rfl (fun ls hl => ?_)
                  refine lv_iload hx hb dX5_goThrough_244 (lv_at hl 0 rfl) ?_
                  refine lv_if_eq (tgt := 258) hx hb dX5_goThrough_246 (by decide) (fun c_99 => ?_) (fun c_99 => absurd (by decide) c_99)
                  refine lv_iload hx hb dX5_goThrough_258 (lv_at hl 2 rfl) ?_
                  refine lv_iload hx hb dX5_goThrough_260 (lv_at hl 0 rfl) ?_
                  refine lv_if_eq (tgt := 269) hx hb dX5_goThrough_262 (by decide) (fun c_100 => ?_) (fun c_100 => absurd (by decide) c_100)
                  refine lv_iconst (v := 0) hx hb dX5_goThrough_269 (by decide) ?_
                  refine lv_iadd hx hb dX5_goThrough_270 ?_
                  refine lv_topi (fun z_101 ez_101 => ?_)
                  obtain rfl : z_101 = nI cn := ez_101.trans (eq_add0 rfl)
                  refine lv_istore (lv' := [(6, .int (nI cn)), (13, .int 0), (12, .int 1), (11, .int (nI u_16)), (10, .int (iZ (((N - (ya * ya)) - (yb * yb)) - (yc * yc)))), (9, .int (iZ yc)), (0, .ref o), (1, .int (nI n0)), (2, .int (nI 1)), (3, .int (-1)), (4, .int (iZ N)), (5, .int (nI M)), (7, .int (iZ ya)), (8, .int (iZ yb))]) hx hb dX5_goThrough_271 hl (by decide) rfl (fun ls hl => ?_)
                  refine lv_iinc (v := 2) (lv' := [(12, .int 2), (6, .int (nI cn)), (13, .int 0), (11, .int (nI u_16)), (10, .int (iZ (((N - (ya * ya)) - (yb * yb)) - (yc * yc)))), (9, .int (iZ yc)), (0, .ref o), (1, .int (nI n0)), (2, .int (nI 1)), (3, .int (-1)), (4, .int (iZ N)), (5, .int (nI M)), (7, .int (iZ ya)), (8, .int (iZ yb))]) hx hb dX5_goThrough_273 hl (k := 2) rfl (by decide) (by decide) rfl (fun ls hl => ?_)
                  refine lv_goto (tgt := 108) hx hb dX5_goThrough_276 (by decide) ?_
                  refine lv_iload hx hb dX5_goThrough_108 (lv_at hl 0 rfl) ?_
                  refine lv_iconst (v := 2) hx hb dX5_goThrough_110 (by decide) ?_
                  refine lv_icmp_ge (tgt := 279) hx hb dX5_goThrough_111 (by decide) (fun c_102 => ?_) (fun c_102 => absurd (by decide) c_102)
                  refine lv_iinc (v := iZ (yc - 1)) (lv' := [(9, .int (iZ (yc - 1))), (12, .int 2), (6, .int (nI cn)), (13, .int 0), (11, .int (nI u_16)), (10, .int (iZ (((N - (ya * ya)) - (yb * yb)) - (yc * yc)))), (0, .ref o), (1, .int (nI n0)), (2, .int (nI 1)), (3, .int (-1)), (4, .int (iZ N)), (5, .int (nI M)), (7, .int (iZ ya)), (8, .int (iZ yb))]) hx hb dX5_goThrough_279 hl (k := 5) rfl ((zadd rfl (b := -1) (by decide)).trans (by rw [Int.sub_eq_add_neg])) (by decide) rfl (fun ls hl => ?_)
                  refine lv_goto (tgt := 43) hx hb dX5_goThrough_282 (by decide) ?_
                  have hpp := one_par (a := ya) (b := yb) (c := yc) (d := ((u_16 : Nat) : Int)) (by omega) (by omega) (by omega) (by omega)
                  have hpq := hpp.mp c_28
                  have hds := ds_sq (M := M) (N := N) (a := ya) (b := yb) (c := yc) (lf := ((N - (ya * ya)) - (yb * yb)) - (yc * yc)) (by omega) hpq.1 hpq.2.1 (by rw [hNn]; omega) (d := u_16) (by rw [Int.natCast_mul]; omega) (by omega)
                  rw [if_neg (show ¬ 0 < u_16 by omega)] at hds
                  have hu0 : u_16 = 0 := by omega
                  have hcs : cS 1 (S3 N M ya yb yc) = 0 := by rw [S3, hds]; simp only [List.map_cons, List.map_nil, cS, cW_1n (q := (ya, yb, yc, (0 : Int))) (fun z9 => c_51 ((rm2_0 ya).mpr z9))]
                  exact ih (yc - 1) cn ((iZ ya).toInt64, (iZ yb).toInt64, (iZ yc).toInt64, (iZ (-((u_16 : Nat) : Int))).toInt64) (by omega) (by omega) (by omega) (by omega) _ _ _ hP hD hS (lv_sub hl [0, 6, 7, 8, 9, 10, 11, 2, 12, 13] rfl) 
                · have c_98 := le_no (a := u_16) (b := 0) rfl rfl (by omega) (by omega) c_98
                  refine lv_iload_n hx hb dX5_goThrough_205 rfl (lv_at hl 8 rfl) ?_
                  refine lv_if_eq (tgt := 237) hx hb dX5_goThrough_206 (by decide) (fun c_103 => absurd c_103 (by decide)) (fun c_103 => ?_)
                  refine lv_iload_n hx hb dX5_goThrough_209 rfl (lv_at hl 8 rfl) ?_
                  refine lv_iconst (v := 1) hx hb dX5_goThrough_210 (by decide) ?_
                  refine lv_icmp_ne (tgt := 221) hx hb dX5_goThrough_211 (by decide) (fun c_104 => absurd rfl c_104) (fun c_104 => ?_)
                  refine lv_iload hx hb dX5_goThrough_214 (lv_at hl 12 rfl) ?_
                  refine lv_iconst (v := 2) hx hb dX5_goThrough_216 (by decide) ?_
                  refine lv_irem hx hb dX5_goThrough_217 (by decide) ?_
                  refine lv_topi (fun z_105 ez_105 => ?_)
                  obtain rfl : z_105 = iZ (rm2 (ya)) := ez_105.trans (remz2 rfl (by omega))
                  have bz_105 := rm2_bd (ya)
                  refine lv_if_eq (tgt := 237) hx hb dX5_goThrough_218 (by decide) (fun c_106 => absurd c_106 (fun z9 => c_51 (eqz_y (a := rm2 ya) (b := 0) rfl (by decide) (by omega) (by omega) z9))) (fun c_106 => ?_)
                  refine lv_iload_n hx hb dX5_goThrough_221 rfl (lv_at hl 8 rfl) ?_
                  refine lv_iconst (v := 2) hx hb dX5_goThrough_222 (by decide) ?_
                  refine lv_icmp_ne (tgt := 241) hx hb dX5_goThrough_223 (by decide) (fun c_107 => ?_) (fun c_107 => absurd c_107 (by decide))
                  refine lv_iconst (v := 0) hx hb dX5_goThrough_241 (by decide) ?_
                  refine lv_istore (lv' := [(13, .int 0), (12, .int 1), (6, .int (nI cn)), (11, .int (nI u_16)), (10, .int (iZ (((N - (ya * ya)) - (yb * yb)) - (yc * yc)))), (9, .int (iZ yc)), (0, .ref o), (1, .int (nI n0)), (2, .int (nI 1)), (3, .int (-1)), (4, .int (iZ N)), (5, .int (nI M)), (7, .int (iZ ya)), (8, .int (iZ yb))]) hx hb dX5_goThrough_242 hl (by decide) rfl (fun ls hl => ?_)
                  refine lv_iload hx hb dX5_goThrough_244 (lv_at hl 0 rfl) ?_
                  refine lv_if_eq (tgt := 258) hx hb dX5_goThrough_246 (by decide) (fun c_108 => ?_) (fun c_108 => absurd (by decide) c_108)
                  refine lv_iload hx hb dX5_goThrough_258 (lv_at hl 2 rfl) ?_
                  refine lv_iload hx hb dX5_goThrough_260 (lv_at hl 0 rfl) ?_
                  refine lv_if_eq (tgt := 269) hx hb dX5_goThrough_262 (by decide) (fun c_109 => ?_) (fun c_109 => absurd (by decide) c_109)
                  refine lv_iconst (v := 0) hx hb dX5_goThrough_269 (by decide) ?_
                  refine lv_iadd hx hb dX5_goThrough_270 ?_
                  refine lv_topi (fun z_110 ez_110 => ?_)
                  obtain rfl : z_110 = nI cn := ez_110.trans (eq_add0 rfl)
                  refine lv_istore (lv' := [(6, .int (nI cn)), (13, .int 0), (12, .int 1), (11, .int (nI u_16)), (10, .int (iZ (((N - (ya * ya)) - (yb * yb)) - (yc * yc)))), (9, .int (iZ yc)), (0, .ref o), (1, .int (nI n0)), (2, .int (nI 1)), (3, .int (-1)), (4, .int (iZ N)), (5, .int (nI M)), (7, .int (iZ ya)), (8, .int (iZ yb))]) hx hb dX5_goThrough_271 hl (by decide) rfl (fun ls hl => ?_)
                  refine lv_iinc (v := 2) (lv' := [(12, .int 2), (6, .int (nI cn)), (13, .int 0), (11, .int (nI u_16)), (10, .int (iZ (((N - (ya * ya)) - (yb * yb)) - (yc * yc)))), (9, .int (iZ yc)), (0, .ref o), (1, .int (nI n0)), (2, .int (nI 1)), (3, .int (-1)), (4, .int (iZ N)), (5, .int (nI M)), (7, .int (iZ ya)), (8, .int (iZ yb))]) hx hb dX5_goThrough_273 hl (k := 2) rfl (by decide) (by decide) rfl (fun ls hl => ?_)
                  refine lv_goto (tgt := 108) hx hb dX5_goThrough_276 (by decide) ?_
                  refine lv_iload hx hb dX5_goThrough_108 (lv_at hl 0 rfl) ?_
                  refine lv_iconst (v := 2) hx hb dX5_goThrough_110 (by decide) ?_
                  refine lv_icmp_ge (tgt := 279) hx hb dX5_goThrough_111 (by decide) (fun c_111 => ?_) (fun c_111 => absurd (by decide) c_111)
                  refine lv_iinc (v := iZ (yc - 1)) (lv' := [(9, .int (iZ (yc - 1))), (12, .int 2), (6, .int (nI cn)), (13, .int 0), (11, .int (nI u_16)), (10, .int (iZ (((N - (ya * ya)) - (yb * yb)) - (yc * yc)))), (0, .ref o), (1, .int (nI n0)), (2, .int (nI 1)), (3, .int (-1)), (4, .int (iZ N)), (5, .int (nI M)), (7, .int (iZ ya)), (8, .int (iZ yb))]) hx hb dX5_goThrough_279 hl (k := 5) rfl ((zadd rfl (b := -1) (by decide)).trans (by rw [Int.sub_eq_add_neg])) (by decide) rfl (fun ls hl => ?_)
                  refine lv_goto (tgt := 43) hx hb dX5_goThrough_282 (by decide) ?_
                  have hpp := one_par (a := ya) (b := yb) (c := yc) (d := ((u_16 : Nat) : Int)) (by omega) (by omega) (by omega) (by omega)
                  have hpq := hpp.mp c_28
                  have hds := ds_sq (M := M) (N := N) (a := ya) (b := yb) (c := yc) (lf := ((N - (ya * ya)) - (yb * yb)) - (yc * yc)) (by omega) hpq.1 hpq.2.1 (by rw [hNn]; omega) (d := u_16) (by rw [Int.natCast_mul]; omega) (by omega)
                  rw [if_pos (show 0 < u_16 by omega)] at hds
                  have hcs : cS 1 (S3 N M ya yb yc) = 0 := by rw [S3, hds]; simp only [List.map_cons, List.map_nil, cS, cW_1n (q := (ya, yb, yc, ((u_16 : Nat) : Int))) (fun z9 => c_51 ((rm2_0 ya).mpr z9)), cW_1n (q := (ya, yb, yc, -((u_16 : Nat) : Int))) (fun z9 => c_51 ((rm2_0 ya).mpr z9))]
                  exact ih (yc - 1) cn ((iZ ya).toInt64, (iZ yb).toInt64, (iZ yc).toInt64, (iZ (-((u_16 : Nat) : Int))).toInt64) (by omega) (by omega) (by omega) (by omega) _ _ _ hP hD hS (lv_sub hl [0, 6, 7, 8, 9, 10, 11, 2, 12, 13] rfl) 
        · have c_13 := lez_no (a := 0) (b := ((N - (ya * ya)) - (yb * yb)) - (yc * yc)) (by decide) rfl (by omega) (by omega) c_13
          refine lv_iconst (v := (-1)) hx hb dX5_goThrough_94 (by decide) ?_
          refine lv_goto (tgt := 103) hx hb dX5_goThrough_95 (by decide) ?_
          refine lv_istore (lv' := [(11, .int (-1)), (10, .int (iZ (((N - (ya * ya)) - (yb * yb)) - (yc * yc)))), (9, .int (iZ yc)), (0, .ref o), (1, .int (nI n0)), (2, .int (nI 1)), (3, .int (-1)), (4, .int (iZ N)), (5, .int (nI M)), (6, .int (nI cn)), (7, .int (iZ ya)), (8, .int (iZ yb))]) hx hb dX5_goThrough_103 hl (by decide) rfl (fun ls hl => ?_)
          refine lv_iconst (v := 0) hx hb dX5_goThrough_105 (by decide) ?_
          refine lv_istore (lv' := [(12, .int 0), (11, .int (-1)), (10, .int (iZ (((N - (ya * ya)) - (yb * yb)) - (yc * yc)))), (9, .int (iZ yc)), (0, .ref o), (1, .int (nI n0)), (2, .int (nI 1)), (3, .int (-1)), (4, .int (iZ N)), (5, .int (nI M)), (6, .int (nI cn)), (7, .int (iZ ya)), (8, .int (iZ yb))]) hx hb dX5_goThrough_106 hl (by decide) rfl (fun ls hl => ?_)
          refine lv_iload hx hb dX5_goThrough_108 (lv_at hl 0 rfl) ?_
          refine lv_iconst (v := 2) hx hb dX5_goThrough_110 (by decide) ?_
          refine lv_icmp_ge (tgt := 279) hx hb dX5_goThrough_111 (by decide) (fun c_112 => absurd c_112 (by decide)) (fun c_112 => ?_)
          refine lv_iload hx hb dX5_goThrough_114 (lv_at hl 1 rfl) ?_
          refine lv_if_lt (tgt := 279) hx hb dX5_goThrough_116 (by decide) (fun c_113 => ?_) (fun c_113 => absurd (by decide) c_113)
          refine lv_iinc (v := iZ (yc - 1)) (lv' := [(9, .int (iZ (yc - 1))), (12, .int 0), (11, .int (-1)), (10, .int (iZ (((N - (ya * ya)) - (yb * yb)) - (yc * yc)))), (0, .ref o), (1, .int (nI n0)), (2, .int (nI 1)), (3, .int (-1)), (4, .int (iZ N)), (5, .int (nI M)), (6, .int (nI cn)), (7, .int (iZ ya)), (8, .int (iZ yb))]) hx hb dX5_goThrough_279 hl (k := 3) rfl ((zadd rfl (b := -1) (by decide)).trans (by rw [Int.sub_eq_add_neg])) (by decide) rfl (fun ls hl => ?_)
          refine lv_goto (tgt := 43) hx hb dX5_goThrough_282 (by decide) ?_
          have hds : ds N M ya yb yc = [] := ds_neg (lf := ((N - (ya * ya)) - (yb * yb)) - (yc * yc)) (by omega) (by omega)
          have hcs : cS 1 (S3 N M ya yb yc) = 0 := by rw [S3, hds]; rfl
          exact ih (yc - 1) cn xv (by omega) (by omega) (by omega) (by omega) _ _ _ hP hD hS (lv_sub hl [0, 4, 5, 6, 7, 8, 9, 10, 11, 12] rfl) 
set_option maxHeartbeats 4000000 in
set_option maxRecDepth 100000 in
theorem lp_X5_go_b1 {KN : State → Prop} (hk : KNok KN) {l : Launch} {D : va_G} {ca : Nat → ClassId} (o : Nat) (ad : Nat → Nat) (nf : Int32) (mo : Int32) (x : Q4) (n0 : Nat) (M : Nat) (T : Nat) (N : Int) (ya : Int) (R : List Z4') (hn0 : n0 ≤ 200) (hM28 : M ≤ 28) (hM0 : 4 * n0 < (M + 1) * (M + 1)) (hNn : N = 4 * (n0 : Int)) (hTb : T ≤ 2 ^ 20) (hMM : M * M ≤ 4 * n0) (hTT : T = cS 1 (S0 (4 * (n0 : Int)) M)) (hba : -(M : Int) ≤ ya ∧ ya ≤ M) {p : Program} {e : Env} {s : State} {m : MethodId} {below : List Frame} {meth : Method} {c : Code} {A : Nat → Prop} (hOut : ∀ (cn : Nat) (xv : Q4), cn + cS 1 (R) = T → ∀ (H : Heap) (locs : List Loc) (ls : Array Slot), va_P D vwCl [(o, mO ad nf mo), (ad 8, a4 ca xv)] H → va_D A [(o, mO ad nf mo), (ad 8, a4 ca xv)] → va_S A s.heap H locs → lv_has ls 14 [(0, .ref o), (1, .int (nI n0)), (2, .int (nI 1)), (3, .int (-1)), (4, .int (iZ N)), (5, .int (nI M)), (6, .int (nI cn)), (7, .int (iZ ya))] → W p l e ({ frames := 2, cells := 0, slots := 0, locals := 53 }) s m ([.ref o, .int (nI n0), .int (nI 1), .int (-1)] : List Value).toArray below meth c H locs 0 0 (MQ below (qI D (fun (r : Int32) (u : Nat × Q4) => r = nI (cS 1 (S0 (4 * (n0 : Int)) u.1)) ∧ u.1 * u.1 ≤ 4 * n0 ∧ 4 * n0 < (u.1 + 1) * (u.1 + 1)) (fun u => [(o, mO ad nf mo), (ad 8, a4 ca u.2)]) (fun u H => True) A) ([.ref o, .int (nI n0), .int (nI 1), .int (-1)] : List Value).toArray s 0 0 A) (F0 m 291 ls [])) (hx : p.tables.exec = Jvm.exec) (hb : c.code = cX5_goThrough) (hr : meth.sig.returnType = (some .int)) (hts : ∀ w ∈ lw_all, w.before ([.ref o, .int (nI n0), .int (nI 1), .int (-1)] : List Value).toArray s = true) (hown : s.vm.findClass yX5_goThrough.cls = some m.cls) (hlocks : meth.locks = false) (hnm : meth.name = yX5_goThrough.name) (hml : c.maxLocals = 14) (hK : va_K D vwCl (tysG ca) s) (hN : KN s) (hA : ∀ q, s.heap.size ≤ q → A q)  :
    ∀ (n : Nat) (yb : Int) (cn : Nat) (xv : Q4), (-(M : Int) - 1 ≤ yb) → (yb ≤ M) → (cn + cS 1 (TB N M ya yb ++ R) = T) → (yb + M + 1 < (n : Int)) →  ∀ (H : Heap) (locs : List Loc) (ls : Array Slot), va_P D vwCl [(o, mO ad nf mo), (ad 8, a4 ca xv)] H → va_D A [(o, mO ad nf mo), (ad 8, a4 ca xv)] → va_S A s.heap H locs → lv_has ls 14 [(8, .int (iZ yb)), (0, .ref o), (1, .int (nI n0)), (2, .int (nI 1)), (3, .int (-1)), (4, .int (iZ N)), (5, .int (nI M)), (6, .int (nI cn)), (7, .int (iZ ya))] → W p l e ({ frames := 2, cells := 0, slots := 0, locals := 53 }) s m ([.ref o, .int (nI n0), .int (nI 1), .int (-1)] : List Value).toArray below meth c H locs 0 0 (MQ below (qI D (fun (r : Int32) (u : Nat × Q4) => r = nI (cS 1 (S0 (4 * (n0 : Int)) u.1)) ∧ u.1 * u.1 ≤ 4 * n0 ∧ 4 * n0 < (u.1 + 1) * (u.1 + 1)) (fun u => [(o, mO ad nf mo), (ad 8, a4 ca u.2)]) (fun u H => True) A) ([.ref o, .int (nI n0), .int (nI 1), .int (-1)] : List Value).toArray s 0 0 A) (F0 m 31 ls []) := by
  intro n
  induction n with
  | zero =>
    intro yb cn xv hb1 hb2 hT hfuel H locs ls hP hD hS hl 
    exact absurd hfuel (by omega)
  | succ n ih =>
    intro yb cn xv hb1 hb2 hT hfuel H locs ls hP hD hS hl 
    refine lv_iload hx hb dX5_goThrough_31 (lv_at hl 0 rfl) ?_
    refine lv_iload hx hb dX5_goThrough_33 (lv_at hl 6 rfl) ?_
    refine lv_ineg hx hb dX5_goThrough_35 ?_
    refine lv_topi (fun z_1 ez_1 => ?_)
    obtain rfl : z_1 = iZ (-((M : Nat) : Int)) := ez_1.trans (zneg (iZ_n _))
    refine lv_icmp_lt (tgt := 291) hx hb dX5_goThrough_36 (by decide) (fun c_2 => ?_) (fun c_2 => ?_)
    · have c_2 := ltz_y (a := yb) (b := -((M : Nat) : Int)) rfl rfl (by omega) (by omega) c_2
      rw [TB_e (by omega), List.nil_append] at hT
      exact hOut cn xv hT _ _ _ hP hD hS (lv_sub hl [1, 2, 3, 4, 5, 6, 7, 8] rfl)
    · have c_2 := ltz_no (a := yb) (b := -((M : Nat) : Int)) rfl rfl (by omega) (by omega) c_2
      refine lv_iload hx hb dX5_goThrough_39 (lv_at hl 6 rfl) ?_
      refine lv_topi (fun z_3 ez_3 => ?_)
      obtain rfl : z_3 = iZ ((M : Nat) : Int) := ez_3.trans (iZ_n M)
      refine lv_istore (lv' := [(9, .int (iZ ((M : Nat) : Int))), (8, .int (iZ yb)), (0, .ref o), (1, .int (nI n0)), (2, .int (nI 1)), (3, .int (-1)), (4, .int (iZ N)), (5, .int (nI M)), (6, .int (nI cn)), (7, .int (iZ ya))]) hx hb dX5_goThrough_41 hl (by decide) rfl (fun ls hl => ?_)
      rw [TB_s (by omega), List.append_assoc] at hT
      refine lp_X5_go_c1 hk o ad nf mo x n0 M T N ya yb (TB N M ya (yb - 1) ++ R) hn0 hM28 hM0 hNn hTb hMM hTT hba (by omega) (fun cn xv hT H locs ls hP hD hS hl => ?_) hx hb hr hts hown hlocks hnm hml hK hN hA  (((M : Int) + M + 2).toNat) ((M : Nat) : Int) cn xv (by omega) (by omega) hT (by omega) _ _ _ hP hD hS (lv_sub hl [0, 2, 3, 4, 5, 6, 7, 8, 9, 1] rfl)
      refine lv_iinc (v := iZ (yb - 1)) (lv' := [(8, .int (iZ (yb - 1))), (0, .ref o), (1, .int (nI n0)), (2, .int (nI 1)), (3, .int (-1)), (4, .int (iZ N)), (5, .int (nI M)), (6, .int (nI cn)), (7, .int (iZ ya))]) hx hb dX5_goThrough_285 hl (k := 8) rfl ((zadd rfl (b := -1) (by decide)).trans (by rw [Int.sub_eq_add_neg])) (by decide) rfl (fun ls hl => ?_)
      refine lv_goto (tgt := 31) hx hb dX5_goThrough_288 (by decide) ?_
      exact ih (yb - 1) cn xv (by omega) (by omega) hT (by omega) _ _ _ hP hD hS (lv_sub hl [0, 1, 2, 3, 4, 5, 6, 7, 8] rfl) 
set_option maxHeartbeats 4000000 in
set_option maxRecDepth 100000 in
theorem lp_X5_go_a1 {KN : State → Prop} (hk : KNok KN) {l : Launch} {D : va_G} {ca : Nat → ClassId} (o : Nat) (ad : Nat → Nat) (nf : Int32) (mo : Int32) (x : Q4) (n0 : Nat) (M : Nat) (T : Nat) (N : Int) (hn0 : n0 ≤ 200) (hM28 : M ≤ 28) (hM0 : 4 * n0 < (M + 1) * (M + 1)) (hNn : N = 4 * (n0 : Int)) (hTb : T ≤ 2 ^ 20) (hMM : M * M ≤ 4 * n0) (hTT : T = cS 1 (S0 (4 * (n0 : Int)) M)) {p : Program} {e : Env} {s : State} {m : MethodId} {below : List Frame} {meth : Method} {c : Code} {A : Nat → Prop}  (hx : p.tables.exec = Jvm.exec) (hb : c.code = cX5_goThrough) (hr : meth.sig.returnType = (some .int)) (hts : ∀ w ∈ lw_all, w.before ([.ref o, .int (nI n0), .int (nI 1), .int (-1)] : List Value).toArray s = true) (hown : s.vm.findClass yX5_goThrough.cls = some m.cls) (hlocks : meth.locks = false) (hnm : meth.name = yX5_goThrough.name) (hml : c.maxLocals = 14) (hK : va_K D vwCl (tysG ca) s) (hN : KN s) (hA : ∀ q, s.heap.size ≤ q → A q)  :
    ∀ (n : Nat) (ya : Int) (cn : Nat) (xv : Q4), (-(M : Int) - 1 ≤ ya) → (ya ≤ M) → (cn + cS 1 (TA N M ya) = T) → (ya + M + 1 < (n : Int)) →  ∀ (H : Heap) (locs : List Loc) (ls : Array Slot), va_P D vwCl [(o, mO ad nf mo), (ad 8, a4 ca xv)] H → va_D A [(o, mO ad nf mo), (ad 8, a4 ca xv)] → va_S A s.heap H locs → lv_has ls 14 [(7, .int (iZ ya)), (0, .ref o), (1, .int (nI n0)), (2, .int (nI 1)), (3, .int (-1)), (4, .int (iZ N)), (5, .int (nI M)), (6, .int (nI cn))] → W p l e ({ frames := 2, cells := 0, slots := 0, locals := 53 }) s m ([.ref o, .int (nI n0), .int (nI 1), .int (-1)] : List Value).toArray below meth c H locs 0 0 (MQ below (qI D (fun (r : Int32) (u : Nat × Q4) => r = nI (cS 1 (S0 (4 * (n0 : Int)) u.1)) ∧ u.1 * u.1 ≤ 4 * n0 ∧ 4 * n0 < (u.1 + 1) * (u.1 + 1)) (fun u => [(o, mO ad nf mo), (ad 8, a4 ca u.2)]) (fun u H => True) A) ([.ref o, .int (nI n0), .int (nI 1), .int (-1)] : List Value).toArray s 0 0 A) (F0 m 19 ls []) := by
  intro n
  induction n with
  | zero =>
    intro ya cn xv ha1 ha2 hT hfuel H locs ls hP hD hS hl 
    exact absurd hfuel (by omega)
  | succ n ih =>
    intro ya cn xv ha1 ha2 hT hfuel H locs ls hP hD hS hl 
    refine lv_iload hx hb dX5_goThrough_19 (lv_at hl 0 rfl) ?_
    refine lv_iload hx hb dX5_goThrough_21 (lv_at hl 6 rfl) ?_
    refine lv_ineg hx hb dX5_goThrough_23 ?_
    refine lv_topi (fun z_1 ez_1 => ?_)
    obtain rfl : z_1 = iZ (-((M : Nat) : Int)) := ez_1.trans (zneg (iZ_n _))
    refine lv_icmp_lt (tgt := 297) hx hb dX5_goThrough_24 (by decide) (fun c_2 => ?_) (fun c_2 => ?_)
    · have c_2 := ltz_y (a := ya) (b := -((M : Nat) : Int)) rfl rfl (by omega) (by omega) c_2
      refine lv_iload hx hb dX5_goThrough_297 (lv_at hl 7 rfl) ?_
      exact k_iret (M, xv) hx hb hr hlocks (⟨by rw [← hTT]; rw [TA_e (by omega)] at hT; exact congrArg nI hT, hMM, hM0⟩) hP hD trivial hS (Nat.le_of_ble_eq_true rfl) (Nat.le_of_ble_eq_true rfl) dX5_goThrough_299
    · have c_2 := ltz_no (a := ya) (b := -((M : Nat) : Int)) rfl rfl (by omega) (by omega) c_2
      refine lv_iload hx hb dX5_goThrough_27 (lv_at hl 6 rfl) ?_
      refine lv_topi (fun z_3 ez_3 => ?_)
      obtain rfl : z_3 = iZ ((M : Nat) : Int) := ez_3.trans (iZ_n M)
      refine lv_istore (lv' := [(8, .int (iZ ((M : Nat) : Int))), (7, .int (iZ ya)), (0, .ref o), (1, .int (nI n0)), (2, .int (nI 1)), (3, .int (-1)), (4, .int (iZ N)), (5, .int (nI M)), (6, .int (nI cn))]) hx hb dX5_goThrough_29 hl (by decide) rfl (fun ls hl => ?_)
      rw [TA_s (by omega)] at hT
      refine lp_X5_go_b1 hk o ad nf mo x n0 M T N ya (TA N M (ya - 1)) hn0 hM28 hM0 hNn hTb hMM hTT (by omega) (fun cn xv hT H locs ls hP hD hS hl => ?_) hx hb hr hts hown hlocks hnm hml hK hN hA  (((M : Int) + M + 2).toNat) ((M : Nat) : Int) cn xv (by omega) (by omega) hT (by omega) _ _ _ hP hD hS (lv_sub hl [0, 2, 3, 4, 5, 6, 7, 8, 1] rfl)
      refine lv_iinc (v := iZ (ya - 1)) (lv' := [(7, .int (iZ (ya - 1))), (0, .ref o), (1, .int (nI n0)), (2, .int (nI 1)), (3, .int (-1)), (4, .int (iZ N)), (5, .int (nI M)), (6, .int (nI cn))]) hx hb dX5_goThrough_291 hl (k := 7) rfl ((zadd rfl (b := -1) (by decide)).trans (by rw [Int.sub_eq_add_neg])) (by decide) rfl (fun ls hl => ?_)
      refine lv_goto (tgt := 19) hx hb dX5_goThrough_294 (by decide) ?_
      exact ih (ya - 1) cn xv (by omega) (by omega) hT (by omega) _ _ _ hP hD hS (lv_sub hl [0, 1, 2, 3, 4, 5, 6, 7] rfl) 
set_option maxHeartbeats 4000000 in
set_option maxRecDepth 100000 in
theorem ct_X5_go_1 {KN : State → Prop} (hk : KNok KN) (l : Launch) (D : va_G) (ca : Nat → ClassId) (zH : Nat) (o : Nat) (ad : Nat → Nat) (nf mo : Int32) (x : Q4) (n0 : Nat) (hn1 : 1 ≤ n0) (hn0 : n0 ≤ 200) : Met l yX5_goThrough (ws_ yX5_goThrough cX5_goThrough 14 (some .int)) ({ frames := 2, cells := 0, slots := 0, locals := 53 }) (va_Pc [.ref o, .int (nI n0), .int (nI 1), .int (-1)] (pr_ KN D ca [(o, mO ad nf mo), (ad 8, a4 ca x)] zH (fun _ => True))) (qI D (fun (r : Int32) (u : Nat × Q4) => r = nI (cS 1 (S0 (4 * (n0 : Int)) u.1)) ∧ u.1 * u.1 ≤ 4 * n0 ∧ 4 * n0 < (u.1 + 1) * (u.1 + 1)) (fun u => [(o, mO ad nf mo), (ad 8, a4 ca u.2)]) (fun u H => True) (va_A [(o, mO ad nf mo), (ad 8, a4 ca x)] zH)) 0 0 (va_A [(o, mO ad nf mo), (ad 8, a4 ca x)] zH) := by
  refine k_ofW (Qc := qI D (fun (r : Int32) (u : Nat × Q4) => r = nI (cS 1 (S0 (4 * (n0 : Int)) u.1)) ∧ u.1 * u.1 ≤ 4 * n0 ∧ 4 * n0 < (u.1 + 1) * (u.1 + 1)) (fun u => [(o, mO ad nf mo), (ad 8, a4 ca u.2)]) (fun u H => True)) (by decide) (Nat.le_of_ble_eq_true rfl) ?_
  intro p e s m below meth c ls A H hH hx hb hr hts hown hlocks hnm hml hsz hP hD hK hN hA hAn hS hro hl
  have hl : lv_has ls 14 [(0, .ref o), (1, .int (nI n0)), (2, .int (nI 1)), (3, .int (-1))] := hl
  refine lv_iconst (v := 4) hx hb dX5_goThrough_0 (by decide) ?_
  refine lv_iload_n hx hb dX5_goThrough_1 rfl (lv_at hl 1 rfl) ?_
  refine lv_imul hx hb dX5_goThrough_2 ?_
  refine lv_topi (fun z_1 ez_1 => ?_)
  obtain rfl : z_1 = iZ (4 * ((n0 : Nat) : Int)) := ez_1.trans (zmul (by decide) (iZ_n _))
  refine lv_istore (lv' := [(4, .int (iZ (4 * ((n0 : Nat) : Int)))), (0, .ref o), (1, .int (nI n0)), (2, .int (nI 1)), (3, .int (-1))]) hx hb dX5_goThrough_3 hl (by decide) rfl (fun ls hl => ?_)
  refine lv_iload hx hb dX5_goThrough_5 (lv_at hl 0 rfl) ?_
  refine lv_topi (fun z_2 ez_2 => ?_)
  obtain rfl : z_2 = nI (4 * n0) := ez_2.trans (i4n n0)
  refine k_calli (wr := [(o, mO ad nf mo), (ad 8, a4 ca x)]) (va_runS (As := [.int (nI (4 * n0))]) (rest := []) ⟨hx, hb, hml, hown, hts⟩ (ct_X5_rootOf hk l D ca H.size (4 * n0) (by omega)) (va_cwS 1 hts (lw_S q788 q789 q24 q790) rfl rfl rfl (by decide +kernel) ⟨Nat.le_of_ble_eq_true rfl, Nat.le_of_ble_eq_true rfl⟩) (k_pre hk hK hN hP hD [] (by decide) rfl trivial) rfl rfl hl.1 rfl (lv_room (Nat.le_of_ble_eq_true rfl)) dX5_goThrough_7 ⟨Nat.le_of_ble_eq_true rfl, Nat.le_of_ble_eq_true rfl⟩) hP hD hS hA [] [0, 1] rfl rfl (by decide) (by decide) (fun r_3 u_4 H locs w_5 hP hD hxw_5 hzw_5 hqw_5 hS => ?_)
  obtain ⟨ew_5, hr1w_5, hr2w_5⟩ := w_5
  subst ew_5
  refine lv_istore (lv' := [(5, .int (nI u_4)), (4, .int (iZ (4 * ((n0 : Nat) : Int)))), (0, .ref o), (1, .int (nI n0)), (2, .int (nI 1)), (3, .int (-1))]) hx hb dX5_goThrough_10 hl (by decide) rfl (fun ls hl => ?_)
  have hM28 : u_4 ≤ 28 := root_le (b := 28) hr1w_5 (by omega)
  obtain ⟨hS1, hS2, hS3⟩ := S0_T hn1 hn0 hM28 hr2w_5
  refine lv_iconst (v := 0) hx hb dX5_goThrough_12 (by decide) ?_
  refine lv_istore (lv' := [(6, .int 0), (5, .int (nI u_4)), (4, .int (iZ (4 * ((n0 : Nat) : Int)))), (0, .ref o), (1, .int (nI n0)), (2, .int (nI 1)), (3, .int (-1))]) hx hb dX5_goThrough_13 hl (by decide) rfl (fun ls hl => ?_)
  refine lv_iload hx hb dX5_goThrough_15 (lv_at hl 1 rfl) ?_
  refine lv_topi (fun z_6 ez_6 => ?_)
  obtain rfl : z_6 = iZ ((u_4 : Nat) : Int) := ez_6.trans (iZ_n u_4)
  refine lv_istore (lv' := [(7, .int (iZ ((u_4 : Nat) : Int))), (6, .int 0), (5, .int (nI u_4)), (4, .int (iZ (4 * ((n0 : Nat) : Int)))), (0, .ref o), (1, .int (nI n0)), (2, .int (nI 1)), (3, .int (-1))]) hx hb dX5_goThrough_17 hl (by decide) rfl (fun ls hl => ?_)
  exact lp_X5_go_a1 hk o ad nf mo x n0 u_4 (cS 1 (S0 (4 * (n0 : Int)) u_4)) (4 * (n0 : Int)) hn0 hM28 hr2w_5 rfl (Nat.le_trans (cS_le _ _) hS3) hr1w_5 rfl  hx hb hr hts hown hlocks hnm hml hK hN hA  (((u_4 : Int) + u_4 + 2).toNat) ((u_4 : Nat) : Int) 0 x (by omega) (by omega) (by rw [TA_0, Nat.zero_add]) (by omega) _ _ _ hP hD hS (lv_sub hl [0, 4, 5, 6, 7, 3, 2, 1] rfl) 
set_option maxHeartbeats 4000000 in
set_option maxRecDepth 100000 in
theorem lp_X5_go_c2 {KN : State → Prop} (hk : KNok KN) {l : Launch} {D : va_G} {ca : Nat → ClassId} (o : Nat) (ad : Nat → Nat) (nf : Int32) (mo : Int32) (x : Q4) (n0 : Nat) (M : Nat) (T : Nat) (N : Int) (ya : Int) (yb : Int) (R : List Z4') (hn0 : n0 ≤ 200) (hM28 : M ≤ 28) (hM0 : 4 * n0 < (M + 1) * (M + 1)) (hNn : N = 4 * (n0 : Int)) (hTb : T ≤ 2 ^ 20) (hMM : M * M ≤ 4 * n0) (hTT : T = cS 2 (S0 (4 * (n0 : Int)) M)) (hba : -(M : Int) ≤ ya ∧ ya ≤ M) (hbb : -(M : Int) ≤ yb ∧ yb ≤ M) {p : Program} {e : Env} {s : State} {m : MethodId} {below : List Frame} {meth : Method} {c : Code} {A : Nat → Prop} (hOut : ∀ (cn : Nat) (xv : Q4), cn + cS 2 (R) = T → ∀ (H : Heap) (locs : List Loc) (ls : Array Slot), va_P D vwCl [(o, mO ad nf mo), (ad 8, a4 ca xv)] H → va_D A [(o, mO ad nf mo), (ad 8, a4 ca xv)] → va_S A s.heap H locs → lv_has ls 14 [(0, .ref o), (1, .int (nI n0)), (2, .int (nI 2)), (3, .int (-1)), (4, .int (iZ N)), (5, .int (nI M)), (6, .int (nI cn)), (7, .int (iZ ya)), (8, .int (iZ yb))] → W p l e ({ frames := 2, cells := 0, slots := 0, locals := 53 }) s m ([.ref o, .int (nI n0), .int (nI 2), .int (-1)] : List Value).toArray below meth c H locs 0 0 (MQ below (qI D (fun (r : Int32) (u : Nat × Q4) => r = nI (cS 2 (S0 (4 * (n0 : Int)) u.1)) ∧ u.1 * u.1 ≤ 4 * n0 ∧ 4 * n0 < (u.1 + 1) * (u.1 + 1)) (fun u => [(o, mO ad nf mo), (ad 8, a4 ca u.2)]) (fun u H => True) A) ([.ref o, .int (nI n0), .int (nI 2), .int (-1)] : List Value).toArray s 0 0 A) (F0 m 285 ls [])) (hx : p.tables.exec = Jvm.exec) (hb : c.code = cX5_goThrough) (hr : meth.sig.returnType = (some .int)) (hts : ∀ w ∈ lw_all, w.before ([.ref o, .int (nI n0), .int (nI 2), .int (-1)] : List Value).toArray s = true) (hown : s.vm.findClass yX5_goThrough.cls = some m.cls) (hlocks : meth.locks = false) (hnm : meth.name = yX5_goThrough.name) (hml : c.maxLocals = 14) (hK : va_K D vwCl (tysG ca) s) (hN : KN s) (hA : ∀ q, s.heap.size ≤ q → A q)  :
    ∀ (n : Nat) (yc : Int) (cn : Nat) (xv : Q4), (-(M : Int) - 1 ≤ yc) → (yc ≤ M) → (cn + cS 2 (TC N M ya yb yc ++ R) = T) → (yc + M + 1 < (n : Int)) →  ∀ (H : Heap) (locs : List Loc) (ls : Array Slot), va_P D vwCl [(o, mO ad nf mo), (ad 8, a4 ca xv)] H → va_D A [(o, mO ad nf mo), (ad 8, a4 ca xv)] → va_S A s.heap H locs → lv_has ls 14 [(9, .int (iZ yc)), (0, .ref o), (1, .int (nI n0)), (2, .int (nI 2)), (3, .int (-1)), (4, .int (iZ N)), (5, .int (nI M)), (6, .int (nI cn)), (7, .int (iZ ya)), (8, .int (iZ yb))] → W p l e ({ frames := 2, cells := 0, slots := 0, locals := 53 }) s m ([.ref o, .int (nI n0), .int (nI 2), .int (-1)] : List Value).toArray below meth c H locs 0 0 (MQ below (qI D (fun (r : Int32) (u : Nat × Q4) => r = nI (cS 2 (S0 (4 * (n0 : Int)) u.1)) ∧ u.1 * u.1 ≤ 4 * n0 ∧ 4 * n0 < (u.1 + 1) * (u.1 + 1)) (fun u => [(o, mO ad nf mo), (ad 8, a4 ca u.2)]) (fun u H => True) A) ([.ref o, .int (nI n0), .int (nI 2), .int (-1)] : List Value).toArray s 0 0 A) (F0 m 43 ls []) := by
  intro n
  induction n with
  | zero =>
    intro yc cn xv hc1 hc2 hT hfuel H locs ls hP hD hS hl 
    exact absurd hfuel (by omega)
  | succ n ih =>
    intro yc cn xv hc1 hc2 hT hfuel H locs ls hP hD hS hl 
    have hqa := sqz (a := ya) (by omega) (by omega)
    have hqb := sqz (a := yb) (by omega) (by omega)
    refine lv_iload hx hb dX5_goThrough_43 (lv_at hl 0 rfl) ?_
    refine lv_iload hx hb dX5_goThrough_45 (lv_at hl 6 rfl) ?_
    refine lv_ineg hx hb dX5_goThrough_47 ?_
    refine lv_topi (fun z_1 ez_1 => ?_)
    obtain rfl : z_1 = iZ (-((M : Nat) : Int)) := ez_1.trans (zneg (iZ_n _))
    refine lv_icmp_lt (tgt := 285) hx hb dX5_goThrough_48 (by decide) (fun c_2 => ?_) (fun c_2 => ?_)
    · have c_2 := ltz_y (a := yc) (b := -((M : Nat) : Int)) rfl rfl (by omega) (by omega) c_2
      rw [TC_e (by omega), List.nil_append] at hT
      exact hOut cn xv hT _ _ _ hP hD hS (lv_sub hl [1, 2, 3, 4, 5, 6, 7, 8, 9] rfl)
    · have c_2 := ltz_no (a := yc) (b := -((M : Nat) : Int)) rfl rfl (by omega) (by omega) c_2
      refine lv_iload hx hb dX5_goThrough_51 (lv_at hl 8 rfl) ?_
      refine lv_iload hx hb dX5_goThrough_53 (lv_at hl 8 rfl) ?_
      refine lv_imul hx hb dX5_goThrough_55 ?_
      refine lv_topi (fun z_3 ez_3 => ?_)
      obtain rfl : z_3 = iZ (ya * ya) := ez_3.trans (zmul rfl rfl)
      refine lv_iload hx hb dX5_goThrough_56 (lv_at hl 9 rfl) ?_
      refine lv_iload hx hb dX5_goThrough_58 (lv_at hl 9 rfl) ?_
      refine lv_imul hx hb dX5_goThrough_60 ?_
      refine lv_topi (fun z_4 ez_4 => ?_)
      obtain rfl : z_4 = iZ (yb * yb) := ez_4.trans (zmul rfl rfl)
      refine lv_iadd hx hb dX5_goThrough_61 ?_
      refine lv_topi (fun z_5 ez_5 => ?_)
      obtain rfl : z_5 = iZ ((ya * ya) + (yb * yb)) := ez_5.trans (zadd rfl rfl)
      refine lv_iload hx hb dX5_goThrough_62 (lv_at hl 5 rfl) ?_
      refine lv_icmp_gt (tgt := 285) hx hb dX5_goThrough_64 (by decide) (fun c_6 => ?_) (fun c_6 => ?_)
      · have c_6 := ltz_y (a := N) (b := (ya * ya) + (yb * yb)) rfl rfl (by omega) (by omega) c_6
        rw [TC_neg (by omega), List.nil_append] at hT
        exact hOut cn xv hT _ _ _ hP hD hS (lv_sub hl [1, 2, 3, 4, 5, 6, 7, 8, 9] rfl)
      · have c_6 := ltz_no (a := N) (b := (ya * ya) + (yb * yb)) rfl rfl (by omega) (by omega) c_6
        have hqc := sqz (a := yc) (by omega) (by omega)
        rw [TC_s (by omega), List.append_assoc, cS_app] at hT
        refine lv_iload hx hb dX5_goThrough_67 (lv_at hl 5 rfl) ?_
        refine lv_iload hx hb dX5_goThrough_69 (lv_at hl 8 rfl) ?_
        refine lv_iload hx hb dX5_goThrough_71 (lv_at hl 8 rfl) ?_
        refine lv_imul hx hb dX5_goThrough_73 ?_
        refine lv_topi (fun z_7 ez_7 => ?_)
        obtain rfl : z_7 = iZ (ya * ya) := ez_7.trans (zmul rfl rfl)
        refine lv_isub hx hb dX5_goThrough_74 ?_
        refine lv_topi (fun z_8 ez_8 => ?_)
        obtain rfl : z_8 = iZ (N - (ya * ya)) := ez_8.trans (zsub rfl rfl)
        refine lv_iload hx hb dX5_goThrough_75 (lv_at hl 9 rfl) ?_
        refine lv_iload hx hb dX5_goThrough_77 (lv_at hl 9 rfl) ?_
        refine lv_imul hx hb dX5_goThrough_79 ?_
        refine lv_topi (fun z_9 ez_9 => ?_)
        obtain rfl : z_9 = iZ (yb * yb) := ez_9.trans (zmul rfl rfl)
        refine lv_isub hx hb dX5_goThrough_80 ?_
        refine lv_topi (fun z_10 ez_10 => ?_)
        obtain rfl : z_10 = iZ ((N - (ya * ya)) - (yb * yb)) := ez_10.trans (zsub rfl rfl)
        refine lv_iload hx hb dX5_goThrough_81 (lv_at hl 0 rfl) ?_
        refine lv_iload hx hb dX5_goThrough_83 (lv_at hl 0 rfl) ?_
        refine lv_imul hx hb dX5_goThrough_85 ?_
        refine lv_topi (fun z_11 ez_11 => ?_)
        obtain rfl : z_11 = iZ (yc * yc) := ez_11.trans (zmul rfl rfl)
        refine lv_isub hx hb dX5_goThrough_86 ?_
        refine lv_topi (fun z_12 ez_12 => ?_)
        obtain rfl : z_12 = iZ (((N - (ya * ya)) - (yb * yb)) - (yc * yc)) := ez_12.trans (zsub rfl rfl)
        refine lv_istore (lv' := [(10, .int (iZ (((N - (ya * ya)) - (yb * yb)) - (yc * yc)))), (9, .int (iZ yc)), (0, .ref o), (1, .int (nI n0)), (2, .int (nI 2)), (3, .int (-1)), (4, .int (iZ N)), (5, .int (nI M)), (6, .int (nI cn)), (7, .int (iZ ya)), (8, .int (iZ yb))]) hx hb dX5_goThrough_87 hl (by decide) rfl (fun ls hl => ?_)
        refine lv_iload hx hb dX5_goThrough_89 (lv_at hl 0 rfl) ?_
        refine lv_if_ge (tgt := 98) hx hb dX5_goThrough_91 (by decide) (fun c_13 => ?_) (fun c_13 => ?_)
        · have c_13 := lez_y (a := 0) (b := ((N - (ya * ya)) - (yb * yb)) - (yc * yc)) (by decide) rfl (by omega) (by omega) c_13
          refine lv_iload hx hb dX5_goThrough_98 (lv_at hl 0 rfl) ?_
          refine lv_topi (fun z_14 ez_14 => ?_)
          obtain rfl : z_14 = nI (((N - (ya * ya)) - (yb * yb)) - (yc * yc)).toNat := ez_14.trans (iZ_nn (by omega))
          refine k_calli (wr := [(o, mO ad nf mo), (ad 8, a4 ca xv)]) (va_runS (As := [.int (nI (((N - (ya * ya)) - (yb * yb)) - (yc * yc)).toNat)]) (rest := []) ⟨hx, hb, hml, hown, hts⟩ (ct_X5_rootOf hk l D ca H.size ((((N - (ya * ya)) - (yb * yb)) - (yc * yc)).toNat) (by omega)) (va_cwS 1 hts (lw_S q788 q789 q24 q790) rfl rfl rfl (by decide +kernel) ⟨Nat.le_of_ble_eq_true rfl, Nat.le_of_ble_eq_true rfl⟩) (k_pre hk hK hN hP hD [] (by decide) rfl trivial) rfl rfl hl.1 rfl (lv_room (Nat.le_of_ble_eq_true rfl)) dX5_goThrough_100 ⟨Nat.le_of_ble_eq_true rfl, Nat.le_of_ble_eq_true rfl⟩) hP hD hS hA [] [0, 1] rfl rfl (by decide) (by decide) (fun r_15 u_16 H locs w_17 hP hD hxw_17 hzw_17 hqw_17 hS => ?_)
          obtain ⟨ew_17, hr1w_17, hr2w_17⟩ := w_17
          subst ew_17
          have hrd : u_16 ≤ 28 := root_le (b := 28) hr1w_17 (by omega)
          have hrs := sqz (a := ((u_16 : Nat) : Int)) (by omega) (by omega)
          refine lv_istore (lv' := [(11, .int (nI u_16)), (10, .int (iZ (((N - (ya * ya)) - (yb * yb)) - (yc * yc)))), (9, .int (iZ yc)), (0, .ref o), (1, .int (nI n0)), (2, .int (nI 2)), (3, .int (-1)), (4, .int (iZ N)), (5, .int (nI M)), (6, .int (nI cn)), (7, .int (iZ ya)), (8, .int (iZ yb))]) hx hb dX5_goThrough_103 hl (by decide) rfl (fun ls hl => ?_)
          refine lv_iconst (v := 0) hx hb dX5_goThrough_105 (by decide) ?_
          refine lv_istore (lv' := [(12, .int 0), (11, .int (nI u_16)), (10, .int (iZ (((N - (ya * ya)) - (yb * yb)) - (yc * yc)))), (9, .int (iZ yc)), (0, .ref o), (1, .int (nI n0)), (2, .int (nI 2)), (3, .int (-1)), (4, .int (iZ N)), (5, .int (nI M)), (6, .int (nI cn)), (7, .int (iZ ya)), (8, .int (iZ yb))]) hx hb dX5_goThrough_106 hl (by decide) rfl (fun ls hl => ?_)
          refine lv_iload hx hb dX5_goThrough_108 (lv_at hl 0 rfl) ?_
          refine lv_iconst (v := 2) hx hb dX5_goThrough_110 (by decide) ?_
          refine lv_icmp_ge (tgt := 279) hx hb dX5_goThrough_111 (by decide) (fun c_18 => absurd c_18 (by decide)) (fun c_18 => ?_)
          refine lv_iload hx hb dX5_goThrough_114 (lv_at hl 1 rfl) ?_
          refine lv_if_lt (tgt := 279) hx hb dX5_goThrough_116 (by decide) (fun c_19 => absurd c_19 (fun z => absurd (lt_y (a := u_16) (b := 0) rfl rfl (by omega) (by decide) z) (Nat.not_lt_zero _))) (fun c_19 => ?_)
          refine lv_iload hx hb dX5_goThrough_119 (lv_at hl 1 rfl) ?_
          refine lv_iload hx hb dX5_goThrough_121 (lv_at hl 1 rfl) ?_
          refine lv_imul hx hb dX5_goThrough_123 ?_
          refine lv_topi (fun z_20 ez_20 => ?_)
          obtain rfl : z_20 = iZ (((u_16 : Nat) : Int) * ((u_16 : Nat) : Int)) := ez_20.trans (zmul (iZ_n _) (iZ_n _))
          refine lv_iload hx hb dX5_goThrough_124 (lv_at hl 2 rfl) ?_
          refine lv_icmp_ne (tgt := 279) hx hb dX5_goThrough_126 (by decide) (fun c_21 => ?_) (fun c_21 => ?_)
          · have c_21 := eqz_no (a := ((u_16 : Nat) : Int) * ((u_16 : Nat) : Int)) (b := ((N - (ya * ya)) - (yb * yb)) - (yc * yc)) rfl rfl (by omega) (by omega) c_21
            refine lv_iinc (v := iZ (yc - 1)) (lv' := [(9, .int (iZ (yc - 1))), (12, .int 0), (11, .int (nI u_16)), (10, .int (iZ (((N - (ya * ya)) - (yb * yb)) - (yc * yc)))), (0, .ref o), (1, .int (nI n0)), (2, .int (nI 2)), (3, .int (-1)), (4, .int (iZ N)), (5, .int (nI M)), (6, .int (nI cn)), (7, .int (iZ ya)), (8, .int (iZ yb))]) hx hb dX5_goThrough_279 hl (k := 3) rfl ((zadd rfl (b := -1) (by decide)).trans (by rw [Int.sub_eq_add_neg])) (by decide) rfl (fun ls hl => ?_)
            refine lv_goto (tgt := 43) hx hb dX5_goThrough_282 (by decide) ?_
            have hds : ds N M ya yb yc = [] := ds_root (lf := ((N - (ya * ya)) - (yb * yb)) - (yc * yc)) (by omega) hr1w_17 hr2w_17 (by omega) c_21
            have hcs : cS 2 (S3 N M ya yb yc) = 0 := by rw [S3, hds]; rfl
            exact ih (yc - 1) cn xv (by omega) (by omega) (by omega) (by omega) _ _ _ hP hD hS (lv_sub hl [0, 4, 5, 6, 7, 8, 9, 10, 11, 12] rfl) 
          · have c_21 := eqz_y (a := ((u_16 : Nat) : Int) * ((u_16 : Nat) : Int)) (b := ((N - (ya * ya)) - (yb * yb)) - (yc * yc)) rfl rfl (by omega) (by omega) c_21
            refine lv_aload_n hx hb dX5_goThrough_129 rfl (lv_at hl 4 rfl) ?_
            refine va_get (D := D) (ci := 4) (v := .ref (ad 8)) (C := RX5) (T := TX5) (N := 18) hx hb hts in_X5 hown hK hP 0 rfl rfl 8 (by decide) (hts _ q581) (fun _ h9 => h9) rfl dX5_goThrough_130 ?_
            refine lv_iconst (v := 0) hx hb dX5_goThrough_133 (by decide) ?_
            refine lv_iload hx hb dX5_goThrough_134 (lv_at hl 11 rfl) ?_
            refine lv_i2l (v := (iZ ya).toInt64) hx hb dX5_goThrough_136 rfl ?_
            refine va_last hx hb hK hP hD hS 1 2 rfl rfl (vin (by decide)) dX5_goThrough_137 (fun H locs hP hD hS => ?_)
            rw [L4_s0] at hP hD
            have hP : va_P D vwCl [(o, mO ad nf mo), (ad 8, a4 ca ((iZ ya).toInt64, xv.2.1, xv.2.2.1, xv.2.2.2))] H := hP
            have hD : va_D A [(o, mO ad nf mo), (ad 8, a4 ca ((iZ ya).toInt64, xv.2.1, xv.2.2.1, xv.2.2.2))] := hD
            refine lv_aload_n hx hb dX5_goThrough_138 rfl (lv_at hl 4 rfl) ?_
            refine va_get (D := D) (ci := 4) (v := .ref (ad 8)) (C := RX5) (T := TX5) (N := 18) hx hb hts in_X5 hown hK hP 0 rfl rfl 8 (by decide) (hts _ q581) (fun _ h9 => h9) rfl dX5_goThrough_139 ?_
            refine lv_iconst (v := 1) hx hb dX5_goThrough_142 (by decide) ?_
            refine lv_iload hx hb dX5_goThrough_143 (lv_at hl 12 rfl) ?_
            refine lv_i2l (v := (iZ yb).toInt64) hx hb dX5_goThrough_145 rfl ?_
            refine va_last hx hb hK hP hD hS 1 2 rfl rfl (vin (by decide)) dX5_goThrough_146 (fun H locs hP hD hS => ?_)
            rw [L4_s1] at hP hD
            have hP : va_P D vwCl [(o, mO ad nf mo), (ad 8, a4 ca ((iZ ya).toInt64, (iZ yb).toInt64, xv.2.2.1, xv.2.2.2))] H := hP
            have hD : va_D A [(o, mO ad nf mo), (ad 8, a4 ca ((iZ ya).toInt64, (iZ yb).toInt64, xv.2.2.1, xv.2.2.2))] := hD
            refine lv_aload_n hx hb dX5_goThrough_147 rfl (lv_at hl 4 rfl) ?_
            refine va_get (D := D) (ci := 4) (v := .ref (ad 8)) (C := RX5) (T := TX5) (N := 18) hx hb hts in_X5 hown hK hP 0 rfl rfl 8 (by decide) (hts _ q581) (fun _ h9 => h9) rfl dX5_goThrough_148 ?_
            refine lv_iconst (v := 2) hx hb dX5_goThrough_151 (by decide) ?_
            refine lv_iload hx hb dX5_goThrough_152 (lv_at hl 3 rfl) ?_
            refine lv_i2l (v := (iZ yc).toInt64) hx hb dX5_goThrough_154 rfl ?_
            refine va_last hx hb hK hP hD hS 1 2 rfl rfl (vin (by decide)) dX5_goThrough_155 (fun H locs hP hD hS => ?_)
            rw [L4_s2] at hP hD
            have hP : va_P D vwCl [(o, mO ad nf mo), (ad 8, a4 ca ((iZ ya).toInt64, (iZ yb).toInt64, (iZ yc).toInt64, xv.2.2.2))] H := hP
            have hD : va_D A [(o, mO ad nf mo), (ad 8, a4 ca ((iZ ya).toInt64, (iZ yb).toInt64, (iZ yc).toInt64, xv.2.2.2))] := hD
            refine lv_aload_n hx hb dX5_goThrough_156 rfl (lv_at hl 4 rfl) ?_
            refine va_get (D := D) (ci := 4) (v := .ref (ad 8)) (C := RX5) (T := TX5) (N := 18) hx hb hts in_X5 hown hK hP 0 rfl rfl 8 (by decide) (hts _ q581) (fun _ h9 => h9) rfl dX5_goThrough_157 ?_
            refine lv_iconst (v := 3) hx hb dX5_goThrough_160 (by decide) ?_
            refine lv_iload hx hb dX5_goThrough_161 (lv_at hl 0 rfl) ?_
            refine lv_if_ne (tgt := 172) hx hb dX5_goThrough_163 (by decide) (fun c_22 => absurd (by decide) c_22) (fun c_22 => ?_)
            refine lv_iload hx hb dX5_goThrough_166 (lv_at hl 1 rfl) ?_
            refine lv_topi (fun z_23 ez_23 => ?_)
            obtain rfl : z_23 = iZ ((u_16 : Nat) : Int) := ez_23.trans (iZ_n u_16)
            refine lv_i2l (v := (iZ ((u_16 : Nat) : Int)).toInt64) hx hb dX5_goThrough_168 rfl ?_
            refine lv_goto (tgt := 176) hx hb dX5_goThrough_169 (by decide) ?_
            refine va_last hx hb hK hP hD hS 1 2 rfl rfl (vin (by decide)) dX5_goThrough_176 (fun H locs hP hD hS => ?_)
            rw [L4_s3] at hP hD
            have hP : va_P D vwCl [(o, mO ad nf mo), (ad 8, a4 ca ((iZ ya).toInt64, (iZ yb).toInt64, (iZ yc).toInt64, (iZ ((u_16 : Nat) : Int)).toInt64))] H := hP
            have hD : va_D A [(o, mO ad nf mo), (ad 8, a4 ca ((iZ ya).toInt64, (iZ yb).toInt64, (iZ yc).toInt64, (iZ ((u_16 : Nat) : Int)).toInt64))] := hD
            refine lv_iload hx hb dX5_goThrough_177 (lv_at hl 11 rfl) ?_
            refine lv_i2l (v := (iZ ya).toInt64) hx hb dX5_goThrough_179 rfl ?_
            refine lv_iload hx hb dX5_goThrough_180 (lv_at hl 12 rfl) ?_
            refine lv_i2l (v := (iZ yb).toInt64) hx hb dX5_goThrough_182 rfl ?_
            refine lv_iload hx hb dX5_goThrough_183 (lv_at hl 3 rfl) ?_
            refine lv_i2l (v := (iZ yc).toInt64) hx hb dX5_goThrough_185 rfl ?_
            refine lv_iload hx hb dX5_goThrough_186 (lv_at hl 1 rfl) ?_
            refine lv_topi (fun z_24 ez_24 => ?_)
            obtain rfl : z_24 = iZ ((u_16 : Nat) : Int) := ez_24.trans (iZ_n u_16)
            refine lv_i2l (v := (iZ ((u_16 : Nat) : Int)).toInt64) hx hb dX5_goThrough_188 rfl ?_
            refine k_calli (wr := [(o, mO ad nf mo), (ad 8, a4 ca ((iZ ya).toInt64, (iZ yb).toInt64, (iZ yc).toInt64, (iZ ((u_16 : Nat) : Int)).toInt64))]) (va_runS (As := [.long ((iZ ya).toInt64), .long ((iZ yb).toInt64), .long ((iZ yc).toInt64), .long ((iZ ((u_16 : Nat) : Int)).toInt64)]) (rest := []) ⟨hx, hb, hml, hown, hts⟩ (ct_X5_isOne hk l D ca H.size ((iZ ya).toInt64) ((iZ yb).toInt64) ((iZ yc).toInt64) ((iZ ((u_16 : Nat) : Int)).toInt64)) (va_cwS 4 hts (lw_S q570 q571 q24 q572) rfl rfl rfl (by decide +kernel) ⟨Nat.le_of_ble_eq_true rfl, Nat.le_of_ble_eq_true rfl⟩) (k_pre hk hK hN hP hD [] (by decide) rfl trivial) rfl rfl hl.1 rfl (lv_room (Nat.le_of_ble_eq_true rfl)) dX5_goThrough_189 ⟨Nat.le_of_ble_eq_true rfl, Nat.le_of_ble_eq_true rfl⟩) hP hD hS hA [] [0, 1] rfl rfl (by decide) (by decide) (fun r_25 u_26 H locs w_27 hP hD hxw_27 hzw_27 hqw_27 hS => ?_)
            obtain rfl : r_25 = bI (p_one ((iZ ya).toInt64) ((iZ yb).toInt64) ((iZ yc).toInt64) ((iZ ((u_16 : Nat) : Int)).toInt64)) := w_27
            refine lv_if_eq (tgt := 241) hx hb dX5_goThrough_192 (by decide) (fun c_28 => ?_) (fun c_28 => ?_)
            · have c_28 := bI_z0 c_28
              refine lv_iconst (v := 0) hx hb dX5_goThrough_241 (by decide) ?_
              refine lv_istore (lv' := [(13, .int 0), (12, .int 0), (11, .int (nI u_16)), (10, .int (iZ (((N - (ya * ya)) - (yb * yb)) - (yc * yc)))), (9, .int (iZ yc)), (0, .ref o), (1, .int (nI n0)), (2, .int (nI 2)), (3, .int (-1)), (4, .int (iZ N)), (5, .int (nI M)), (6, .int (nI cn)), (7, .int (iZ ya)), (8, .int (iZ yb))]) hx hb dX5_goThrough_242 hl (by decide) rfl (fun ls hl => ?_)
              refine lv_iload hx hb dX5_goThrough_244 (lv_at hl 0 rfl) ?_
              refine lv_if_eq (tgt := 258) hx hb dX5_goThrough_246 (by decide) (fun c_29 => ?_) (fun c_29 => absurd (by decide) c_29)
              refine lv_iload hx hb dX5_goThrough_258 (lv_at hl 11 rfl) ?_
              refine lv_iload hx hb dX5_goThrough_260 (lv_at hl 0 rfl) ?_
              refine lv_if_eq (tgt := 269) hx hb dX5_goThrough_262 (by decide) (fun c_30 => ?_) (fun c_30 => absurd (by decide) c_30)
              refine lv_iconst (v := 0) hx hb dX5_goThrough_269 (by decide) ?_
              refine lv_iadd hx hb dX5_goThrough_270 ?_
              refine lv_topi (fun z_31 ez_31 => ?_)
              obtain rfl : z_31 = nI cn := ez_31.trans (eq_add0 rfl)
              refine lv_istore (lv' := [(6, .int (nI cn)), (13, .int 0), (12, .int 0), (11, .int (nI u_16)), (10, .int (iZ (((N - (ya * ya)) - (yb * yb)) - (yc * yc)))), (9, .int (iZ yc)), (0, .ref o), (1, .int (nI n0)), (2, .int (nI 2)), (3, .int (-1)), (4, .int (iZ N)), (5, .int (nI M)), (7, .int (iZ ya)), (8, .int (iZ yb))]) hx hb dX5_goThrough_271 hl (by decide) rfl (fun ls hl => ?_)
              refine lv_iinc (v := 1) (lv' := [(12, .int 1), (6, .int (nI cn)), (13, .int 0), (11, .int (nI u_16)), (10, .int (iZ (((N - (ya * ya)) - (yb * yb)) - (yc * yc)))), (9, .int (iZ yc)), (0, .ref o), (1, .int (nI n0)), (2, .int (nI 2)), (3, .int (-1)), (4, .int (iZ N)), (5, .int (nI M)), (7, .int (iZ ya)), (8, .int (iZ yb))]) hx hb dX5_goThrough_273 hl (k := 2) rfl (by decide) (by decide) rfl (fun ls hl => ?_)
              refine lv_goto (tgt := 108) hx hb dX5_goThrough_276 (by decide) ?_
              refine lv_iload hx hb dX5_goThrough_108 (lv_at hl 0 rfl) ?_
              refine lv_iconst (v := 2) hx hb dX5_goThrough_110 (by decide) ?_
              refine lv_icmp_ge (tgt := 279) hx hb dX5_goThrough_111 (by decide) (fun c_32 => absurd c_32 (by decide)) (fun c_32 => ?_)
              refine lv_iload hx hb dX5_goThrough_114 (lv_at hl 3 rfl) ?_
              refine lv_if_lt (tgt := 279) hx hb dX5_goThrough_116 (by decide) (fun c_33 => absurd c_33 (fun z => absurd (lt_y (a := u_16) (b := 0) rfl rfl (by omega) (by decide) z) (Nat.not_lt_zero _))) (fun c_33 => ?_)
              refine lv_iload hx hb dX5_goThrough_119 (lv_at hl 3 rfl) ?_
              refine lv_iload hx hb dX5_goThrough_121 (lv_at hl 3 rfl) ?_
              refine lv_imul hx hb dX5_goThrough_123 ?_
              refine lv_topi (fun z_34 ez_34 => ?_)
              obtain rfl : z_34 = iZ (((u_16 : Nat) : Int) * ((u_16 : Nat) : Int)) := ez_34.trans (zmul (iZ_n _) (iZ_n _))
              refine lv_iload hx hb dX5_goThrough_124 (lv_at hl 4 rfl) ?_
              refine lv_icmp_ne (tgt := 279) hx hb dX5_goThrough_126 (by decide) (fun c_35 => absurd (show iZ (((u_16 : Nat) : Int) * ((u_16 : Nat) : Int)) = iZ (((N - (ya * ya)) - (yb * yb)) - (yc * yc)) from congrArg iZ c_21) c_35) (fun c_35 => ?_)
              refine lv_aload_n hx hb dX5_goThrough_129 rfl (lv_at hl 6 rfl) ?_
              refine va_get (D := D) (ci := 4) (v := .ref (ad 8)) (C := RX5) (T := TX5) (N := 18) hx hb hts in_X5 hown hK hP 0 rfl rfl 8 (by decide) (hts _ q581) (fun _ h9 => h9) rfl dX5_goThrough_130 ?_
              refine lv_iconst (v := 0) hx hb dX5_goThrough_133 (by decide) ?_
              refine lv_iload hx hb dX5_goThrough_134 (lv_at hl 12 rfl) ?_
              refine lv_i2l (v := (iZ ya).toInt64) hx hb dX5_goThrough_136 rfl ?_
              refine va_last hx hb hK hP hD hS 1 2 rfl rfl (vin (by decide)) dX5_goThrough_137 (fun H locs hP hD hS => ?_)
              rw [L4_s0] at hP hD
              have hP : va_P D vwCl [(o, mO ad nf mo), (ad 8, a4 ca ((iZ ya).toInt64, (iZ yb).toInt64, (iZ yc).toInt64, (iZ ((u_16 : Nat) : Int)).toInt64))] H := hP
              have hD : va_D A [(o, mO ad nf mo), (ad 8, a4 ca ((iZ ya).toInt64, (iZ yb).toInt64, (iZ yc).toInt64, (iZ ((u_16 : Nat) : Int)).toInt64))] := hD
              refine lv_aload_n hx hb dX5_goThrough_138 rfl (lv_at hl 6 rfl) ?_
              refine va_get (D := D) (ci := 4) (v := .ref (ad 8)) (C := RX5) (T := TX5) (N := 18) hx hb hts in_X5 hown hK hP 0 rfl rfl 8 (by decide) (hts _ q581) (fun _ h9 => h9) rfl dX5_goThrough_139 ?_
              refine lv_iconst (v := 1) hx hb dX5_goThrough_142 (by decide) ?_
              refine lv_iload hx hb dX5_goThrough_143 (lv_at hl 13 rfl) ?_
              refine lv_i2l (v := (iZ yb).toInt64) hx hb dX5_goThrough_145 rfl ?_
              refine va_last hx hb hK hP hD hS 1 2 rfl rfl (vin (by decide)) dX5_goThrough_146 (fun H locs hP hD hS => ?_)
              rw [L4_s1] at hP hD
              have hP : va_P D vwCl [(o, mO ad nf mo), (ad 8, a4 ca ((iZ ya).toInt64, (iZ yb).toInt64, (iZ yc).toInt64, (iZ ((u_16 : Nat) : Int)).toInt64))] H := hP
              have hD : va_D A [(o, mO ad nf mo), (ad 8, a4 ca ((iZ ya).toInt64, (iZ yb).toInt64, (iZ yc).toInt64, (iZ ((u_16 : Nat) : Int)).toInt64))] := hD
              refine lv_aload_n hx hb dX5_goThrough_147 rfl (lv_at hl 6 rfl) ?_
              refine va_get (D := D) (ci := 4) (v := .ref (ad 8)) (C := RX5) (T := TX5) (N := 18) hx hb hts in_X5 hown hK hP 0 rfl rfl 8 (by decide) (hts _ q581) (fun _ h9 => h9) rfl dX5_goThrough_148 ?_
              refine lv_iconst (v := 2) hx hb dX5_goThrough_151 (by decide) ?_
              refine lv_iload hx hb dX5_goThrough_152 (lv_at hl 5 rfl) ?_
              refine lv_i2l (v := (iZ yc).toInt64) hx hb dX5_goThrough_154 rfl ?_
              refine va_last hx hb hK hP hD hS 1 2 rfl rfl (vin (by decide)) dX5_goThrough_155 (fun H locs hP hD hS => ?_)
              rw [L4_s2] at hP hD
              have hP : va_P D vwCl [(o, mO ad nf mo), (ad 8, a4 ca ((iZ ya).toInt64, (iZ yb).toInt64, (iZ yc).toInt64, (iZ ((u_16 : Nat) : Int)).toInt64))] H := hP
              have hD : va_D A [(o, mO ad nf mo), (ad 8, a4 ca ((iZ ya).toInt64, (iZ yb).toInt64, (iZ yc).toInt64, (iZ ((u_16 : Nat) : Int)).toInt64))] := hD
              refine lv_aload_n hx hb dX5_goThrough_156 rfl (lv_at hl 6 rfl) ?_
              refine va_get (D := D) (ci := 4) (v := .ref (ad 8)) (C := RX5) (T := TX5) (N := 18) hx hb hts in_X5 hown hK hP 0 rfl rfl 8 (by decide) (hts _ q581) (fun _ h9 => h9) rfl dX5_goThrough_157 ?_
              refine lv_iconst (v := 3) hx hb dX5_goThrough_160 (by decide) ?_
              refine lv_iload hx hb dX5_goThrough_161 (lv_at hl 0 rfl) ?_
              refine lv_if_ne (tgt := 172) hx hb dX5_goThrough_163 (by decide) (fun c_36 => ?_) (fun c_36 => absurd c_36 (by decide))
              refine lv_iload hx hb dX5_goThrough_172 (lv_at hl 3 rfl) ?_
              refine lv_ineg hx hb dX5_goThrough_174 ?_
              refine lv_topi (fun z_37 ez_37 => ?_)
              obtain rfl : z_37 = iZ (-((u_16 : Nat) : Int)) := ez_37.trans (zneg (iZ_n _))
              refine lv_i2l (v := (iZ (-((u_16 : Nat) : Int))).toInt64) hx hb dX5_goThrough_175 rfl ?_
              refine va_last hx hb hK hP hD hS 1 2 rfl rfl (vin (by decide)) dX5_goThrough_176 (fun H locs hP hD hS => ?_)
              rw [L4_s3] at hP hD
              have hP : va_P D vwCl [(o, mO ad nf mo), (ad 8, a4 ca ((iZ ya).toInt64, (iZ yb).toInt64, (iZ yc).toInt64, (iZ (-((u_16 : Nat) : Int))).toInt64))] H := hP
              have hD : va_D A [(o, mO ad nf mo), (ad 8, a4 ca ((iZ ya).toInt64, (iZ yb).toInt64, (iZ yc).toInt64, (iZ (-((u_16 : Nat) : Int))).toInt64))] := hD
              refine lv_iload hx hb dX5_goThrough_177 (lv_at hl 12 rfl) ?_
              refine lv_i2l (v := (iZ ya).toInt64) hx hb dX5_goThrough_179 rfl ?_
              refine lv_iload hx hb dX5_goThrough_180 (lv_at hl 13 rfl) ?_
              refine lv_i2l (v := (iZ yb).toInt64) hx hb dX5_goThrough_182 rfl ?_
              refine lv_iload hx hb dX5_goThrough_183 (lv_at hl 5 rfl) ?_
              refine lv_i2l (v := (iZ yc).toInt64) hx hb dX5_goThrough_185 rfl ?_
              refine lv_iload hx hb dX5_goThrough_186 (lv_at hl 3 rfl) ?_
              refine lv_topi (fun z_38 ez_38 => ?_)
              obtain rfl : z_38 = iZ ((u_16 : Nat) : Int) := ez_38.trans (iZ_n u_16)
              refine lv_i2l (v := (iZ ((u_16 : Nat) : Int)).toInt64) hx hb dX5_goThrough_188 rfl ?_
              refine k_calli (wr := [(o, mO ad nf mo), (ad 8, a4 ca ((iZ ya).toInt64, (iZ yb).toInt64, (iZ yc).toInt64, (iZ (-((u_16 : Nat) : Int))).toInt64))]) (va_runS (As := [.long ((iZ ya).toInt64), .long ((iZ yb).toInt64), .long ((iZ yc).toInt64), .long ((iZ ((u_16 : Nat) : Int)).toInt64)]) (rest := []) ⟨hx, hb, hml, hown, hts⟩ (ct_X5_isOne hk l D ca H.size ((iZ ya).toInt64) ((iZ yb).toInt64) ((iZ yc).toInt64) ((iZ ((u_16 : Nat) : Int)).toInt64)) (va_cwS 4 hts (lw_S q570 q571 q24 q572) rfl rfl rfl (by decide +kernel) ⟨Nat.le_of_ble_eq_true rfl, Nat.le_of_ble_eq_true rfl⟩) (k_pre hk hK hN hP hD [] (by decide) rfl trivial) rfl rfl hl.1 rfl (lv_room (Nat.le_of_ble_eq_true rfl)) dX5_goThrough_189 ⟨Nat.le_of_ble_eq_true rfl, Nat.le_of_ble_eq_true rfl⟩) hP hD hS hA [] [0, 1] rfl rfl (by decide) (by decide) (fun r_39 u_40 H locs w_41 hP hD hxw_41 hzw_41 hqw_41 hS => ?_)
              obtain rfl : r_39 = bI (p_one ((iZ ya).toInt64) ((iZ yb).toInt64) ((iZ yc).toInt64) ((iZ ((u_16 : Nat) : Int)).toInt64)) := w_41
              refine lv_if_eq (tgt := 241) hx hb dX5_goThrough_192 (by decide) (fun c_42 => ?_) (fun c_42 => absurd (by rw [c_28]; rfl) c_42)
              refine lv_iconst (v := 0) hx hb dX5_goThrough_241 (by decide) ?_
              refine lv_istore (lv' := [(13, .int 0), (12, .int 1), (6, .int (nI cn)), (11, .int (nI u_16)), (10, .int (iZ (((N - (ya * ya)) - (yb * yb)) - (yc * yc)))), (9, .int (iZ yc)), (0, .ref o), (1, .int (nI n0)), (2, .int (nI 2)), (3, .int (-1)), (4, .int (iZ N)), (5, .int (nI M)), (7, .int (iZ ya)), (8, .int (iZ yb))]) hx hb dX5_goThrough_242 hl (by decide) rfl (fun ls hl => ?_)
              refine lv_iload hx hb dX5_goThrough_244 (lv_at hl 0 rfl) ?_
              refine lv_if_eq (tgt := 258) hx hb dX5_goThrough_246 (by decide) (fun c_43 => ?_) (fun c_43 => absurd (by decide) c_43)
              refine lv_iload hx hb dX5_goThrough_258 (lv_at hl 2 rfl) ?_
              refine lv_iload hx hb dX5_goThrough_260 (lv_at hl 0 rfl) ?_
              refine lv_if_eq (tgt := 269) hx hb dX5_goThrough_262 (by decide) (fun c_44 => ?_) (fun c_44 => absurd (by decide) c_44)
              refine lv_iconst (v := 0) hx hb dX5_goThrough_269 (by decide) ?_
              refine lv_iadd hx hb dX5_goThrough_270 ?_
              refine lv_topi (fun z_45 ez_45 => ?_)
              obtain rfl : z_45 = nI cn := ez_45.trans (eq_add0 rfl)
              refine lv_istore (lv' := [(6, .int (nI cn)), (13, .int 0), (12, .int 1), (11, .int (nI u_16)), (10, .int (iZ (((N - (ya * ya)) - (yb * yb)) - (yc * yc)))), (9, .int (iZ yc)), (0, .ref o), (1, .int (nI n0)), (2, .int (nI 2)), (3, .int (-1)), (4, .int (iZ N)), (5, .int (nI M)), (7, .int (iZ ya)), (8, .int (iZ yb))]) hx hb dX5_goThrough_271 hl (by decide) rfl (fun ls hl => ?_)
              refine lv_iinc (v := 2) (lv' := [(12, .int 2), (6, .int (nI cn)), (13, .int 0), (11, .int (nI u_16)), (10, .int (iZ (((N - (ya * ya)) - (yb * yb)) - (yc * yc)))), (9, .int (iZ yc)), (0, .ref o), (1, .int (nI n0)), (2, .int (nI 2)), (3, .int (-1)), (4, .int (iZ N)), (5, .int (nI M)), (7, .int (iZ ya)), (8, .int (iZ yb))]) hx hb dX5_goThrough_273 hl (k := 2) rfl (by decide) (by decide) rfl (fun ls hl => ?_)
              refine lv_goto (tgt := 108) hx hb dX5_goThrough_276 (by decide) ?_
              refine lv_iload hx hb dX5_goThrough_108 (lv_at hl 0 rfl) ?_
              refine lv_iconst (v := 2) hx hb dX5_goThrough_110 (by decide) ?_
              refine lv_icmp_ge (tgt := 279) hx hb dX5_goThrough_111 (by decide) (fun c_46 => ?_) (fun c_46 => absurd (by decide) c_46)
              refine lv_iinc (v := iZ (yc - 1)) (lv' := [(9, .int (iZ (yc - 1))), (12, .int 2), (6, .int (nI cn)), (13, .int 0), (11, .int (nI u_16)), (10, .int (iZ (((N - (ya * ya)) - (yb * yb)) - (yc * yc)))), (0, .ref o), (1, .int (nI n0)), (2, .int (nI 2)), (3, .int (-1)), (4, .int (iZ N)), (5, .int (nI M)), (7, .int (iZ ya)), (8, .int (iZ yb))]) hx hb dX5_goThrough_279 hl (k := 5) rfl ((zadd rfl (b := -1) (by decide)).trans (by rw [Int.sub_eq_add_neg])) (by decide) rfl (fun ls hl => ?_)
              refine lv_goto (tgt := 43) hx hb dX5_goThrough_282 (by decide) ?_
              have hpp := one_par (a := ya) (b := yb) (c := yc) (d := ((u_16 : Nat) : Int)) (by omega) (by omega) (by omega) (by omega)
              have hds : ds N M ya yb yc = [] := ds_none (fun d9 => okQ_f (fun z9 => by have hz9 := sq_inj (x := d9) (d := ((u_16 : Nat) : Int)) (by omega) (by omega); rw [c_28] at hpp; have hn9 : ¬ ((ya - yb) % 2 = 0 ∧ (ya - yc) % 2 = 0 ∧ (ya - ((u_16 : Nat) : Int)) % 2 = 0) := (fun q9 => absurd (hpp.mpr q9) (by decide)); exact hn9 ⟨z9.2.1, z9.2.2.1, by rcases hz9 with e9 | e9 <;> (rw [e9] at z9; omega)⟩))
              have hcs : cS 2 (S3 N M ya yb yc) = 0 := by rw [S3, hds]; rfl
              exact ih (yc - 1) cn ((iZ ya).toInt64, (iZ yb).toInt64, (iZ yc).toInt64, (iZ (-((u_16 : Nat) : Int))).toInt64) (by omega) (by omega) (by omega) (by omega) _ _ _ hP hD hS (lv_sub hl [0, 6, 7, 8, 9, 10, 11, 2, 12, 13] rfl) 
            · have c_28 := bI_z1 c_28
              refine lv_iload hx hb dX5_goThrough_195 (lv_at hl 0 rfl) ?_
              refine lv_if_eq (tgt := 205) hx hb dX5_goThrough_197 (by decide) (fun c_47 => ?_) (fun c_47 => absurd (by decide) c_47)
              refine lv_iload_n hx hb dX5_goThrough_205 rfl (lv_at hl 6 rfl) ?_
              refine lv_if_eq (tgt := 237) hx hb dX5_goThrough_206 (by decide) (fun c_48 => absurd c_48 (by decide)) (fun c_48 => ?_)
              refine lv_iload_n hx hb dX5_goThrough_209 rfl (lv_at hl 6 rfl) ?_
              refine lv_iconst (v := 1) hx hb dX5_goThrough_210 (by decide) ?_
              refine lv_icmp_ne (tgt := 221) hx hb dX5_goThrough_211 (by decide) (fun c_49 => ?_) (fun c_49 => absurd c_49 (by decide))
              refine lv_iload_n hx hb dX5_goThrough_221 rfl (lv_at hl 6 rfl) ?_
              refine lv_iconst (v := 2) hx hb dX5_goThrough_222 (by decide) ?_
              refine lv_icmp_ne (tgt := 241) hx hb dX5_goThrough_223 (by decide) (fun c_50 => absurd rfl c_50) (fun c_50 => ?_)
              refine lv_aload_n hx hb dX5_goThrough_226 rfl (lv_at hl 4 rfl) ?_
              refine lv_aload_n hx hb dX5_goThrough_227 rfl (lv_at hl 4 rfl) ?_
              refine va_get (D := D) (ci := 4) (v := .ref (ad 8)) (C := RX5) (T := TX5) (N := 18) hx hb hts in_X5 hown hK hP 0 rfl rfl 8 (by decide) (hts _ q581) (fun _ h9 => h9) rfl dX5_goThrough_228 ?_
              refine k_calli (wr := []) (va_runV (As := [.ref (ad 8)]) (rest := []) ⟨hx, hb, hml, hown, hts⟩ (ct_X5_isPrimitive hk l D ca H.size o ad nf mo (ad 8) ((iZ ya).toInt64, (iZ yb).toInt64, (iZ yc).toInt64, (iZ ((u_16 : Nat) : Int)).toInt64) (qz_bd (by omega) (by omega) (by omega) (by omega))) (cwV 1 hts (lw_V q702 q704 qs11 q24 q705) rfl rfl rfl (by decide +kernel) ⟨Nat.le_of_ble_eq_true rfl, Nat.le_of_ble_eq_true rfl⟩) (k_preV hk hK hN hP hD [0, 1] (by decide) rfl trivial hP rfl (q0 := 0) rfl) rfl rfl hl.1 rfl (lv_room (Nat.le_of_ble_eq_true rfl)) dX5_goThrough_231 ⟨Nat.le_of_ble_eq_true rfl, Nat.le_of_ble_eq_true rfl⟩) hP hD hS hA [0, 1] [] rfl rfl (by decide) (by decide) (fun r_51 u_52 H locs w_53 hP hD hxw_53 hzw_53 hqw_53 hS => ?_)
              have hP : va_P D vwCl [(o, mO ad nf mo), (ad 8, a4 ca ((iZ ya).toInt64, (iZ yb).toInt64, (iZ yc).toInt64, (iZ ((u_16 : Nat) : Int)).toInt64))] H := hP
              have hD : va_D A [(o, mO ad nf mo), (ad 8, a4 ca ((iZ ya).toInt64, (iZ yb).toInt64, (iZ yc).toInt64, (iZ ((u_16 : Nat) : Int)).toInt64))] := hD
              obtain ⟨hrr_51, hur_51⟩ := w_53
              subst hrr_51
              refine lv_if_eq (tgt := 241) hx hb dX5_goThrough_234 (by decide) (fun c_54 => ?_) (fun c_54 => ?_)
              · have c_54 := bI_z0 c_54
                refine lv_iconst (v := 0) hx hb dX5_goThrough_241 (by decide) ?_
                refine lv_istore (lv' := [(13, .int 0), (12, .int 0), (11, .int (nI u_16)), (10, .int (iZ (((N - (ya * ya)) - (yb * yb)) - (yc * yc)))), (9, .int (iZ yc)), (0, .ref o), (1, .int (nI n0)), (2, .int (nI 2)), (3, .int (-1)), (4, .int (iZ N)), (5, .int (nI M)), (6, .int (nI cn)), (7, .int (iZ ya)), (8, .int (iZ yb))]) hx hb dX5_goThrough_242 hl (by decide) rfl (fun ls hl => ?_)
                refine lv_iload hx hb dX5_goThrough_244 (lv_at hl 0 rfl) ?_
                refine lv_if_eq (tgt := 258) hx hb dX5_goThrough_246 (by decide) (fun c_55 => ?_) (fun c_55 => absurd (by decide) c_55)
                refine lv_iload hx hb dX5_goThrough_258 (lv_at hl 11 rfl) ?_
                refine lv_iload hx hb dX5_goThrough_260 (lv_at hl 0 rfl) ?_
                refine lv_if_eq (tgt := 269) hx hb dX5_goThrough_262 (by decide) (fun c_56 => ?_) (fun c_56 => absurd (by decide) c_56)
                refine lv_iconst (v := 0) hx hb dX5_goThrough_269 (by decide) ?_
                refine lv_iadd hx hb dX5_goThrough_270 ?_
                refine lv_topi (fun z_57 ez_57 => ?_)
                obtain rfl : z_57 = nI cn := ez_57.trans (eq_add0 rfl)
                refine lv_istore (lv' := [(6, .int (nI cn)), (13, .int 0), (12, .int 0), (11, .int (nI u_16)), (10, .int (iZ (((N - (ya * ya)) - (yb * yb)) - (yc * yc)))), (9, .int (iZ yc)), (0, .ref o), (1, .int (nI n0)), (2, .int (nI 2)), (3, .int (-1)), (4, .int (iZ N)), (5, .int (nI M)), (7, .int (iZ ya)), (8, .int (iZ yb))]) hx hb dX5_goThrough_271 hl (by decide) rfl (fun ls hl => ?_)
                refine lv_iinc (v := 1) (lv' := [(12, .int 1), (6, .int (nI cn)), (13, .int 0), (11, .int (nI u_16)), (10, .int (iZ (((N - (ya * ya)) - (yb * yb)) - (yc * yc)))), (9, .int (iZ yc)), (0, .ref o), (1, .int (nI n0)), (2, .int (nI 2)), (3, .int (-1)), (4, .int (iZ N)), (5, .int (nI M)), (7, .int (iZ ya)), (8, .int (iZ yb))]) hx hb dX5_goThrough_273 hl (k := 2) rfl (by decide) (by decide) rfl (fun ls hl => ?_)
                refine lv_goto (tgt := 108) hx hb dX5_goThrough_276 (by decide) ?_
                refine lv_iload hx hb dX5_goThrough_108 (lv_at hl 0 rfl) ?_
                refine lv_iconst (v := 2) hx hb dX5_goThrough_110 (by decide) ?_
                refine lv_icmp_ge (tgt := 279) hx hb dX5_goThrough_111 (by decide) (fun c_58 => absurd c_58 (by decide)) (fun c_58 => ?_)
                refine lv_iload hx hb dX5_goThrough_114 (lv_at hl 3 rfl) ?_
                refine lv_if_lt (tgt := 279) hx hb dX5_goThrough_116 (by decide) (fun c_59 => absurd c_59 (fun z => absurd (lt_y (a := u_16) (b := 0) rfl rfl (by omega) (by decide) z) (Nat.not_lt_zero _))) (fun c_59 => ?_)
                refine lv_iload hx hb dX5_goThrough_119 (lv_at hl 3 rfl) ?_
                refine lv_iload hx hb dX5_goThrough_121 (lv_at hl 3 rfl) ?_
                refine lv_imul hx hb dX5_goThrough_123 ?_
                refine lv_topi (fun z_60 ez_60 => ?_)
                obtain rfl : z_60 = iZ (((u_16 : Nat) : Int) * ((u_16 : Nat) : Int)) := ez_60.trans (zmul (iZ_n _) (iZ_n _))
                refine lv_iload hx hb dX5_goThrough_124 (lv_at hl 4 rfl) ?_
                refine lv_icmp_ne (tgt := 279) hx hb dX5_goThrough_126 (by decide) (fun c_61 => absurd (show iZ (((u_16 : Nat) : Int) * ((u_16 : Nat) : Int)) = iZ (((N - (ya * ya)) - (yb * yb)) - (yc * yc)) from congrArg iZ c_21) c_61) (fun c_61 => ?_)
                refine lv_aload_n hx hb dX5_goThrough_129 rfl (lv_at hl 6 rfl) ?_
                refine va_get (D := D) (ci := 4) (v := .ref (ad 8)) (C := RX5) (T := TX5) (N := 18) hx hb hts in_X5 hown hK hP 0 rfl rfl 8 (by decide) (hts _ q581) (fun _ h9 => h9) rfl dX5_goThrough_130 ?_
                refine lv_iconst (v := 0) hx hb dX5_goThrough_133 (by decide) ?_
                refine lv_iload hx hb dX5_goThrough_134 (lv_at hl 12 rfl) ?_
                refine lv_i2l (v := (iZ ya).toInt64) hx hb dX5_goThrough_136 rfl ?_
                refine va_last hx hb hK hP hD hS 1 2 rfl rfl (vin (by decide)) dX5_goThrough_137 (fun H locs hP hD hS => ?_)
                rw [L4_s0] at hP hD
                have hP : va_P D vwCl [(o, mO ad nf mo), (ad 8, a4 ca ((iZ ya).toInt64, (iZ yb).toInt64, (iZ yc).toInt64, (iZ ((u_16 : Nat) : Int)).toInt64))] H := hP
                have hD : va_D A [(o, mO ad nf mo), (ad 8, a4 ca ((iZ ya).toInt64, (iZ yb).toInt64, (iZ yc).toInt64, (iZ ((u_16 : Nat) : Int)).toInt64))] := hD
                refine lv_aload_n hx hb dX5_goThrough_138 rfl (lv_at hl 6 rfl) ?_
                refine va_get (D := D) (ci := 4) (v := .ref (ad 8)) (C := RX5) (T := TX5) (N := 18) hx hb hts in_X5 hown hK hP 0 rfl rfl 8 (by decide) (hts _ q581) (fun _ h9 => h9) rfl dX5_goThrough_139 ?_
                refine lv_iconst (v := 1) hx hb dX5_goThrough_142 (by decide) ?_
                refine lv_iload hx hb dX5_goThrough_143 (lv_at hl 13 rfl) ?_
                refine lv_i2l (v := (iZ yb).toInt64) hx hb dX5_goThrough_145 rfl ?_
                refine va_last hx hb hK hP hD hS 1 2 rfl rfl (vin (by decide)) dX5_goThrough_146 (fun H locs hP hD hS => ?_)
                rw [L4_s1] at hP hD
                have hP : va_P D vwCl [(o, mO ad nf mo), (ad 8, a4 ca ((iZ ya).toInt64, (iZ yb).toInt64, (iZ yc).toInt64, (iZ ((u_16 : Nat) : Int)).toInt64))] H := hP
                have hD : va_D A [(o, mO ad nf mo), (ad 8, a4 ca ((iZ ya).toInt64, (iZ yb).toInt64, (iZ yc).toInt64, (iZ ((u_16 : Nat) : Int)).toInt64))] := hD
                refine lv_aload_n hx hb dX5_goThrough_147 rfl (lv_at hl 6 rfl) ?_
                refine va_get (D := D) (ci := 4) (v := .ref (ad 8)) (C := RX5) (T := TX5) (N := 18) hx hb hts in_X5 hown hK hP 0 rfl rfl 8 (by decide) (hts _ q581) (fun _ h9 => h9) rfl dX5_goThrough_148 ?_
                refine lv_iconst (v := 2) hx hb dX5_goThrough_151 (by decide) ?_
                refine lv_iload hx hb dX5_goThrough_152 (lv_at hl 5 rfl) ?_
                refine lv_i2l (v := (iZ yc).toInt64) hx hb dX5_goThrough_154 rfl ?_
                refine va_last hx hb hK hP hD hS 1 2 rfl rfl (vin (by decide)) dX5_goThrough_155 (fun H locs hP hD hS => ?_)
                rw [L4_s2] at hP hD
                have hP : va_P D vwCl [(o, mO ad nf mo), (ad 8, a4 ca ((iZ ya).toInt64, (iZ yb).toInt64, (iZ yc).toInt64, (iZ ((u_16 : Nat) : Int)).toInt64))] H := hP
                have hD : va_D A [(o, mO ad nf mo), (ad 8, a4 ca ((iZ ya).toInt64, (iZ yb).toInt64, (iZ yc).toInt64, (iZ ((u_16 : Nat) : Int)).toInt64))] := hD
                refine lv_aload_n hx hb dX5_goThrough_156 rfl (lv_at hl 6 rfl) ?_
                refine va_get (D := D) (ci := 4) (v := .ref (ad 8)) (C := RX5) (T := TX5) (N := 18) hx hb hts in_X5 hown hK hP 0 rfl rfl 8 (by decide) (hts _ q581) (fun _ h9 => h9) rfl dX5_goThrough_157 ?_
                refine lv_iconst (v := 3) hx hb dX5_goThrough_160 (by decide) ?_
                refine lv_iload hx hb dX5_goThrough_161 (lv_at hl 0 rfl) ?_
                refine lv_if_ne (tgt := 172) hx hb dX5_goThrough_163 (by decide) (fun c_62 => ?_) (fun c_62 => absurd c_62 (by decide))
                refine lv_iload hx hb dX5_goThrough_172 (lv_at hl 3 rfl) ?_
                refine lv_ineg hx hb dX5_goThrough_174 ?_
                refine lv_topi (fun z_63 ez_63 => ?_)
                obtain rfl : z_63 = iZ (-((u_16 : Nat) : Int)) := ez_63.trans (zneg (iZ_n _))
                refine lv_i2l (v := (iZ (-((u_16 : Nat) : Int))).toInt64) hx hb dX5_goThrough_175 rfl ?_
                refine va_last hx hb hK hP hD hS 1 2 rfl rfl (vin (by decide)) dX5_goThrough_176 (fun H locs hP hD hS => ?_)
                rw [L4_s3] at hP hD
                have hP : va_P D vwCl [(o, mO ad nf mo), (ad 8, a4 ca ((iZ ya).toInt64, (iZ yb).toInt64, (iZ yc).toInt64, (iZ (-((u_16 : Nat) : Int))).toInt64))] H := hP
                have hD : va_D A [(o, mO ad nf mo), (ad 8, a4 ca ((iZ ya).toInt64, (iZ yb).toInt64, (iZ yc).toInt64, (iZ (-((u_16 : Nat) : Int))).toInt64))] := hD
                refine lv_iload hx hb dX5_goThrough_177 (lv_at hl 12 rfl) ?_
                refine lv_i2l (v := (iZ ya).toInt64) hx hb dX5_goThrough_179 rfl ?_
                refine lv_iload hx hb dX5_goThrough_180 (lv_at hl 13 rfl) ?_
                refine lv_i2l (v := (iZ yb).toInt64) hx hb dX5_goThrough_182 rfl ?_
                refine lv_iload hx hb dX5_goThrough_183 (lv_at hl 5 rfl) ?_
                refine lv_i2l (v := (iZ yc).toInt64) hx hb dX5_goThrough_185 rfl ?_
                refine lv_iload hx hb dX5_goThrough_186 (lv_at hl 3 rfl) ?_
                refine lv_topi (fun z_64 ez_64 => ?_)
                obtain rfl : z_64 = iZ ((u_16 : Nat) : Int) := ez_64.trans (iZ_n u_16)
                refine lv_i2l (v := (iZ ((u_16 : Nat) : Int)).toInt64) hx hb dX5_goThrough_188 rfl ?_
                refine k_calli (wr := [(o, mO ad nf mo), (ad 8, a4 ca ((iZ ya).toInt64, (iZ yb).toInt64, (iZ yc).toInt64, (iZ (-((u_16 : Nat) : Int))).toInt64))]) (va_runS (As := [.long ((iZ ya).toInt64), .long ((iZ yb).toInt64), .long ((iZ yc).toInt64), .long ((iZ ((u_16 : Nat) : Int)).toInt64)]) (rest := []) ⟨hx, hb, hml, hown, hts⟩ (ct_X5_isOne hk l D ca H.size ((iZ ya).toInt64) ((iZ yb).toInt64) ((iZ yc).toInt64) ((iZ ((u_16 : Nat) : Int)).toInt64)) (va_cwS 4 hts (lw_S q570 q571 q24 q572) rfl rfl rfl (by decide +kernel) ⟨Nat.le_of_ble_eq_true rfl, Nat.le_of_ble_eq_true rfl⟩) (k_pre hk hK hN hP hD [] (by decide) rfl trivial) rfl rfl hl.1 rfl (lv_room (Nat.le_of_ble_eq_true rfl)) dX5_goThrough_189 ⟨Nat.le_of_ble_eq_true rfl, Nat.le_of_ble_eq_true rfl⟩) hP hD hS hA [] [0, 1] rfl rfl (by decide) (by decide) (fun r_65 u_66 H locs w_67 hP hD hxw_67 hzw_67 hqw_67 hS => ?_)
                obtain rfl : r_65 = bI (p_one ((iZ ya).toInt64) ((iZ yb).toInt64) ((iZ yc).toInt64) ((iZ ((u_16 : Nat) : Int)).toInt64)) := w_67
                refine lv_if_eq (tgt := 241) hx hb dX5_goThrough_192 (by decide) (fun c_68 => absurd c_68 (by rw [c_28]; decide)) (fun c_68 => ?_)
                refine lv_iload hx hb dX5_goThrough_195 (lv_at hl 0 rfl) ?_
                refine lv_if_eq (tgt := 205) hx hb dX5_goThrough_197 (by decide) (fun c_69 => absurd c_69 (by decide)) (fun c_69 => ?_)
                refine lv_iload hx hb dX5_goThrough_200 (lv_at hl 3 rfl) ?_
                refine lv_if_le (tgt := 241) hx hb dX5_goThrough_202 (by decide) (fun c_70 => ?_) (fun c_70 => ?_)
                · have c_70 := le_y (a := u_16) (b := 0) rfl rfl (by omega) (by omega) c_70
                  refine lv_iconst (v := 0) hx hb dX5_goThrough_241 (by decide) ?_
                  refine lv_istore (lv' := [(13, .int 0), (12, .int 1), (6, .int (nI cn)), (11, .int (nI u_16)), (10, .int (iZ (((N - (ya * ya)) - (yb * yb)) - (yc * yc)))), (9, .int (iZ yc)), (0, .ref o), (1, .int (nI n0)), (2, .int (nI 2)), (3, .int (-1)), (4, .int (iZ N)), (5, .int (nI M)), (7, .int (iZ ya)), (8, .int (iZ yb))]) hx hb dX5_goThrough_242 hl (by decide) rfl (fun ls hl => ?_)
                  refine lv_iload hx hb dX5_goThrough_244 (lv_at hl 0 rfl) ?_
                  refine lv_if_eq (tgt := 258) hx hb dX5_goThrough_246 (by decide) (fun c_71 => ?_) (fun c_71 => absurd (by decide) c_71)
                  refine lv_iload hx hb dX5_goThrough_258 (lv_at hl 2 rfl) ?_
                  refine lv_iload hx hb dX5_goThrough_260 (lv_at hl 0 rfl) ?_
                  refine lv_if_eq (tgt := 269) hx hb dX5_goThrough_262 (by decide) (fun c_72 => ?_) (fun c_72 => absurd (by decide) c_72)
                  refine lv_iconst (v := 0) hx hb dX5_goThrough_269 (by decide) ?_
                  refine lv_iadd hx hb dX5_goThrough_270 ?_
                  refine lv_topi (fun z_73 ez_73 => ?_)
                  obtain rfl : z_73 = nI cn := ez_73.trans (eq_add0 rfl)
                  refine lv_istore (lv' := [(6, .int (nI cn)), (13, .int 0), (12, .int 1), (11, .int (nI u_16)), (10, .int (iZ (((N - (ya * ya)) - (yb * yb)) - (yc * yc)))), (9, .int (iZ yc)), (0, .ref o), (1, .int (nI n0)), (2, .int (nI 2)), (3, .int (-1)), (4, .int (iZ N)), (5, .int (nI M)), (7, .int (iZ ya)), (8, .int (iZ yb))]) hx hb dX5_goThrough_271 hl (by decide) rfl (fun ls hl => ?_)
                  refine lv_iinc (v := 2) (lv' := [(12, .int 2), (6, .int (nI cn)), (13, .int 0), (11, .int (nI u_16)), (10, .int (iZ (((N - (ya * ya)) - (yb * yb)) - (yc * yc)))), (9, .int (iZ yc)), (0, .ref o), (1, .int (nI n0)), (2, .int (nI 2)), (3, .int (-1)), (4, .int (iZ N)), (5, .int (nI M)), (7, .int (iZ ya)), (8, .int (iZ yb))]) hx hb dX5_goThrough_273 hl (k := 2) rfl (by decide) (by decide) rfl (fun ls hl => ?_)
                  refine lv_goto (tgt := 108) hx hb dX5_goThrough_276 (by decide) ?_
                  refine lv_iload hx hb dX5_goThrough_108 (lv_at hl 0 rfl) ?_
                  refine lv_iconst (v := 2) hx hb dX5_goThrough_110 (by decide) ?_
                  refine lv_icmp_ge (tgt := 279) hx hb dX5_goThrough_111 (by decide) (fun c_74 => ?_) (fun c_74 => absurd (by decide) c_74)
                  refine lv_iinc (v := iZ (yc - 1)) (lv' := [(9, .int (iZ (yc - 1))), (12, .int 2), (6, .int (nI cn)), (13, .int 0), (11, .int (nI u_16)), (10, .int (iZ (((N - (ya * ya)) - (yb * yb)) - (yc * yc)))), (0, .ref o), (1, .int (nI n0)), (2, .int (nI 2)), (3, .int (-1)), (4, .int (iZ N)), (5, .int (nI M)), (7, .int (iZ ya)), (8, .int (iZ yb))]) hx hb dX5_goThrough_279 hl (k := 5) rfl ((zadd rfl (b := -1) (by decide)).trans (by rw [Int.sub_eq_add_neg])) (by decide) rfl (fun ls hl => ?_)
                  refine lv_goto (tgt := 43) hx hb dX5_goThrough_282 (by decide) ?_
                  have hpp := one_par (a := ya) (b := yb) (c := yc) (d := ((u_16 : Nat) : Int)) (by omega) (by omega) (by omega) (by omega)
                  have hpq := hpp.mp c_28
                  have hds := ds_sq (M := M) (N := N) (a := ya) (b := yb) (c := yc) (lf := ((N - (ya * ya)) - (yb * yb)) - (yc * yc)) (by omega) hpq.1 hpq.2.1 (by rw [hNn]; omega) (d := u_16) (by rw [Int.natCast_mul]; omega) (by omega)
                  rw [if_neg (show ¬ 0 < u_16 by omega)] at hds
                  have hu0 : u_16 = 0 := by omega
                  have hcs : cS 2 (S3 N M ya yb yc) = 0 := by
                    rw [S3, hds]
                    have hcw := cW_2n (q := (ya, yb, yc, ((u_16 : Nat) : Int))) (fun z9 => absurd ((hur_51.mpr z9).symm.trans c_54) (by decide))
                    rw [hu0] at hcw
                    simpa [cS] using hcw
                  exact ih (yc - 1) cn ((iZ ya).toInt64, (iZ yb).toInt64, (iZ yc).toInt64, (iZ (-((u_16 : Nat) : Int))).toInt64) (by omega) (by omega) (by omega) (by omega) _ _ _ hP hD hS (lv_sub hl [0, 6, 7, 8, 9, 10, 11, 2, 12, 13] rfl) 
                · have c_70 := le_no (a := u_16) (b := 0) rfl rfl (by omega) (by omega) c_70
                  refine lv_iload_n hx hb dX5_goThrough_205 rfl (lv_at hl 8 rfl) ?_
                  refine lv_if_eq (tgt := 237) hx hb dX5_goThrough_206 (by decide) (fun c_75 => absurd c_75 (by decide)) (fun c_75 => ?_)
                  refine lv_iload_n hx hb dX5_goThrough_209 rfl (lv_at hl 8 rfl) ?_
                  refine lv_iconst (v := 1) hx hb dX5_goThrough_210 (by decide) ?_
                  refine lv_icmp_ne (tgt := 221) hx hb dX5_goThrough_211 (by decide) (fun c_76 => ?_) (fun c_76 => absurd c_76 (by decide))
                  refine lv_iload_n hx hb dX5_goThrough_221 rfl (lv_at hl 8 rfl) ?_
                  refine lv_iconst (v := 2) hx hb dX5_goThrough_222 (by decide) ?_
                  refine lv_icmp_ne (tgt := 241) hx hb dX5_goThrough_223 (by decide) (fun c_77 => absurd rfl c_77) (fun c_77 => ?_)
                  refine lv_aload_n hx hb dX5_goThrough_226 rfl (lv_at hl 6 rfl) ?_
                  refine lv_aload_n hx hb dX5_goThrough_227 rfl (lv_at hl 6 rfl) ?_
                  refine va_get (D := D) (ci := 4) (v := .ref (ad 8)) (C := RX5) (T := TX5) (N := 18) hx hb hts in_X5 hown hK hP 0 rfl rfl 8 (by decide) (hts _ q581) (fun _ h9 => h9) rfl dX5_goThrough_228 ?_
                  refine k_calli (wr := []) (va_runV (As := [.ref (ad 8)]) (rest := []) ⟨hx, hb, hml, hown, hts⟩ (ct_X5_isPrimitive hk l D ca H.size o ad nf mo (ad 8) ((iZ ya).toInt64, (iZ yb).toInt64, (iZ yc).toInt64, (iZ (-((u_16 : Nat) : Int))).toInt64) (qz_bd (by omega) (by omega) (by omega) (by omega))) (cwV 1 hts (lw_V q702 q704 qs11 q24 q705) rfl rfl rfl (by decide +kernel) ⟨Nat.le_of_ble_eq_true rfl, Nat.le_of_ble_eq_true rfl⟩) (k_preV hk hK hN hP hD [0, 1] (by decide) rfl trivial hP rfl (q0 := 0) rfl) rfl rfl hl.1 rfl (lv_room (Nat.le_of_ble_eq_true rfl)) dX5_goThrough_231 ⟨Nat.le_of_ble_eq_true rfl, Nat.le_of_ble_eq_true rfl⟩) hP hD hS hA [0, 1] [] rfl rfl (by decide) (by decide) (fun r_78 u_79 H locs w_80 hP hD hxw_80 hzw_80 hqw_80 hS => ?_)
                  have hP : va_P D vwCl [(o, mO ad nf mo), (ad 8, a4 ca ((iZ ya).toInt64, (iZ yb).toInt64, (iZ yc).toInt64, (iZ (-((u_16 : Nat) : Int))).toInt64))] H := hP
                  have hD : va_D A [(o, mO ad nf mo), (ad 8, a4 ca ((iZ ya).toInt64, (iZ yb).toInt64, (iZ yc).toInt64, (iZ (-((u_16 : Nat) : Int))).toInt64))] := hD
                  obtain ⟨hrr_78, hur_78⟩ := w_80
                  subst hrr_78
                  refine lv_if_eq (tgt := 241) hx hb dX5_goThrough_234 (by decide) (fun c_81 => ?_) (fun c_81 => ?_)
                  · have c_81 := bI_z0 c_81
                    refine lv_iconst (v := 0) hx hb dX5_goThrough_241 (by decide) ?_
                    refine lv_istore (lv' := [(13, .int 0), (12, .int 1), (6, .int (nI cn)), (11, .int (nI u_16)), (10, .int (iZ (((N - (ya * ya)) - (yb * yb)) - (yc * yc)))), (9, .int (iZ yc)), (0, .ref o), (1, .int (nI n0)), (2, .int (nI 2)), (3, .int (-1)), (4, .int (iZ N)), (5, .int (nI M)), (7, .int (iZ ya)), (8, .int (iZ yb))]) hx hb dX5_goThrough_242 hl (by decide) rfl (fun ls hl => ?_)
                    refine lv_iload hx hb dX5_goThrough_244 (lv_at hl 0 rfl) ?_
                    refine lv_if_eq (tgt := 258) hx hb dX5_goThrough_246 (by decide) (fun c_82 => ?_) (fun c_82 => absurd (by decide) c_82)
                    refine lv_iload hx hb dX5_goThrough_258 (lv_at hl 2 rfl) ?_
                    refine lv_iload hx hb dX5_goThrough_260 (lv_at hl 0 rfl) ?_
                    refine lv_if_eq (tgt := 269) hx hb dX5_goThrough_262 (by decide) (fun c_83 => ?_) (fun c_83 => absurd (by decide) c_83)
                    refine lv_iconst (v := 0) hx hb dX5_goThrough_269 (by decide) ?_
                    refine lv_iadd hx hb dX5_goThrough_270 ?_
                    refine lv_topi (fun z_84 ez_84 => ?_)
                    obtain rfl : z_84 = nI cn := ez_84.trans (eq_add0 rfl)
                    refine lv_istore (lv' := [(6, .int (nI cn)), (13, .int 0), (12, .int 1), (11, .int (nI u_16)), (10, .int (iZ (((N - (ya * ya)) - (yb * yb)) - (yc * yc)))), (9, .int (iZ yc)), (0, .ref o), (1, .int (nI n0)), (2, .int (nI 2)), (3, .int (-1)), (4, .int (iZ N)), (5, .int (nI M)), (7, .int (iZ ya)), (8, .int (iZ yb))]) hx hb dX5_goThrough_271 hl (by decide) rfl (fun ls hl => ?_)
                    refine lv_iinc (v := 2) (lv' := [(12, .int 2), (6, .int (nI cn)), (13, .int 0), (11, .int (nI u_16)), (10, .int (iZ (((N - (ya * ya)) - (yb * yb)) - (yc * yc)))), (9, .int (iZ yc)), (0, .ref o), (1, .int (nI n0)), (2, .int (nI 2)), (3, .int (-1)), (4, .int (iZ N)), (5, .int (nI M)), (7, .int (iZ ya)), (8, .int (iZ yb))]) hx hb dX5_goThrough_273 hl (k := 2) rfl (by decide) (by decide) rfl (fun ls hl => ?_)
                    refine lv_goto (tgt := 108) hx hb dX5_goThrough_276 (by decide) ?_
                    refine lv_iload hx hb dX5_goThrough_108 (lv_at hl 0 rfl) ?_
                    refine lv_iconst (v := 2) hx hb dX5_goThrough_110 (by decide) ?_
                    refine lv_icmp_ge (tgt := 279) hx hb dX5_goThrough_111 (by decide) (fun c_85 => ?_) (fun c_85 => absurd (by decide) c_85)
                    refine lv_iinc (v := iZ (yc - 1)) (lv' := [(9, .int (iZ (yc - 1))), (12, .int 2), (6, .int (nI cn)), (13, .int 0), (11, .int (nI u_16)), (10, .int (iZ (((N - (ya * ya)) - (yb * yb)) - (yc * yc)))), (0, .ref o), (1, .int (nI n0)), (2, .int (nI 2)), (3, .int (-1)), (4, .int (iZ N)), (5, .int (nI M)), (7, .int (iZ ya)), (8, .int (iZ yb))]) hx hb dX5_goThrough_279 hl (k := 5) rfl ((zadd rfl (b := -1) (by decide)).trans (by rw [Int.sub_eq_add_neg])) (by decide) rfl (fun ls hl => ?_)
                    refine lv_goto (tgt := 43) hx hb dX5_goThrough_282 (by decide) ?_
                    have hpp := one_par (a := ya) (b := yb) (c := yc) (d := ((u_16 : Nat) : Int)) (by omega) (by omega) (by omega) (by omega)
                    have hpq := hpp.mp c_28
                    have hds := ds_sq (M := M) (N := N) (a := ya) (b := yb) (c := yc) (lf := ((N - (ya * ya)) - (yb * yb)) - (yc * yc)) (by omega) hpq.1 hpq.2.1 (by rw [hNn]; omega) (d := u_16) (by rw [Int.natCast_mul]; omega) (by omega)
                    rw [if_pos (show 0 < u_16 by omega)] at hds
                    have hcs : cS 2 (S3 N M ya yb yc) = 0 := by rw [S3, hds]; simp only [List.map_cons, List.map_nil, cS, cW_2n (q := (ya, yb, yc, ((u_16 : Nat) : Int))) (fun z9 => absurd ((hur_51.mpr z9).symm.trans c_54) (by decide)), cW_2n (q := (ya, yb, yc, -((u_16 : Nat) : Int))) (fun z9 => absurd ((hur_78.mpr z9).symm.trans c_81) (by decide))]
                    exact ih (yc - 1) cn ((iZ ya).toInt64, (iZ yb).toInt64, (iZ yc).toInt64, (iZ (-((u_16 : Nat) : Int))).toInt64) (by omega) (by omega) (by omega) (by omega) _ _ _ hP hD hS (lv_sub hl [0, 6, 7, 8, 9, 10, 11, 2, 12, 13] rfl) 
                  · have c_81 := bI_z1 c_81
                    refine lv_iconst (v := 1) hx hb dX5_goThrough_237 (by decide) ?_
                    refine lv_goto (tgt := 242) hx hb dX5_goThrough_238 (by decide) ?_
                    refine lv_istore (lv' := [(13, .int 1), (12, .int 1), (6, .int (nI cn)), (11, .int (nI u_16)), (10, .int (iZ (((N - (ya * ya)) - (yb * yb)) - (yc * yc)))), (9, .int (iZ yc)), (0, .ref o), (1, .int (nI n0)), (2, .int (nI 2)), (3, .int (-1)), (4, .int (iZ N)), (5, .int (nI M)), (7, .int (iZ ya)), (8, .int (iZ yb))]) hx hb dX5_goThrough_242 hl (by decide) rfl (fun ls hl => ?_)
                    refine lv_iload hx hb dX5_goThrough_244 (lv_at hl 0 rfl) ?_
                    refine lv_if_eq (tgt := 258) hx hb dX5_goThrough_246 (by decide) (fun c_86 => absurd c_86 (by decide)) (fun c_86 => ?_)
                    refine lv_iload hx hb dX5_goThrough_249 (lv_at hl 2 rfl) ?_
                    refine lv_iload_n hx hb dX5_goThrough_251 rfl (lv_at hl 9 rfl) ?_
                    refine lv_icmp_ne (tgt := 258) hx hb dX5_goThrough_252 (by decide) (fun c_87 => ?_) (fun c_87 => absurd c_87 (nI_m1 (by omega)))
                    refine lv_iload hx hb dX5_goThrough_258 (lv_at hl 2 rfl) ?_
                    refine lv_iload hx hb dX5_goThrough_260 (lv_at hl 0 rfl) ?_
                    refine lv_if_eq (tgt := 269) hx hb dX5_goThrough_262 (by decide) (fun c_88 => absurd c_88 (by decide)) (fun c_88 => ?_)
                    refine lv_iconst (v := 1) hx hb dX5_goThrough_265 (by decide) ?_
                    refine lv_goto (tgt := 270) hx hb dX5_goThrough_266 (by decide) ?_
                    refine lv_iadd hx hb dX5_goThrough_270 ?_
                    refine lv_topi (fun z_89 ez_89 => ?_)
                    obtain rfl : z_89 = nI (cn + 1) := ez_89.trans (eq_add rfl rfl)
                    refine lv_istore (lv' := [(6, .int (nI (cn + 1))), (13, .int 1), (12, .int 1), (11, .int (nI u_16)), (10, .int (iZ (((N - (ya * ya)) - (yb * yb)) - (yc * yc)))), (9, .int (iZ yc)), (0, .ref o), (1, .int (nI n0)), (2, .int (nI 2)), (3, .int (-1)), (4, .int (iZ N)), (5, .int (nI M)), (7, .int (iZ ya)), (8, .int (iZ yb))]) hx hb dX5_goThrough_271 hl (by decide) rfl (fun ls hl => ?_)
                    refine lv_iinc (v := 2) (lv' := [(12, .int 2), (6, .int (nI (cn + 1))), (13, .int 1), (11, .int (nI u_16)), (10, .int (iZ (((N - (ya * ya)) - (yb * yb)) - (yc * yc)))), (9, .int (iZ yc)), (0, .ref o), (1, .int (nI n0)), (2, .int (nI 2)), (3, .int (-1)), (4, .int (iZ N)), (5, .int (nI M)), (7, .int (iZ ya)), (8, .int (iZ yb))]) hx hb dX5_goThrough_273 hl (k := 2) rfl (by decide) (by decide) rfl (fun ls hl => ?_)
                    refine lv_goto (tgt := 108) hx hb dX5_goThrough_276 (by decide) ?_
                    refine lv_iload hx hb dX5_goThrough_108 (lv_at hl 0 rfl) ?_
                    refine lv_iconst (v := 2) hx hb dX5_goThrough_110 (by decide) ?_
                    refine lv_icmp_ge (tgt := 279) hx hb dX5_goThrough_111 (by decide) (fun c_90 => ?_) (fun c_90 => absurd (by decide) c_90)
                    refine lv_iinc (v := iZ (yc - 1)) (lv' := [(9, .int (iZ (yc - 1))), (12, .int 2), (6, .int (nI (cn + 1))), (13, .int 1), (11, .int (nI u_16)), (10, .int (iZ (((N - (ya * ya)) - (yb * yb)) - (yc * yc)))), (0, .ref o), (1, .int (nI n0)), (2, .int (nI 2)), (3, .int (-1)), (4, .int (iZ N)), (5, .int (nI M)), (7, .int (iZ ya)), (8, .int (iZ yb))]) hx hb dX5_goThrough_279 hl (k := 5) rfl ((zadd rfl (b := -1) (by decide)).trans (by rw [Int.sub_eq_add_neg])) (by decide) rfl (fun ls hl => ?_)
                    refine lv_goto (tgt := 43) hx hb dX5_goThrough_282 (by decide) ?_
                    have hpp := one_par (a := ya) (b := yb) (c := yc) (d := ((u_16 : Nat) : Int)) (by omega) (by omega) (by omega) (by omega)
                    have hpq := hpp.mp c_28
                    have hds := ds_sq (M := M) (N := N) (a := ya) (b := yb) (c := yc) (lf := ((N - (ya * ya)) - (yb * yb)) - (yc * yc)) (by omega) hpq.1 hpq.2.1 (by rw [hNn]; omega) (d := u_16) (by rw [Int.natCast_mul]; omega) (by omega)
                    rw [if_pos (show 0 < u_16 by omega)] at hds
                    have hcs : cS 2 (S3 N M ya yb yc) = 1 := by rw [S3, hds]; simp only [List.map_cons, List.map_nil, cS, cW_2n (q := (ya, yb, yc, ((u_16 : Nat) : Int))) (fun z9 => absurd ((hur_51.mpr z9).symm.trans c_54) (by decide)), cW_2y (q := (ya, yb, yc, -((u_16 : Nat) : Int))) (hur_78.mp c_81)]
                    exact ih (yc - 1) (cn + 1) ((iZ ya).toInt64, (iZ yb).toInt64, (iZ yc).toInt64, (iZ (-((u_16 : Nat) : Int))).toInt64) (by omega) (by omega) (by omega) (by omega) _ _ _ hP hD hS (lv_sub hl [0, 6, 7, 8, 9, 10, 11, 2, 12, 13] rfl) 
              · have c_54 := bI_z1 c_54
                refine lv_iconst (v := 1) hx hb dX5_goThrough_237 (by decide) ?_
                refine lv_goto (tgt := 242) hx hb dX5_goThrough_238 (by decide) ?_
                refine lv_istore (lv' := [(13, .int 1), (12, .int 0), (11, .int (nI u_16)), (10, .int (iZ (((N - (ya * ya)) - (yb * yb)) - (yc * yc)))), (9, .int (iZ yc)), (0, .ref o), (1, .int (nI n0)), (2, .int (nI 2)), (3, .int (-1)), (4, .int (iZ N)), (5, .int (nI M)), (6, .int (nI cn)), (7, .int (iZ ya)), (8, .int (iZ yb))]) hx hb dX5_goThrough_242 hl (by decide) rfl (fun ls hl => ?_)
                refine lv_iload hx hb dX5_goThrough_244 (lv_at hl 0 rfl) ?_
                refine lv_if_eq (tgt := 258) hx hb dX5_goThrough_246 (by decide) (fun c_91 => absurd c_91 (by decide)) (fun c_91 => ?_)
                refine lv_iload hx hb dX5_goThrough_249 (lv_at hl 11 rfl) ?_
                refine lv_iload_n hx hb dX5_goThrough_251 rfl (lv_at hl 8 rfl) ?_
                refine lv_icmp_ne (tgt := 258) hx hb dX5_goThrough_252 (by decide) (fun c_92 => ?_) (fun c_92 => absurd c_92 (nI_m1 (by omega)))
                refine lv_iload hx hb dX5_goThrough_258 (lv_at hl 11 rfl) ?_
                refine lv_iload hx hb dX5_goThrough_260 (lv_at hl 0 rfl) ?_
                refine lv_if_eq (tgt := 269) hx hb dX5_goThrough_262 (by decide) (fun c_93 => absurd c_93 (by decide)) (fun c_93 => ?_)
                refine lv_iconst (v := 1) hx hb dX5_goThrough_265 (by decide) ?_
                refine lv_goto (tgt := 270) hx hb dX5_goThrough_266 (by decide) ?_
                refine lv_iadd hx hb dX5_goThrough_270 ?_
                refine lv_topi (fun z_94 ez_94 => ?_)
                obtain rfl : z_94 = nI (cn + 1) := ez_94.trans (eq_add rfl rfl)
                refine lv_istore (lv' := [(6, .int (nI (cn + 1))), (13, .int 1), (12, .int 0), (11, .int (nI u_16)), (10, .int (iZ (((N - (ya * ya)) - (yb * yb)) - (yc * yc)))), (9, .int (iZ yc)), (0, .ref o), (1, .int (nI n0)), (2, .int (nI 2)), (3, .int (-1)), (4, .int (iZ N)), (5, .int (nI M)), (7, .int (iZ ya)), (8, .int (iZ yb))]) hx hb dX5_goThrough_271 hl (by decide) rfl (fun ls hl => ?_)
                refine lv_iinc (v := 1) (lv' := [(12, .int 1), (6, .int (nI (cn + 1))), (13, .int 1), (11, .int (nI u_16)), (10, .int (iZ (((N - (ya * ya)) - (yb * yb)) - (yc * yc)))), (9, .int (iZ yc)), (0, .ref o), (1, .int (nI n0)), (2, .int (nI 2)), (3, .int (-1)), (4, .int (iZ N)), (5, .int (nI M)), (7, .int (iZ ya)), (8, .int (iZ yb))]) hx hb dX5_goThrough_273 hl (k := 2) rfl (by decide) (by decide) rfl (fun ls hl => ?_)
                refine lv_goto (tgt := 108) hx hb dX5_goThrough_276 (by decide) ?_
                refine lv_iload hx hb dX5_goThrough_108 (lv_at hl 0 rfl) ?_
                refine lv_iconst (v := 2) hx hb dX5_goThrough_110 (by decide) ?_
                refine lv_icmp_ge (tgt := 279) hx hb dX5_goThrough_111 (by decide) (fun c_95 => absurd c_95 (by decide)) (fun c_95 => ?_)
                refine lv_iload hx hb dX5_goThrough_114 (lv_at hl 3 rfl) ?_
                refine lv_if_lt (tgt := 279) hx hb dX5_goThrough_116 (by decide) (fun c_96 => absurd c_96 (fun z => absurd (lt_y (a := u_16) (b := 0) rfl rfl (by omega) (by decide) z) (Nat.not_lt_zero _))) (fun c_96 => ?_)
                refine lv_iload hx hb dX5_goThrough_119 (lv_at hl 3 rfl) ?_
                refine lv_iload hx hb dX5_goThrough_121 (lv_at hl 3 rfl) ?_
                refine lv_imul hx hb dX5_goThrough_123 ?_
                refine lv_topi (fun z_97 ez_97 => ?_)
                obtain rfl : z_97 = iZ (((u_16 : Nat) : Int) * ((u_16 : Nat) : Int)) := ez_97.trans (zmul (iZ_n _) (iZ_n _))
                refine lv_iload hx hb dX5_goThrough_124 (lv_at hl 4 rfl) ?_
                refine lv_icmp_ne (tgt := 279) hx hb dX5_goThrough_126 (by decide) (fun c_98 => absurd (show iZ (((u_16 : Nat) : Int) * ((u_16 : Nat) : Int)) = iZ (((N - (ya * ya)) - (yb * yb)) - (yc * yc)) from congrArg iZ c_21) c_98) (fun c_98 => ?_)
                refine lv_aload_n hx hb dX5_goThrough_129 rfl (lv_at hl 6 rfl) ?_
                refine va_get (D := D) (ci := 4) (v := .ref (ad 8)) (C := RX5) (T := TX5) (N := 18) hx hb hts in_X5 hown hK hP 0 rfl rfl 8 (by decide) (hts _ q581) (fun _ h9 => h9) rfl dX5_goThrough_130 ?_
                refine lv_iconst (v := 0) hx hb dX5_goThrough_133 (by decide) ?_
                refine lv_iload hx hb dX5_goThrough_134 (lv_at hl 12 rfl) ?_
                refine lv_i2l (v := (iZ ya).toInt64) hx hb dX5_goThrough_136 rfl ?_
                refine va_last hx hb hK hP hD hS 1 2 rfl rfl (vin (by decide)) dX5_goThrough_137 (fun H locs hP hD hS => ?_)
                rw [L4_s0] at hP hD
                have hP : va_P D vwCl [(o, mO ad nf mo), (ad 8, a4 ca ((iZ ya).toInt64, (iZ yb).toInt64, (iZ yc).toInt64, (iZ ((u_16 : Nat) : Int)).toInt64))] H := hP
                have hD : va_D A [(o, mO ad nf mo), (ad 8, a4 ca ((iZ ya).toInt64, (iZ yb).toInt64, (iZ yc).toInt64, (iZ ((u_16 : Nat) : Int)).toInt64))] := hD
                refine lv_aload_n hx hb dX5_goThrough_138 rfl (lv_at hl 6 rfl) ?_
                refine va_get (D := D) (ci := 4) (v := .ref (ad 8)) (C := RX5) (T := TX5) (N := 18) hx hb hts in_X5 hown hK hP 0 rfl rfl 8 (by decide) (hts _ q581) (fun _ h9 => h9) rfl dX5_goThrough_139 ?_
                refine lv_iconst (v := 1) hx hb dX5_goThrough_142 (by decide) ?_
                refine lv_iload hx hb dX5_goThrough_143 (lv_at hl 13 rfl) ?_
                refine lv_i2l (v := (iZ yb).toInt64) hx hb dX5_goThrough_145 rfl ?_
                refine va_last hx hb hK hP hD hS 1 2 rfl rfl (vin (by decide)) dX5_goThrough_146 (fun H locs hP hD hS => ?_)
                rw [L4_s1] at hP hD
                have hP : va_P D vwCl [(o, mO ad nf mo), (ad 8, a4 ca ((iZ ya).toInt64, (iZ yb).toInt64, (iZ yc).toInt64, (iZ ((u_16 : Nat) : Int)).toInt64))] H := hP
                have hD : va_D A [(o, mO ad nf mo), (ad 8, a4 ca ((iZ ya).toInt64, (iZ yb).toInt64, (iZ yc).toInt64, (iZ ((u_16 : Nat) : Int)).toInt64))] := hD
                refine lv_aload_n hx hb dX5_goThrough_147 rfl (lv_at hl 6 rfl) ?_
                refine va_get (D := D) (ci := 4) (v := .ref (ad 8)) (C := RX5) (T := TX5) (N := 18) hx hb hts in_X5 hown hK hP 0 rfl rfl 8 (by decide) (hts _ q581) (fun _ h9 => h9) rfl dX5_goThrough_148 ?_
                refine lv_iconst (v := 2) hx hb dX5_goThrough_151 (by decide) ?_
                refine lv_iload hx hb dX5_goThrough_152 (lv_at hl 5 rfl) ?_
                refine lv_i2l (v := (iZ yc).toInt64) hx hb dX5_goThrough_154 rfl ?_
                refine va_last hx hb hK hP hD hS 1 2 rfl rfl (vin (by decide)) dX5_goThrough_155 (fun H locs hP hD hS => ?_)
                rw [L4_s2] at hP hD
                have hP : va_P D vwCl [(o, mO ad nf mo), (ad 8, a4 ca ((iZ ya).toInt64, (iZ yb).toInt64, (iZ yc).toInt64, (iZ ((u_16 : Nat) : Int)).toInt64))] H := hP
                have hD : va_D A [(o, mO ad nf mo), (ad 8, a4 ca ((iZ ya).toInt64, (iZ yb).toInt64, (iZ yc).toInt64, (iZ ((u_16 : Nat) : Int)).toInt64))] := hD
                refine lv_aload_n hx hb dX5_goThrough_156 rfl (lv_at hl 6 rfl) ?_
                refine va_get (D := D) (ci := 4) (v := .ref (ad 8)) (C := RX5) (T := TX5) (N := 18) hx hb hts in_X5 hown hK hP 0 rfl rfl 8 (by decide) (hts _ q581) (fun _ h9 => h9) rfl dX5_goThrough_157 ?_
                refine lv_iconst (v := 3) hx hb dX5_goThrough_160 (by decide) ?_
                refine lv_iload hx hb dX5_goThrough_161 (lv_at hl 0 rfl) ?_
                refine lv_if_ne (tgt := 172) hx hb dX5_goThrough_163 (by decide) (fun c_99 => ?_) (fun c_99 => absurd c_99 (by decide))
                refine lv_iload hx hb dX5_goThrough_172 (lv_at hl 3 rfl) ?_
                refine lv_ineg hx hb dX5_goThrough_174 ?_
                refine lv_topi (fun z_100 ez_100 => ?_)
                obtain rfl : z_100 = iZ (-((u_16 : Nat) : Int)) := ez_100.trans (zneg (iZ_n _))
                refine lv_i2l (v := (iZ (-((u_16 : Nat) : Int))).toInt64) hx hb dX5_goThrough_175 rfl ?_
                refine va_last hx hb hK hP hD hS 1 2 rfl rfl (vin (by decide)) dX5_goThrough_176 (fun H locs hP hD hS => ?_)
                rw [L4_s3] at hP hD
                have hP : va_P D vwCl [(o, mO ad nf mo), (ad 8, a4 ca ((iZ ya).toInt64, (iZ yb).toInt64, (iZ yc).toInt64, (iZ (-((u_16 : Nat) : Int))).toInt64))] H := hP
                have hD : va_D A [(o, mO ad nf mo), (ad 8, a4 ca ((iZ ya).toInt64, (iZ yb).toInt64, (iZ yc).toInt64, (iZ (-((u_16 : Nat) : Int))).toInt64))] := hD
                refine lv_iload hx hb dX5_goThrough_177 (lv_at hl 12 rfl) ?_
                refine lv_i2l (v := (iZ ya).toInt64) hx hb dX5_goThrough_179 rfl ?_
                refine lv_iload hx hb dX5_goThrough_180 (lv_at hl 13 rfl) ?_
                refine lv_i2l (v := (iZ yb).toInt64) hx hb dX5_goThrough_182 rfl ?_
                refine lv_iload hx hb dX5_goThrough_183 (lv_at hl 5 rfl) ?_
                refine lv_i2l (v := (iZ yc).toInt64) hx hb dX5_goThrough_185 rfl ?_
                refine lv_iload hx hb dX5_goThrough_186 (lv_at hl 3 rfl) ?_
                refine lv_topi (fun z_101 ez_101 => ?_)
                obtain rfl : z_101 = iZ ((u_16 : Nat) : Int) := ez_101.trans (iZ_n u_16)
                refine lv_i2l (v := (iZ ((u_16 : Nat) : Int)).toInt64) hx hb dX5_goThrough_188 rfl ?_
                refine k_calli (wr := [(o, mO ad nf mo), (ad 8, a4 ca ((iZ ya).toInt64, (iZ yb).toInt64, (iZ yc).toInt64, (iZ (-((u_16 : Nat) : Int))).toInt64))]) (va_runS (As := [.long ((iZ ya).toInt64), .long ((iZ yb).toInt64), .long ((iZ yc).toInt64), .long ((iZ ((u_16 : Nat) : Int)).toInt64)]) (rest := []) ⟨hx, hb, hml, hown, hts⟩ (ct_X5_isOne hk l D ca H.size ((iZ ya).toInt64) ((iZ yb).toInt64) ((iZ yc).toInt64) ((iZ ((u_16 : Nat) : Int)).toInt64)) (va_cwS 4 hts (lw_S q570 q571 q24 q572) rfl rfl rfl (by decide +kernel) ⟨Nat.le_of_ble_eq_true rfl, Nat.le_of_ble_eq_true rfl⟩) (k_pre hk hK hN hP hD [] (by decide) rfl trivial) rfl rfl hl.1 rfl (lv_room (Nat.le_of_ble_eq_true rfl)) dX5_goThrough_189 ⟨Nat.le_of_ble_eq_true rfl, Nat.le_of_ble_eq_true rfl⟩) hP hD hS hA [] [0, 1] rfl rfl (by decide) (by decide) (fun r_102 u_103 H locs w_104 hP hD hxw_104 hzw_104 hqw_104 hS => ?_)
                obtain rfl : r_102 = bI (p_one ((iZ ya).toInt64) ((iZ yb).toInt64) ((iZ yc).toInt64) ((iZ ((u_16 : Nat) : Int)).toInt64)) := w_104
                refine lv_if_eq (tgt := 241) hx hb dX5_goThrough_192 (by decide) (fun c_105 => absurd c_105 (by rw [c_28]; decide)) (fun c_105 => ?_)
                refine lv_iload hx hb dX5_goThrough_195 (lv_at hl 0 rfl) ?_
                refine lv_if_eq (tgt := 205) hx hb dX5_goThrough_197 (by decide) (fun c_106 => absurd c_106 (by decide)) (fun c_106 => ?_)
                refine lv_iload hx hb dX5_goThrough_200 (lv_at hl 3 rfl) ?_
                refine lv_if_le (tgt := 241) hx hb dX5_goThrough_202 (by decide) (fun c_107 => ?_) (fun c_107 => ?_)
                · have c_107 := le_y (a := u_16) (b := 0) rfl rfl (by omega) (by omega) c_107
                  refine lv_iconst (v := 0) hx hb dX5_goThrough_241 (by decide) ?_
                  refine lv_istore (lv' := [(13, .int 0), (12, .int 1), (6, .int (nI (cn + 1))), (11, .int (nI u_16)), (10, .int (iZ (((N - (ya * ya)) - (yb * yb)) - (yc * yc)))), (9, .int (iZ yc)), (0, .ref o), (1, .int (nI n0)), (2, .int (nI 2)), (3, .int (-1)), (4, .int (iZ N)), (5, .int (nI M)), (7, .int (iZ ya)), (8, .int (iZ yb))]) hx hb dX5_goThrough_242 hl (by decide) rfl (fun ls hl => ?_)
                  refine lv_iload hx hb dX5_goThrough_244 (lv_at hl 0 rfl) ?_
                  refine lv_if_eq (tgt := 258) hx hb dX5_goThrough_246 (by decide) (fun c_108 => ?_) (fun c_108 => absurd (by decide) c_108)
                  refine lv_iload hx hb dX5_goThrough_258 (lv_at hl 2 rfl) ?_
                  refine lv_iload hx hb dX5_goThrough_260 (lv_at hl 0 rfl) ?_
                  refine lv_if_eq (tgt := 269) hx hb dX5_goThrough_262 (by decide) (fun c_109 => ?_) (fun c_109 => absurd (by decide) c_109)
                  refine lv_iconst (v := 0) hx hb dX5_goThrough_269 (by decide) ?_
                  refine lv_iadd hx hb dX5_goThrough_270 ?_
                  refine lv_topi (fun z_110 ez_110 => ?_)
                  obtain rfl : z_110 = nI (cn + 1) := ez_110.trans (eq_add0 rfl)
                  refine lv_istore (lv' := [(6, .int (nI (cn + 1))), (13, .int 0), (12, .int 1), (11, .int (nI u_16)), (10, .int (iZ (((N - (ya * ya)) - (yb * yb)) - (yc * yc)))), (9, .int (iZ yc)), (0, .ref o), (1, .int (nI n0)), (2, .int (nI 2)), (3, .int (-1)), (4, .int (iZ N)), (5, .int (nI M)), (7, .int (iZ ya)), (8, .int (iZ yb))]) hx hb dX5_goThrough_271 hl (by decide) rfl (fun ls hl => ?_)
                  refine lv_iinc (v := 2) (lv' := [(12, .int 2), (6, .int (nI (cn + 1))), (13, .int 0), (11, .int (nI u_16)), (10, .int (iZ (((N - (ya * ya)) - (yb * yb)) - (yc * yc)))), (9, .int (iZ yc)), (0, .ref o), (1, .int (nI n0)), (2, .int (nI 2)), (3, .int (-1)), (4, .int (iZ N)), (5, .int (nI M)), (7, .int (iZ ya)), (8, .int (iZ yb))]) hx hb dX5_goThrough_273 hl (k := 2) rfl (by decide) (by decide) rfl (fun ls hl => ?_)
                  refine lv_goto (tgt := 108) hx hb dX5_goThrough_276 (by decide) ?_
                  refine lv_iload hx hb dX5_goThrough_108 (lv_at hl 0 rfl) ?_
                  refine lv_iconst (v := 2) hx hb dX5_goThrough_110 (by decide) ?_
                  refine lv_icmp_ge (tgt := 279) hx hb dX5_goThrough_111 (by decide) (fun c_111 => ?_) (fun c_111 => absurd (by decide) c_111)
                  refine lv_iinc (v := iZ (yc - 1)) (lv' := [(9, .int (iZ (yc - 1))), (12, .int 2), (6, .int (nI (cn + 1))), (13, .int 0), (11, .int (nI u_16)), (10, .int (iZ (((N - (ya * ya)) - (yb * yb)) - (yc * yc)))), (0, .ref o), (1, .int (nI n0)), (2, .int (nI 2)), (3, .int (-1)), (4, .int (iZ N)), (5, .int (nI M)), (7, .int (iZ ya)), (8, .int (iZ yb))]) hx hb dX5_goThrough_279 hl (k := 5) rfl ((zadd rfl (b := -1) (by decide)).trans (by rw [Int.sub_eq_add_neg])) (by decide) rfl (fun ls hl => ?_)
                  refine lv_goto (tgt := 43) hx hb dX5_goThrough_282 (by decide) ?_
                  have hpp := one_par (a := ya) (b := yb) (c := yc) (d := ((u_16 : Nat) : Int)) (by omega) (by omega) (by omega) (by omega)
                  have hpq := hpp.mp c_28
                  have hds := ds_sq (M := M) (N := N) (a := ya) (b := yb) (c := yc) (lf := ((N - (ya * ya)) - (yb * yb)) - (yc * yc)) (by omega) hpq.1 hpq.2.1 (by rw [hNn]; omega) (d := u_16) (by rw [Int.natCast_mul]; omega) (by omega)
                  rw [if_neg (show ¬ 0 < u_16 by omega)] at hds
                  have hu0 : u_16 = 0 := by omega
                  have hcs : cS 2 (S3 N M ya yb yc) = 1 := by
                    rw [S3, hds]
                    have hcw := cW_2y (q := (ya, yb, yc, ((u_16 : Nat) : Int))) (hur_51.mp c_54)
                    rw [hu0] at hcw
                    simpa [cS] using hcw
                  exact ih (yc - 1) (cn + 1) ((iZ ya).toInt64, (iZ yb).toInt64, (iZ yc).toInt64, (iZ (-((u_16 : Nat) : Int))).toInt64) (by omega) (by omega) (by omega) (by omega) _ _ _ hP hD hS (lv_sub hl [0, 6, 7, 8, 9, 10, 11, 2, 12, 13] rfl) 
                · have c_107 := le_no (a := u_16) (b := 0) rfl rfl (by omega) (by omega) c_107
                  refine lv_iload_n hx hb dX5_goThrough_205 rfl (lv_at hl 8 rfl) ?_
                  refine lv_if_eq (tgt := 237) hx hb dX5_goThrough_206 (by decide) (fun c_112 => absurd c_112 (by decide)) (fun c_112 => ?_)
                  refine lv_iload_n hx hb dX5_goThrough_209 rfl (lv_at hl 8 rfl) ?_
                  refine lv_iconst (v := 1) hx hb dX5_goThrough_210 (by decide) ?_
                  refine lv_icmp_ne (tgt := 221) hx hb dX5_goThrough_211 (by decide) (fun c_113 => ?_) (fun c_113 => absurd c_113 (by decide))
                  refine lv_iload_n hx hb dX5_goThrough_221 rfl (lv_at hl 8 rfl) ?_
                  refine lv_iconst (v := 2) hx hb dX5_goThrough_222 (by decide) ?_
                  refine lv_icmp_ne (tgt := 241) hx hb dX5_goThrough_223 (by decide) (fun c_114 => absurd rfl c_114) (fun c_114 => ?_)
                  refine lv_aload_n hx hb dX5_goThrough_226 rfl (lv_at hl 6 rfl) ?_
                  refine lv_aload_n hx hb dX5_goThrough_227 rfl (lv_at hl 6 rfl) ?_
                  refine va_get (D := D) (ci := 4) (v := .ref (ad 8)) (C := RX5) (T := TX5) (N := 18) hx hb hts in_X5 hown hK hP 0 rfl rfl 8 (by decide) (hts _ q581) (fun _ h9 => h9) rfl dX5_goThrough_228 ?_
                  refine k_calli (wr := []) (va_runV (As := [.ref (ad 8)]) (rest := []) ⟨hx, hb, hml, hown, hts⟩ (ct_X5_isPrimitive hk l D ca H.size o ad nf mo (ad 8) ((iZ ya).toInt64, (iZ yb).toInt64, (iZ yc).toInt64, (iZ (-((u_16 : Nat) : Int))).toInt64) (qz_bd (by omega) (by omega) (by omega) (by omega))) (cwV 1 hts (lw_V q702 q704 qs11 q24 q705) rfl rfl rfl (by decide +kernel) ⟨Nat.le_of_ble_eq_true rfl, Nat.le_of_ble_eq_true rfl⟩) (k_preV hk hK hN hP hD [0, 1] (by decide) rfl trivial hP rfl (q0 := 0) rfl) rfl rfl hl.1 rfl (lv_room (Nat.le_of_ble_eq_true rfl)) dX5_goThrough_231 ⟨Nat.le_of_ble_eq_true rfl, Nat.le_of_ble_eq_true rfl⟩) hP hD hS hA [0, 1] [] rfl rfl (by decide) (by decide) (fun r_115 u_116 H locs w_117 hP hD hxw_117 hzw_117 hqw_117 hS => ?_)
                  have hP : va_P D vwCl [(o, mO ad nf mo), (ad 8, a4 ca ((iZ ya).toInt64, (iZ yb).toInt64, (iZ yc).toInt64, (iZ (-((u_16 : Nat) : Int))).toInt64))] H := hP
                  have hD : va_D A [(o, mO ad nf mo), (ad 8, a4 ca ((iZ ya).toInt64, (iZ yb).toInt64, (iZ yc).toInt64, (iZ (-((u_16 : Nat) : Int))).toInt64))] := hD
                  obtain ⟨hrr_115, hur_115⟩ := w_117
                  subst hrr_115
                  refine lv_if_eq (tgt := 241) hx hb dX5_goThrough_234 (by decide) (fun c_118 => ?_) (fun c_118 => ?_)
                  · have c_118 := bI_z0 c_118
                    refine lv_iconst (v := 0) hx hb dX5_goThrough_241 (by decide) ?_
                    refine lv_istore (lv' := [(13, .int 0), (12, .int 1), (6, .int (nI (cn + 1))), (11, .int (nI u_16)), (10, .int (iZ (((N - (ya * ya)) - (yb * yb)) - (yc * yc)))), (9, .int (iZ yc)), (0, .ref o), (1, .int (nI n0)), (2, .int (nI 2)), (3, .int (-1)), (4, .int (iZ N)), (5, .int (nI M)), (7, .int (iZ ya)), (8, .int (iZ yb))]) hx hb dX5_goThrough_242 hl (by decide) rfl (fun ls hl => ?_)
                    refine lv_iload hx hb dX5_goThrough_244 (lv_at hl 0 rfl) ?_
                    refine lv_if_eq (tgt := 258) hx hb dX5_goThrough_246 (by decide) (fun c_119 => ?_) (fun c_119 => absurd (by decide) c_119)
                    refine lv_iload hx hb dX5_goThrough_258 (lv_at hl 2 rfl) ?_
                    refine lv_iload hx hb dX5_goThrough_260 (lv_at hl 0 rfl) ?_
                    refine lv_if_eq (tgt := 269) hx hb dX5_goThrough_262 (by decide) (fun c_120 => ?_) (fun c_120 => absurd (by decide) c_120)
                    refine lv_iconst (v := 0) hx hb dX5_goThrough_269 (by decide) ?_
                    refine lv_iadd hx hb dX5_goThrough_270 ?_
                    refine lv_topi (fun z_121 ez_121 => ?_)
                    obtain rfl : z_121 = nI (cn + 1) := ez_121.trans (eq_add0 rfl)
                    refine lv_istore (lv' := [(6, .int (nI (cn + 1))), (13, .int 0), (12, .int 1), (11, .int (nI u_16)), (10, .int (iZ (((N - (ya * ya)) - (yb * yb)) - (yc * yc)))), (9, .int (iZ yc)), (0, .ref o), (1, .int (nI n0)), (2, .int (nI 2)), (3, .int (-1)), (4, .int (iZ N)), (5, .int (nI M)), (7, .int (iZ ya)), (8, .int (iZ yb))]) hx hb dX5_goThrough_271 hl (by decide) rfl (fun ls hl => ?_)
                    refine lv_iinc (v := 2) (lv' := [(12, .int 2), (6, .int (nI (cn + 1))), (13, .int 0), (11, .int (nI u_16)), (10, .int (iZ (((N - (ya * ya)) - (yb * yb)) - (yc * yc)))), (9, .int (iZ yc)), (0, .ref o), (1, .int (nI n0)), (2, .int (nI 2)), (3, .int (-1)), (4, .int (iZ N)), (5, .int (nI M)), (7, .int (iZ ya)), (8, .int (iZ yb))]) hx hb dX5_goThrough_273 hl (k := 2) rfl (by decide) (by decide) rfl (fun ls hl => ?_)
                    refine lv_goto (tgt := 108) hx hb dX5_goThrough_276 (by decide) ?_
                    refine lv_iload hx hb dX5_goThrough_108 (lv_at hl 0 rfl) ?_
                    refine lv_iconst (v := 2) hx hb dX5_goThrough_110 (by decide) ?_
                    refine lv_icmp_ge (tgt := 279) hx hb dX5_goThrough_111 (by decide) (fun c_122 => ?_) (fun c_122 => absurd (by decide) c_122)
                    refine lv_iinc (v := iZ (yc - 1)) (lv' := [(9, .int (iZ (yc - 1))), (12, .int 2), (6, .int (nI (cn + 1))), (13, .int 0), (11, .int (nI u_16)), (10, .int (iZ (((N - (ya * ya)) - (yb * yb)) - (yc * yc)))), (0, .ref o), (1, .int (nI n0)), (2, .int (nI 2)), (3, .int (-1)), (4, .int (iZ N)), (5, .int (nI M)), (7, .int (iZ ya)), (8, .int (iZ yb))]) hx hb dX5_goThrough_279 hl (k := 5) rfl ((zadd rfl (b := -1) (by decide)).trans (by rw [Int.sub_eq_add_neg])) (by decide) rfl (fun ls hl => ?_)
                    refine lv_goto (tgt := 43) hx hb dX5_goThrough_282 (by decide) ?_
                    have hpp := one_par (a := ya) (b := yb) (c := yc) (d := ((u_16 : Nat) : Int)) (by omega) (by omega) (by omega) (by omega)
                    have hpq := hpp.mp c_28
                    have hds := ds_sq (M := M) (N := N) (a := ya) (b := yb) (c := yc) (lf := ((N - (ya * ya)) - (yb * yb)) - (yc * yc)) (by omega) hpq.1 hpq.2.1 (by rw [hNn]; omega) (d := u_16) (by rw [Int.natCast_mul]; omega) (by omega)
                    rw [if_pos (show 0 < u_16 by omega)] at hds
                    have hcs : cS 2 (S3 N M ya yb yc) = 1 := by rw [S3, hds]; simp only [List.map_cons, List.map_nil, cS, cW_2y (q := (ya, yb, yc, ((u_16 : Nat) : Int))) (hur_51.mp c_54), cW_2n (q := (ya, yb, yc, -((u_16 : Nat) : Int))) (fun z9 => absurd ((hur_115.mpr z9).symm.trans c_118) (by decide))]
                    exact ih (yc - 1) (cn + 1) ((iZ ya).toInt64, (iZ yb).toInt64, (iZ yc).toInt64, (iZ (-((u_16 : Nat) : Int))).toInt64) (by omega) (by omega) (by omega) (by omega) _ _ _ hP hD hS (lv_sub hl [0, 6, 7, 8, 9, 10, 11, 2, 12, 13] rfl) 
                  · have c_118 := bI_z1 c_118
                    refine lv_iconst (v := 1) hx hb dX5_goThrough_237 (by decide) ?_
                    refine lv_goto (tgt := 242) hx hb dX5_goThrough_238 (by decide) ?_
                    refine lv_istore (lv' := [(13, .int 1), (12, .int 1), (6, .int (nI (cn + 1))), (11, .int (nI u_16)), (10, .int (iZ (((N - (ya * ya)) - (yb * yb)) - (yc * yc)))), (9, .int (iZ yc)), (0, .ref o), (1, .int (nI n0)), (2, .int (nI 2)), (3, .int (-1)), (4, .int (iZ N)), (5, .int (nI M)), (7, .int (iZ ya)), (8, .int (iZ yb))]) hx hb dX5_goThrough_242 hl (by decide) rfl (fun ls hl => ?_)
                    refine lv_iload hx hb dX5_goThrough_244 (lv_at hl 0 rfl) ?_
                    refine lv_if_eq (tgt := 258) hx hb dX5_goThrough_246 (by decide) (fun c_123 => absurd c_123 (by decide)) (fun c_123 => ?_)
                    refine lv_iload hx hb dX5_goThrough_249 (lv_at hl 2 rfl) ?_
                    refine lv_iload_n hx hb dX5_goThrough_251 rfl (lv_at hl 9 rfl) ?_
                    refine lv_icmp_ne (tgt := 258) hx hb dX5_goThrough_252 (by decide) (fun c_124 => ?_) (fun c_124 => absurd c_124 (nI_m1 (by omega)))
                    refine lv_iload hx hb dX5_goThrough_258 (lv_at hl 2 rfl) ?_
                    refine lv_iload hx hb dX5_goThrough_260 (lv_at hl 0 rfl) ?_
                    refine lv_if_eq (tgt := 269) hx hb dX5_goThrough_262 (by decide) (fun c_125 => absurd c_125 (by decide)) (fun c_125 => ?_)
                    refine lv_iconst (v := 1) hx hb dX5_goThrough_265 (by decide) ?_
                    refine lv_goto (tgt := 270) hx hb dX5_goThrough_266 (by decide) ?_
                    refine lv_iadd hx hb dX5_goThrough_270 ?_
                    refine lv_topi (fun z_126 ez_126 => ?_)
                    obtain rfl : z_126 = nI ((cn + 1) + 1) := ez_126.trans (eq_add rfl rfl)
                    refine lv_istore (lv' := [(6, .int (nI ((cn + 1) + 1))), (13, .int 1), (12, .int 1), (11, .int (nI u_16)), (10, .int (iZ (((N - (ya * ya)) - (yb * yb)) - (yc * yc)))), (9, .int (iZ yc)), (0, .ref o), (1, .int (nI n0)), (2, .int (nI 2)), (3, .int (-1)), (4, .int (iZ N)), (5, .int (nI M)), (7, .int (iZ ya)), (8, .int (iZ yb))]) hx hb dX5_goThrough_271 hl (by decide) rfl (fun ls hl => ?_)
                    refine lv_iinc (v := 2) (lv' := [(12, .int 2), (6, .int (nI ((cn + 1) + 1))), (13, .int 1), (11, .int (nI u_16)), (10, .int (iZ (((N - (ya * ya)) - (yb * yb)) - (yc * yc)))), (9, .int (iZ yc)), (0, .ref o), (1, .int (nI n0)), (2, .int (nI 2)), (3, .int (-1)), (4, .int (iZ N)), (5, .int (nI M)), (7, .int (iZ ya)), (8, .int (iZ yb))]) hx hb dX5_goThrough_273 hl (k := 2) rfl (by decide) (by decide) rfl (fun ls hl => ?_)
                    refine lv_goto (tgt := 108) hx hb dX5_goThrough_276 (by decide) ?_
                    refine lv_iload hx hb dX5_goThrough_108 (lv_at hl 0 rfl) ?_
                    refine lv_iconst (v := 2) hx hb dX5_goThrough_110 (by decide) ?_
                    refine lv_icmp_ge (tgt := 279) hx hb dX5_goThrough_111 (by decide) (fun c_127 => ?_) (fun c_127 => absurd (by decide) c_127)
                    refine lv_iinc (v := iZ (yc - 1)) (lv' := [(9, .int (iZ (yc - 1))), (12, .int 2), (6, .int (nI ((cn + 1) + 1))), (13, .int 1), (11, .int (nI u_16)), (10, .int (iZ (((N - (ya * ya)) - (yb * yb)) - (yc * yc)))), (0, .ref o), (1, .int (nI n0)), (2, .int (nI 2)), (3, .int (-1)), (4, .int (iZ N)), (5, .int (nI M)), (7, .int (iZ ya)), (8, .int (iZ yb))]) hx hb dX5_goThrough_279 hl (k := 5) rfl ((zadd rfl (b := -1) (by decide)).trans (by rw [Int.sub_eq_add_neg])) (by decide) rfl (fun ls hl => ?_)
                    refine lv_goto (tgt := 43) hx hb dX5_goThrough_282 (by decide) ?_
                    have hpp := one_par (a := ya) (b := yb) (c := yc) (d := ((u_16 : Nat) : Int)) (by omega) (by omega) (by omega) (by omega)
                    have hpq := hpp.mp c_28
                    have hds := ds_sq (M := M) (N := N) (a := ya) (b := yb) (c := yc) (lf := ((N - (ya * ya)) - (yb * yb)) - (yc * yc)) (by omega) hpq.1 hpq.2.1 (by rw [hNn]; omega) (d := u_16) (by rw [Int.natCast_mul]; omega) (by omega)
                    rw [if_pos (show 0 < u_16 by omega)] at hds
                    have hcs : cS 2 (S3 N M ya yb yc) = 2 := by rw [S3, hds]; simp only [List.map_cons, List.map_nil, cS, cW_2y (q := (ya, yb, yc, ((u_16 : Nat) : Int))) (hur_51.mp c_54), cW_2y (q := (ya, yb, yc, -((u_16 : Nat) : Int))) (hur_115.mp c_118)]
                    exact ih (yc - 1) ((cn + 1) + 1) ((iZ ya).toInt64, (iZ yb).toInt64, (iZ yc).toInt64, (iZ (-((u_16 : Nat) : Int))).toInt64) (by omega) (by omega) (by omega) (by omega) _ _ _ hP hD hS (lv_sub hl [0, 6, 7, 8, 9, 10, 11, 2, 12, 13] rfl) 
        · have c_13 := lez_no (a := 0) (b := ((N - (ya * ya)) - (yb * yb)) - (yc * yc)) (by decide) rfl (by omega) (by omega) c_13
          refine lv_iconst (v := (-1)) hx hb dX5_goThrough_94 (by decide) ?_
          refine lv_goto (tgt := 103) hx hb dX5_goThrough_95 (by decide) ?_
          refine lv_istore (lv' := [(11, .int (-1)), (10, .int (iZ (((N - (ya * ya)) - (yb * yb)) - (yc * yc)))), (9, .int (iZ yc)), (0, .ref o), (1, .int (nI n0)), (2, .int (nI 2)), (3, .int (-1)), (4, .int (iZ N)), (5, .int (nI M)), (6, .int (nI cn)), (7, .int (iZ ya)), (8, .int (iZ yb))]) hx hb dX5_goThrough_103 hl (by decide) rfl (fun ls hl => ?_)
          refine lv_iconst (v := 0) hx hb dX5_goThrough_105 (by decide) ?_
          refine lv_istore (lv' := [(12, .int 0), (11, .int (-1)), (10, .int (iZ (((N - (ya * ya)) - (yb * yb)) - (yc * yc)))), (9, .int (iZ yc)), (0, .ref o), (1, .int (nI n0)), (2, .int (nI 2)), (3, .int (-1)), (4, .int (iZ N)), (5, .int (nI M)), (6, .int (nI cn)), (7, .int (iZ ya)), (8, .int (iZ yb))]) hx hb dX5_goThrough_106 hl (by decide) rfl (fun ls hl => ?_)
          refine lv_iload hx hb dX5_goThrough_108 (lv_at hl 0 rfl) ?_
          refine lv_iconst (v := 2) hx hb dX5_goThrough_110 (by decide) ?_
          refine lv_icmp_ge (tgt := 279) hx hb dX5_goThrough_111 (by decide) (fun c_128 => absurd c_128 (by decide)) (fun c_128 => ?_)
          refine lv_iload hx hb dX5_goThrough_114 (lv_at hl 1 rfl) ?_
          refine lv_if_lt (tgt := 279) hx hb dX5_goThrough_116 (by decide) (fun c_129 => ?_) (fun c_129 => absurd (by decide) c_129)
          refine lv_iinc (v := iZ (yc - 1)) (lv' := [(9, .int (iZ (yc - 1))), (12, .int 0), (11, .int (-1)), (10, .int (iZ (((N - (ya * ya)) - (yb * yb)) - (yc * yc)))), (0, .ref o), (1, .int (nI n0)), (2, .int (nI 2)), (3, .int (-1)), (4, .int (iZ N)), (5, .int (nI M)), (6, .int (nI cn)), (7, .int (iZ ya)), (8, .int (iZ yb))]) hx hb dX5_goThrough_279 hl (k := 3) rfl ((zadd rfl (b := -1) (by decide)).trans (by rw [Int.sub_eq_add_neg])) (by decide) rfl (fun ls hl => ?_)
          refine lv_goto (tgt := 43) hx hb dX5_goThrough_282 (by decide) ?_
          have hds : ds N M ya yb yc = [] := ds_neg (lf := ((N - (ya * ya)) - (yb * yb)) - (yc * yc)) (by omega) (by omega)
          have hcs : cS 2 (S3 N M ya yb yc) = 0 := by rw [S3, hds]; rfl
          exact ih (yc - 1) cn xv (by omega) (by omega) (by omega) (by omega) _ _ _ hP hD hS (lv_sub hl [0, 4, 5, 6, 7, 8, 9, 10, 11, 12] rfl) 
set_option maxHeartbeats 4000000 in
set_option maxRecDepth 100000 in
theorem lp_X5_go_b2 {KN : State → Prop} (hk : KNok KN) {l : Launch} {D : va_G} {ca : Nat → ClassId} (o : Nat) (ad : Nat → Nat) (nf : Int32) (mo : Int32) (x : Q4) (n0 : Nat) (M : Nat) (T : Nat) (N : Int) (ya : Int) (R : List Z4') (hn0 : n0 ≤ 200) (hM28 : M ≤ 28) (hM0 : 4 * n0 < (M + 1) * (M + 1)) (hNn : N = 4 * (n0 : Int)) (hTb : T ≤ 2 ^ 20) (hMM : M * M ≤ 4 * n0) (hTT : T = cS 2 (S0 (4 * (n0 : Int)) M)) (hba : -(M : Int) ≤ ya ∧ ya ≤ M) {p : Program} {e : Env} {s : State} {m : MethodId} {below : List Frame} {meth : Method} {c : Code} {A : Nat → Prop} (hOut : ∀ (cn : Nat) (xv : Q4), cn + cS 2 (R) = T → ∀ (H : Heap) (locs : List Loc) (ls : Array Slot), va_P D vwCl [(o, mO ad nf mo), (ad 8, a4 ca xv)] H → va_D A [(o, mO ad nf mo), (ad 8, a4 ca xv)] → va_S A s.heap H locs → lv_has ls 14 [(0, .ref o), (1, .int (nI n0)), (2, .int (nI 2)), (3, .int (-1)), (4, .int (iZ N)), (5, .int (nI M)), (6, .int (nI cn)), (7, .int (iZ ya))] → W p l e ({ frames := 2, cells := 0, slots := 0, locals := 53 }) s m ([.ref o, .int (nI n0), .int (nI 2), .int (-1)] : List Value).toArray below meth c H locs 0 0 (MQ below (qI D (fun (r : Int32) (u : Nat × Q4) => r = nI (cS 2 (S0 (4 * (n0 : Int)) u.1)) ∧ u.1 * u.1 ≤ 4 * n0 ∧ 4 * n0 < (u.1 + 1) * (u.1 + 1)) (fun u => [(o, mO ad nf mo), (ad 8, a4 ca u.2)]) (fun u H => True) A) ([.ref o, .int (nI n0), .int (nI 2), .int (-1)] : List Value).toArray s 0 0 A) (F0 m 291 ls [])) (hx : p.tables.exec = Jvm.exec) (hb : c.code = cX5_goThrough) (hr : meth.sig.returnType = (some .int)) (hts : ∀ w ∈ lw_all, w.before ([.ref o, .int (nI n0), .int (nI 2), .int (-1)] : List Value).toArray s = true) (hown : s.vm.findClass yX5_goThrough.cls = some m.cls) (hlocks : meth.locks = false) (hnm : meth.name = yX5_goThrough.name) (hml : c.maxLocals = 14) (hK : va_K D vwCl (tysG ca) s) (hN : KN s) (hA : ∀ q, s.heap.size ≤ q → A q)  :
    ∀ (n : Nat) (yb : Int) (cn : Nat) (xv : Q4), (-(M : Int) - 1 ≤ yb) → (yb ≤ M) → (cn + cS 2 (TB N M ya yb ++ R) = T) → (yb + M + 1 < (n : Int)) →  ∀ (H : Heap) (locs : List Loc) (ls : Array Slot), va_P D vwCl [(o, mO ad nf mo), (ad 8, a4 ca xv)] H → va_D A [(o, mO ad nf mo), (ad 8, a4 ca xv)] → va_S A s.heap H locs → lv_has ls 14 [(8, .int (iZ yb)), (0, .ref o), (1, .int (nI n0)), (2, .int (nI 2)), (3, .int (-1)), (4, .int (iZ N)), (5, .int (nI M)), (6, .int (nI cn)), (7, .int (iZ ya))] → W p l e ({ frames := 2, cells := 0, slots := 0, locals := 53 }) s m ([.ref o, .int (nI n0), .int (nI 2), .int (-1)] : List Value).toArray below meth c H locs 0 0 (MQ below (qI D (fun (r : Int32) (u : Nat × Q4) => r = nI (cS 2 (S0 (4 * (n0 : Int)) u.1)) ∧ u.1 * u.1 ≤ 4 * n0 ∧ 4 * n0 < (u.1 + 1) * (u.1 + 1)) (fun u => [(o, mO ad nf mo), (ad 8, a4 ca u.2)]) (fun u H => True) A) ([.ref o, .int (nI n0), .int (nI 2), .int (-1)] : List Value).toArray s 0 0 A) (F0 m 31 ls []) := by
  intro n
  induction n with
  | zero =>
    intro yb cn xv hb1 hb2 hT hfuel H locs ls hP hD hS hl 
    exact absurd hfuel (by omega)
  | succ n ih =>
    intro yb cn xv hb1 hb2 hT hfuel H locs ls hP hD hS hl 
    refine lv_iload hx hb dX5_goThrough_31 (lv_at hl 0 rfl) ?_
    refine lv_iload hx hb dX5_goThrough_33 (lv_at hl 6 rfl) ?_
    refine lv_ineg hx hb dX5_goThrough_35 ?_
    refine lv_topi (fun z_1 ez_1 => ?_)
    obtain rfl : z_1 = iZ (-((M : Nat) : Int)) := ez_1.trans (zneg (iZ_n _))
    refine lv_icmp_lt (tgt := 291) hx hb dX5_goThrough_36 (by decide) (fun c_2 => ?_) (fun c_2 => ?_)
    · have c_2 := ltz_y (a := yb) (b := -((M : Nat) : Int)) rfl rfl (by omega) (by omega) c_2
      rw [TB_e (by omega), List.nil_append] at hT
      exact hOut cn xv hT _ _ _ hP hD hS (lv_sub hl [1, 2, 3, 4, 5, 6, 7, 8] rfl)
    · have c_2 := ltz_no (a := yb) (b := -((M : Nat) : Int)) rfl rfl (by omega) (by omega) c_2
      refine lv_iload hx hb dX5_goThrough_39 (lv_at hl 6 rfl) ?_
      refine lv_topi (fun z_3 ez_3 => ?_)
      obtain rfl : z_3 = iZ ((M : Nat) : Int) := ez_3.trans (iZ_n M)
      refine lv_istore (lv' := [(9, .int (iZ ((M : Nat) : Int))), (8, .int (iZ yb)), (0, .ref o), (1, .int (nI n0)), (2, .int (nI 2)), (3, .int (-1)), (4, .int (iZ N)), (5, .int (nI M)), (6, .int (nI cn)), (7, .int (iZ ya))]) hx hb dX5_goThrough_41 hl (by decide) rfl (fun ls hl => ?_)
      rw [TB_s (by omega), List.append_assoc] at hT
      refine lp_X5_go_c2 hk o ad nf mo x n0 M T N ya yb (TB N M ya (yb - 1) ++ R) hn0 hM28 hM0 hNn hTb hMM hTT hba (by omega) (fun cn xv hT H locs ls hP hD hS hl => ?_) hx hb hr hts hown hlocks hnm hml hK hN hA  (((M : Int) + M + 2).toNat) ((M : Nat) : Int) cn xv (by omega) (by omega) hT (by omega) _ _ _ hP hD hS (lv_sub hl [0, 2, 3, 4, 5, 6, 7, 8, 9, 1] rfl)
      refine lv_iinc (v := iZ (yb - 1)) (lv' := [(8, .int (iZ (yb - 1))), (0, .ref o), (1, .int (nI n0)), (2, .int (nI 2)), (3, .int (-1)), (4, .int (iZ N)), (5, .int (nI M)), (6, .int (nI cn)), (7, .int (iZ ya))]) hx hb dX5_goThrough_285 hl (k := 8) rfl ((zadd rfl (b := -1) (by decide)).trans (by rw [Int.sub_eq_add_neg])) (by decide) rfl (fun ls hl => ?_)
      refine lv_goto (tgt := 31) hx hb dX5_goThrough_288 (by decide) ?_
      exact ih (yb - 1) cn xv (by omega) (by omega) hT (by omega) _ _ _ hP hD hS (lv_sub hl [0, 1, 2, 3, 4, 5, 6, 7, 8] rfl) 
set_option maxHeartbeats 4000000 in
set_option maxRecDepth 100000 in
theorem lp_X5_go_a2 {KN : State → Prop} (hk : KNok KN) {l : Launch} {D : va_G} {ca : Nat → ClassId} (o : Nat) (ad : Nat → Nat) (nf : Int32) (mo : Int32) (x : Q4) (n0 : Nat) (M : Nat) (T : Nat) (N : Int) (hn0 : n0 ≤ 200) (hM28 : M ≤ 28) (hM0 : 4 * n0 < (M + 1) * (M + 1)) (hNn : N = 4 * (n0 : Int)) (hTb : T ≤ 2 ^ 20) (hMM : M * M ≤ 4 * n0) (hTT : T = cS 2 (S0 (4 * (n0 : Int)) M)) {p : Program} {e : Env} {s : State} {m : MethodId} {below : List Frame} {meth : Method} {c : Code} {A : Nat → Prop}  (hx : p.tables.exec = Jvm.exec) (hb : c.code = cX5_goThrough) (hr : meth.sig.returnType = (some .int)) (hts : ∀ w ∈ lw_all, w.before ([.ref o, .int (nI n0), .int (nI 2), .int (-1)] : List Value).toArray s = true) (hown : s.vm.findClass yX5_goThrough.cls = some m.cls) (hlocks : meth.locks = false) (hnm : meth.name = yX5_goThrough.name) (hml : c.maxLocals = 14) (hK : va_K D vwCl (tysG ca) s) (hN : KN s) (hA : ∀ q, s.heap.size ≤ q → A q)  :
    ∀ (n : Nat) (ya : Int) (cn : Nat) (xv : Q4), (-(M : Int) - 1 ≤ ya) → (ya ≤ M) → (cn + cS 2 (TA N M ya) = T) → (ya + M + 1 < (n : Int)) →  ∀ (H : Heap) (locs : List Loc) (ls : Array Slot), va_P D vwCl [(o, mO ad nf mo), (ad 8, a4 ca xv)] H → va_D A [(o, mO ad nf mo), (ad 8, a4 ca xv)] → va_S A s.heap H locs → lv_has ls 14 [(7, .int (iZ ya)), (0, .ref o), (1, .int (nI n0)), (2, .int (nI 2)), (3, .int (-1)), (4, .int (iZ N)), (5, .int (nI M)), (6, .int (nI cn))] → W p l e ({ frames := 2, cells := 0, slots := 0, locals := 53 }) s m ([.ref o, .int (nI n0), .int (nI 2), .int (-1)] : List Value).toArray below meth c H locs 0 0 (MQ below (qI D (fun (r : Int32) (u : Nat × Q4) => r = nI (cS 2 (S0 (4 * (n0 : Int)) u.1)) ∧ u.1 * u.1 ≤ 4 * n0 ∧ 4 * n0 < (u.1 + 1) * (u.1 + 1)) (fun u => [(o, mO ad nf mo), (ad 8, a4 ca u.2)]) (fun u H => True) A) ([.ref o, .int (nI n0), .int (nI 2), .int (-1)] : List Value).toArray s 0 0 A) (F0 m 19 ls []) := by
  intro n
  induction n with
  | zero =>
    intro ya cn xv ha1 ha2 hT hfuel H locs ls hP hD hS hl 
    exact absurd hfuel (by omega)
  | succ n ih =>
    intro ya cn xv ha1 ha2 hT hfuel H locs ls hP hD hS hl 
    refine lv_iload hx hb dX5_goThrough_19 (lv_at hl 0 rfl) ?_
    refine lv_iload hx hb dX5_goThrough_21 (lv_at hl 6 rfl) ?_
    refine lv_ineg hx hb dX5_goThrough_23 ?_
    refine lv_topi (fun z_1 ez_1 => ?_)
    obtain rfl : z_1 = iZ (-((M : Nat) : Int)) := ez_1.trans (zneg (iZ_n _))
    refine lv_icmp_lt (tgt := 297) hx hb dX5_goThrough_24 (by decide) (fun c_2 => ?_) (fun c_2 => ?_)
    · have c_2 := ltz_y (a := ya) (b := -((M : Nat) : Int)) rfl rfl (by omega) (by omega) c_2
      refine lv_iload hx hb dX5_goThrough_297 (lv_at hl 7 rfl) ?_
      exact k_iret (M, xv) hx hb hr hlocks (⟨by rw [← hTT]; rw [TA_e (by omega)] at hT; exact congrArg nI hT, hMM, hM0⟩) hP hD trivial hS (Nat.le_of_ble_eq_true rfl) (Nat.le_of_ble_eq_true rfl) dX5_goThrough_299
    · have c_2 := ltz_no (a := ya) (b := -((M : Nat) : Int)) rfl rfl (by omega) (by omega) c_2
      refine lv_iload hx hb dX5_goThrough_27 (lv_at hl 6 rfl) ?_
      refine lv_topi (fun z_3 ez_3 => ?_)
      obtain rfl : z_3 = iZ ((M : Nat) : Int) := ez_3.trans (iZ_n M)
      refine lv_istore (lv' := [(8, .int (iZ ((M : Nat) : Int))), (7, .int (iZ ya)), (0, .ref o), (1, .int (nI n0)), (2, .int (nI 2)), (3, .int (-1)), (4, .int (iZ N)), (5, .int (nI M)), (6, .int (nI cn))]) hx hb dX5_goThrough_29 hl (by decide) rfl (fun ls hl => ?_)
      rw [TA_s (by omega)] at hT
      refine lp_X5_go_b2 hk o ad nf mo x n0 M T N ya (TA N M (ya - 1)) hn0 hM28 hM0 hNn hTb hMM hTT (by omega) (fun cn xv hT H locs ls hP hD hS hl => ?_) hx hb hr hts hown hlocks hnm hml hK hN hA  (((M : Int) + M + 2).toNat) ((M : Nat) : Int) cn xv (by omega) (by omega) hT (by omega) _ _ _ hP hD hS (lv_sub hl [0, 2, 3, 4, 5, 6, 7, 8, 1] rfl)
      refine lv_iinc (v := iZ (ya - 1)) (lv' := [(7, .int (iZ (ya - 1))), (0, .ref o), (1, .int (nI n0)), (2, .int (nI 2)), (3, .int (-1)), (4, .int (iZ N)), (5, .int (nI M)), (6, .int (nI cn))]) hx hb dX5_goThrough_291 hl (k := 7) rfl ((zadd rfl (b := -1) (by decide)).trans (by rw [Int.sub_eq_add_neg])) (by decide) rfl (fun ls hl => ?_)
      refine lv_goto (tgt := 19) hx hb dX5_goThrough_294 (by decide) ?_
      exact ih (ya - 1) cn xv (by omega) (by omega) hT (by omega) _ _ _ hP hD hS (lv_sub hl [0, 1, 2, 3, 4, 5, 6, 7] rfl) 
set_option maxHeartbeats 4000000 in
set_option maxRecDepth 100000 in
theorem ct_X5_go_2 {KN : State → Prop} (hk : KNok KN) (l : Launch) (D : va_G) (ca : Nat → ClassId) (zH : Nat) (o : Nat) (ad : Nat → Nat) (nf mo : Int32) (x : Q4) (n0 : Nat) (hn1 : 1 ≤ n0) (hn0 : n0 ≤ 200) : Met l yX5_goThrough (ws_ yX5_goThrough cX5_goThrough 14 (some .int)) ({ frames := 2, cells := 0, slots := 0, locals := 53 }) (va_Pc [.ref o, .int (nI n0), .int (nI 2), .int (-1)] (pr_ KN D ca [(o, mO ad nf mo), (ad 8, a4 ca x)] zH (fun _ => True))) (qI D (fun (r : Int32) (u : Nat × Q4) => r = nI (cS 2 (S0 (4 * (n0 : Int)) u.1)) ∧ u.1 * u.1 ≤ 4 * n0 ∧ 4 * n0 < (u.1 + 1) * (u.1 + 1)) (fun u => [(o, mO ad nf mo), (ad 8, a4 ca u.2)]) (fun u H => True) (va_A [(o, mO ad nf mo), (ad 8, a4 ca x)] zH)) 0 0 (va_A [(o, mO ad nf mo), (ad 8, a4 ca x)] zH) := by
  refine k_ofW (Qc := qI D (fun (r : Int32) (u : Nat × Q4) => r = nI (cS 2 (S0 (4 * (n0 : Int)) u.1)) ∧ u.1 * u.1 ≤ 4 * n0 ∧ 4 * n0 < (u.1 + 1) * (u.1 + 1)) (fun u => [(o, mO ad nf mo), (ad 8, a4 ca u.2)]) (fun u H => True)) (by decide) (Nat.le_of_ble_eq_true rfl) ?_
  intro p e s m below meth c ls A H hH hx hb hr hts hown hlocks hnm hml hsz hP hD hK hN hA hAn hS hro hl
  have hl : lv_has ls 14 [(0, .ref o), (1, .int (nI n0)), (2, .int (nI 2)), (3, .int (-1))] := hl
  refine lv_iconst (v := 4) hx hb dX5_goThrough_0 (by decide) ?_
  refine lv_iload_n hx hb dX5_goThrough_1 rfl (lv_at hl 1 rfl) ?_
  refine lv_imul hx hb dX5_goThrough_2 ?_
  refine lv_topi (fun z_1 ez_1 => ?_)
  obtain rfl : z_1 = iZ (4 * ((n0 : Nat) : Int)) := ez_1.trans (zmul (by decide) (iZ_n _))
  refine lv_istore (lv' := [(4, .int (iZ (4 * ((n0 : Nat) : Int)))), (0, .ref o), (1, .int (nI n0)), (2, .int (nI 2)), (3, .int (-1))]) hx hb dX5_goThrough_3 hl (by decide) rfl (fun ls hl => ?_)
  refine lv_iload hx hb dX5_goThrough_5 (lv_at hl 0 rfl) ?_
  refine lv_topi (fun z_2 ez_2 => ?_)
  obtain rfl : z_2 = nI (4 * n0) := ez_2.trans (i4n n0)
  refine k_calli (wr := [(o, mO ad nf mo), (ad 8, a4 ca x)]) (va_runS (As := [.int (nI (4 * n0))]) (rest := []) ⟨hx, hb, hml, hown, hts⟩ (ct_X5_rootOf hk l D ca H.size (4 * n0) (by omega)) (va_cwS 1 hts (lw_S q788 q789 q24 q790) rfl rfl rfl (by decide +kernel) ⟨Nat.le_of_ble_eq_true rfl, Nat.le_of_ble_eq_true rfl⟩) (k_pre hk hK hN hP hD [] (by decide) rfl trivial) rfl rfl hl.1 rfl (lv_room (Nat.le_of_ble_eq_true rfl)) dX5_goThrough_7 ⟨Nat.le_of_ble_eq_true rfl, Nat.le_of_ble_eq_true rfl⟩) hP hD hS hA [] [0, 1] rfl rfl (by decide) (by decide) (fun r_3 u_4 H locs w_5 hP hD hxw_5 hzw_5 hqw_5 hS => ?_)
  obtain ⟨ew_5, hr1w_5, hr2w_5⟩ := w_5
  subst ew_5
  refine lv_istore (lv' := [(5, .int (nI u_4)), (4, .int (iZ (4 * ((n0 : Nat) : Int)))), (0, .ref o), (1, .int (nI n0)), (2, .int (nI 2)), (3, .int (-1))]) hx hb dX5_goThrough_10 hl (by decide) rfl (fun ls hl => ?_)
  have hM28 : u_4 ≤ 28 := root_le (b := 28) hr1w_5 (by omega)
  obtain ⟨hS1, hS2, hS3⟩ := S0_T hn1 hn0 hM28 hr2w_5
  refine lv_iconst (v := 0) hx hb dX5_goThrough_12 (by decide) ?_
  refine lv_istore (lv' := [(6, .int 0), (5, .int (nI u_4)), (4, .int (iZ (4 * ((n0 : Nat) : Int)))), (0, .ref o), (1, .int (nI n0)), (2, .int (nI 2)), (3, .int (-1))]) hx hb dX5_goThrough_13 hl (by decide) rfl (fun ls hl => ?_)
  refine lv_iload hx hb dX5_goThrough_15 (lv_at hl 1 rfl) ?_
  refine lv_topi (fun z_6 ez_6 => ?_)
  obtain rfl : z_6 = iZ ((u_4 : Nat) : Int) := ez_6.trans (iZ_n u_4)
  refine lv_istore (lv' := [(7, .int (iZ ((u_4 : Nat) : Int))), (6, .int 0), (5, .int (nI u_4)), (4, .int (iZ (4 * ((n0 : Nat) : Int)))), (0, .ref o), (1, .int (nI n0)), (2, .int (nI 2)), (3, .int (-1))]) hx hb dX5_goThrough_17 hl (by decide) rfl (fun ls hl => ?_)
  exact lp_X5_go_a2 hk o ad nf mo x n0 u_4 (cS 2 (S0 (4 * (n0 : Int)) u_4)) (4 * (n0 : Int)) hn0 hM28 hr2w_5 rfl (Nat.le_trans (cS_le _ _) hS3) hr1w_5 rfl  hx hb hr hts hown hlocks hnm hml hK hN hA  (((u_4 : Int) + u_4 + 2).toNat) ((u_4 : Nat) : Int) 0 x (by omega) (by omega) (by rw [TA_0, Nat.zero_add]) (by omega) _ _ _ hP hD hS (lv_sub hl [0, 4, 5, 6, 7, 3, 2, 1] rfl) 
