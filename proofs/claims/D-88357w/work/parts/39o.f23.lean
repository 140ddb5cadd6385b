theorem alS_le (n : Nat) (L : List Z4') : alS 1 n L ≤ L.length := by
  induction L with
  | nil => exact Nat.le_refl 0
  | cons q L ih =>
    have := alI_le n q
    simp only [alS, List.length_cons, Nat.one_mul]
    omega
theorem S0_T {n M : Nat} (h1 : 1 ≤ n) (h2 : n ≤ 200) (hM : M ≤ 28) (hr : 4 * n < (M + 1) * (M + 1)) : (S0 (4 * (n : Int)) M).length = 24 * dvS n 2 n ∧ ((S0 (4 * (n : Int)) M).filter (fun q => decide (q.1 % 2 = 0))).length = 8 * dvS n 4 n ∧ (S0 (4 * (n : Int)) M).length ≤ 2 ^ 20 := by
  have h := many_S h1 h2 hM hr
  have e : ((4 * n : Nat) : Int) = 4 * (n : Int) := by omega
  rw [e] at h
  have h3 := dvS_le n 2 n
  have h4 := Nat.mul_le_mul h2 h2
  exact ⟨h.1, h.2, by omega⟩
theorem S0_mem {N : Int} {M : Nat} {q : Z4'} (h : q ∈ S0 N M) : okQ N q.1 q.2.1 q.2.2.1 q.2.2.2 = true ∧ (-(M : Int) ≤ q.1 ∧ q.1 ≤ M) ∧ (-(M : Int) ≤ q.2.1 ∧ q.2.1 ≤ M) ∧ (-(M : Int) ≤ q.2.2.1 ∧ q.2.2.1 ≤ M) ∧ (-(M : Int) ≤ q.2.2.2 ∧ q.2.2.2 ≤ M) := by
  simp only [S0, S1, S2, S3, ds, List.mem_flatMap, List.mem_map, List.mem_filter] at h
  obtain ⟨a, ha, b, hb, c, hc, d, ⟨hd, hok⟩, rfl⟩ := h
  have a1 := dn_mem ha
  have b1 := dn_mem hb
  have c1 := dn_mem hc
  have d1 := dn_mem hd
  exact ⟨hok, ⟨by show -(M : Int) ≤ a; omega, by show a ≤ M; omega⟩, ⟨by show -(M : Int) ≤ b; omega, by show b ≤ M; omega⟩, ⟨by show -(M : Int) ≤ c; omega, by show c ≤ M; omega⟩, ⟨by show -(M : Int) ≤ d; omega, by show d ≤ M; omega⟩⟩
theorem qz_p {a : Int} (h1 : -28 ≤ a) (h2 : a ≤ 28) : p_in (iZ a).toInt64 (-20000) 20000 = true := by
  have e1 : (-20000 : Int64).toInt = -20000 := by decide
  have e2 : (20000 : Int64).toInt = 20000 := by decide
  simp only [p_in, Bool.and_eq_true, Bool.not_eq_true', decide_eq_false_iff_not, Int64.lt_iff_toInt_lt, Int32.toInt_toInt64, iZ_t (show -2 ^ 31 ≤ a ∧ a < 2 ^ 31 by omega), e1, e2]
  omega
theorem qz_low {N : Int} {M : Nat} {q : Z4'} (hM : M ≤ 28) (h : q ∈ S0 N M) : q_low (qz q) = true := by
  obtain ⟨-, h1, h2, h3, h4⟩ := S0_mem h
  simp only [q_low, qz, Bool.and_eq_true]
  exact ⟨⟨⟨qz_p (by omega) (by omega), qz_p (by omega) (by omega)⟩, qz_p (by omega) (by omega)⟩, qz_p (by omega) (by omega)⟩
theorem getD_mem {L : List Z4'} {i : Nat} {z : Z4'} (h : i < L.length) : L.getD i z ∈ L := by
  rw [List.getD_eq_getElem?_getD, List.getElem?_eq_getElem h]
  exact List.getElem_mem h
theorem in_nn {j : Nat} (h1 : 1 ≤ j) (h2 : j ≤ 200) : p_in (nI j).toInt64 1 200 = true := by
  have h5 : (200 : Int64).toInt = 200 := by decide
  have h6 : (1 : Int64).toInt = 1 := by decide
  simp only [p_in, Bool.and_eq_true, Bool.not_eq_true', decide_eq_false_iff_not, Int64.lt_iff_toInt_lt, Int32.toInt_toInt64, nI_toInt (show j < 2 ^ 31 by omega), h5, h6]
  omega
set_option maxHeartbeats 4000000 in
set_option maxRecDepth 100000 in
theorem ct_X0_many_0 (l : Launch) (D : va_G) (ca : Nat → ClassId) (zH : Nat) (xo : Nat) (n0 w0 : Int32) (h1 : p_in n0.toInt64 1 200 = false) : Met l yX0_many (ws_ yX0_many cX0_many 4 (some .int)) ({ frames := 1, cells := 0, slots := 0, locals := 25 }) (va_Pc [.ref xo, .int n0, .int w0] (pr_ NW D ca [] zH (fun _ => True))) (qI D (fun (r : Int32) (u : Unit) => r = -1) (fun u => []) (fun u H => True) (va_A [] zH)) 0 0 (va_A [] zH) := by
  have hk := NW_ok
  refine k_ofW (Qc := qI D (fun (r : Int32) (u : Unit) => r = -1) (fun u => []) (fun u H => True)) (by decide) (Nat.le_of_ble_eq_true rfl) ?_
  intro p e s m below meth c ls A H hH hx hb hr hts hown hlocks hnm hml hsz hP hD hK hN hA hAn hS hro hl
  have hl : lv_has ls 4 [(0, .ref xo), (1, .int n0), (2, .int w0)] := hl
  refine lv_iload_n hx hb dX0_many_0 rfl (lv_at hl 1 rfl) ?_
  refine lv_i2l (v := n0.toInt64) hx hb dX0_many_1 rfl ?_
  refine lv_lconst (v := 1) hx hb dX0_many_2 (by decide) ?_
  refine lv_ldc2 hx hb hown (hts _ q499) dX0_many_3 ?_
  refine k_calli (wr := []) (va_runS (As := [.long n0.toInt64, .long 1, .long 200]) (rest := []) ⟨hx, hb, hml, hown, hts⟩ (ct_X0_isIn hk l D ca H.size n0.toInt64 1 200) (va_cwS 3 hts (lw_S q131 q132 q19 q133) rfl rfl rfl (by decide +kernel) ⟨Nat.le_of_ble_eq_true rfl, Nat.le_of_ble_eq_true rfl⟩) (k_pre hk hK hN hP hD [] (by decide) rfl trivial) rfl rfl hl.1 rfl (lv_room (Nat.le_of_ble_eq_true rfl)) dX0_many_6 ⟨Nat.le_of_ble_eq_true rfl, Nat.le_of_ble_eq_true rfl⟩) hP hD hS hA [] [] rfl rfl (by decide) (by decide) (fun r_1 u_2 H locs w_3 hP hD hxw_3 hzw_3 hqw_3 hS => ?_)
  obtain rfl : r_1 = bI (p_in n0.toInt64 1 200) := w_3
  refine lv_if_eq (tgt := 24) hx hb dX0_many_9 (by decide) (fun c_4 => ?_) (fun c_4 => absurd (by rw [h1]; rfl) c_4)
  refine lv_iconst (v := (-1)) hx hb dX0_many_24 (by decide) ?_
  exact k_iret () hx hb hr hlocks (rfl) hP hD trivial hS (Nat.le_of_ble_eq_true rfl) (Nat.le_of_ble_eq_true rfl) dX0_many_25
set_option maxHeartbeats 4000000 in
set_option maxRecDepth 100000 in
theorem ct_X0_many_1 (l : Launch) (D : va_G) (ca : Nat → ClassId) (zH : Nat) (xo nn : Nat) (w0 : Int32) (h1 : 1 ≤ nn) (h2 : nn ≤ 200) (h3 : p_in w0.toInt64 0 2 = false) : Met l yX0_many (ws_ yX0_many cX0_many 4 (some .int)) ({ frames := 1, cells := 0, slots := 0, locals := 25 }) (va_Pc [.ref xo, .int (nI nn), .int w0] (pr_ NW D ca [] zH (fun _ => True))) (qI D (fun (r : Int32) (u : Unit) => r = -1) (fun u => []) (fun u H => True) (va_A [] zH)) 0 0 (va_A [] zH) := by
  have hk := NW_ok
  refine k_ofW (Qc := qI D (fun (r : Int32) (u : Unit) => r = -1) (fun u => []) (fun u H => True)) (by decide) (Nat.le_of_ble_eq_true rfl) ?_
  intro p e s m below meth c ls A H hH hx hb hr hts hown hlocks hnm hml hsz hP hD hK hN hA hAn hS hro hl
  have hl : lv_has ls 4 [(0, .ref xo), (1, .int (nI nn)), (2, .int w0)] := hl
  refine lv_iload_n hx hb dX0_many_0 rfl (lv_at hl 1 rfl) ?_
  refine lv_i2l (v := (nI nn).toInt64) hx hb dX0_many_1 rfl ?_
  refine lv_lconst (v := 1) hx hb dX0_many_2 (by decide) ?_
  refine lv_ldc2 hx hb hown (hts _ q499) dX0_many_3 ?_
  refine k_calli (wr := []) (va_runS (As := [.long ((nI nn).toInt64), .long 1, .long 200]) (rest := []) ⟨hx, hb, hml, hown, hts⟩ (ct_X0_isIn hk l D ca H.size ((nI nn).toInt64) 1 200) (va_cwS 3 hts (lw_S q131 q132 q19 q133) rfl rfl rfl (by decide +kernel) ⟨Nat.le_of_ble_eq_true rfl, Nat.le_of_ble_eq_true rfl⟩) (k_pre hk hK hN hP hD [] (by decide) rfl trivial) rfl rfl hl.1 rfl (lv_room (Nat.le_of_ble_eq_true rfl)) dX0_many_6 ⟨Nat.le_of_ble_eq_true rfl, Nat.le_of_ble_eq_true rfl⟩) hP hD hS hA [] [] rfl rfl (by decide) (by decide) (fun r_1 u_2 H locs w_3 hP hD hxw_3 hzw_3 hqw_3 hS => ?_)
  obtain rfl : r_1 = bI (p_in ((nI nn).toInt64) 1 200) := w_3
  refine lv_if_eq (tgt := 24) hx hb dX0_many_9 (by decide) (fun c_4 => absurd c_4 (by rw [in_nn h1 h2]; decide)) (fun c_4 => ?_)
  refine lv_iload_n hx hb dX0_many_12 rfl (lv_at hl 2 rfl) ?_
  refine lv_i2l (v := w0.toInt64) hx hb dX0_many_13 rfl ?_
  refine lv_lconst (v := 0) hx hb dX0_many_14 (by decide) ?_
  refine lv_ldc2 hx hb hown (hts _ q135) dX0_many_15 ?_
  refine k_calli (wr := []) (va_runS (As := [.long w0.toInt64, .long 0, .long 2]) (rest := []) ⟨hx, hb, hml, hown, hts⟩ (ct_X0_isIn hk l D ca H.size w0.toInt64 0 2) (va_cwS 3 hts (lw_S q131 q132 q19 q133) rfl rfl rfl (by decide +kernel) ⟨Nat.le_of_ble_eq_true rfl, Nat.le_of_ble_eq_true rfl⟩) (k_pre hk hK hN hP hD [] (by decide) rfl trivial) rfl rfl hl.1 rfl (lv_room (Nat.le_of_ble_eq_true rfl)) dX0_many_18 ⟨Nat.le_of_ble_eq_true rfl, Nat.le_of_ble_eq_true rfl⟩) hP hD hS hA [] [] rfl rfl (by decide) (by decide) (fun r_5 u_6 H locs w_7 hP hD hxw_7 hzw_7 hqw_7 hS => ?_)
  obtain rfl : r_5 = bI (p_in w0.toInt64 0 2) := w_7
  refine lv_if_ne (tgt := 26) hx hb dX0_many_21 (by decide) (fun c_8 => absurd (by rw [h3]; decide) c_8) (fun c_8 => ?_)
  refine lv_iconst (v := (-1)) hx hb dX0_many_24 (by decide) ?_
  exact k_iret () hx hb hr hlocks (rfl) hP hD trivial hS (Nat.le_of_ble_eq_true rfl) (Nat.le_of_ble_eq_true rfl) dX0_many_25
set_option maxHeartbeats 4000000 in
set_option maxRecDepth 100000 in
theorem ct_X0_many_20 (l : Launch) (D : va_G) (ca : Nat → ClassId) (zH : Nat) (xo nn : Nat) (h1 : 1 ≤ nn) (h2 : nn ≤ 200) : Met l yX0_many (ws_ yX0_many cX0_many 4 (some .int)) ({ frames := 1, cells := 0, slots := 0, locals := 25 }) (va_Pc [.ref xo, .int (nI nn), .int (nI 0)] (pr_ NW D ca [] zH (fun _ => True))) (qI D (fun (r : Int32) (u : Unit) => r = nI (24 * dvS nn 2 nn)) (fun u => []) (fun u H => True) (va_A [] zH)) 0 0 (va_A [] zH) := by
  have hk := NW_ok
  refine k_ofW (Qc := qI D (fun (r : Int32) (u : Unit) => r = nI (24 * dvS nn 2 nn)) (fun u => []) (fun u H => True)) (by decide) (Nat.le_of_ble_eq_true rfl) ?_
  intro p e s m below meth c ls A H hH hx hb hr hts hown hlocks hnm hml hsz hP hD hK hN hA hAn hS hro hl
  have hl : lv_has ls 4 [(0, .ref xo), (1, .int (nI nn)), (2, .int (nI 0))] := hl
  refine lv_iload_n hx hb dX0_many_0 rfl (lv_at hl 1 rfl) ?_
  refine lv_i2l (v := (nI nn).toInt64) hx hb dX0_many_1 rfl ?_
  refine lv_lconst (v := 1) hx hb dX0_many_2 (by decide) ?_
  refine lv_ldc2 hx hb hown (hts _ q499) dX0_many_3 ?_
  refine k_calli (wr := []) (va_runS (As := [.long ((nI nn).toInt64), .long 1, .long 200]) (rest := []) ⟨hx, hb, hml, hown, hts⟩ (ct_X0_isIn hk l D ca H.size ((nI nn).toInt64) 1 200) (va_cwS 3 hts (lw_S q131 q132 q19 q133) rfl rfl rfl (by decide +kernel) ⟨Nat.le_of_ble_eq_true rfl, Nat.le_of_ble_eq_true rfl⟩) (k_pre hk hK hN hP hD [] (by decide) rfl trivial) rfl rfl hl.1 rfl (lv_room (Nat.le_of_ble_eq_true rfl)) dX0_many_6 ⟨Nat.le_of_ble_eq_true rfl, Nat.le_of_ble_eq_true rfl⟩) hP hD hS hA [] [] rfl rfl (by decide) (by decide) (fun r_1 u_2 H locs w_3 hP hD hxw_3 hzw_3 hqw_3 hS => ?_)
  obtain rfl : r_1 = bI (p_in ((nI nn).toInt64) 1 200) := w_3
  refine lv_if_eq (tgt := 24) hx hb dX0_many_9 (by decide) (fun c_4 => absurd c_4 (by rw [in_nn h1 h2]; decide)) (fun c_4 => ?_)
  refine lv_iload_n hx hb dX0_many_12 rfl (lv_at hl 2 rfl) ?_
  refine lv_i2l (v := (nI 0).toInt64) hx hb dX0_many_13 rfl ?_
  refine lv_lconst (v := 0) hx hb dX0_many_14 (by decide) ?_
  refine lv_ldc2 hx hb hown (hts _ q135) dX0_many_15 ?_
  refine k_calli (wr := []) (va_runS (As := [.long ((nI 0).toInt64), .long 0, .long 2]) (rest := []) ⟨hx, hb, hml, hown, hts⟩ (ct_X0_isIn hk l D ca H.size ((nI 0).toInt64) 0 2) (va_cwS 3 hts (lw_S q131 q132 q19 q133) rfl rfl rfl (by decide +kernel) ⟨Nat.le_of_ble_eq_true rfl, Nat.le_of_ble_eq_true rfl⟩) (k_pre hk hK hN hP hD [] (by decide) rfl trivial) rfl rfl hl.1 rfl (lv_room (Nat.le_of_ble_eq_true rfl)) dX0_many_18 ⟨Nat.le_of_ble_eq_true rfl, Nat.le_of_ble_eq_true rfl⟩) hP hD hS hA [] [] rfl rfl (by decide) (by decide) (fun r_5 u_6 H locs w_7 hP hD hxw_7 hzw_7 hqw_7 hS => ?_)
  obtain rfl : r_5 = bI (p_in ((nI 0).toInt64) 0 2) := w_7
  refine lv_if_ne (tgt := 26) hx hb dX0_many_21 (by decide) (fun c_8 => ?_) (fun c_8 => absurd c_8 (by decide))
  refine lv_iload_n hx hb dX0_many_26 rfl (lv_at hl 2 rfl) ?_
  refine lv_iconst (v := 2) hx hb dX0_many_27 (by decide) ?_
  refine lv_icmp_ge (tgt := 55) hx hb dX0_many_28 (by decide) (fun c_9 => absurd c_9 (by decide)) (fun c_9 => ?_)
  refine lv_iload_n hx hb dX0_many_31 rfl (lv_at hl 2 rfl) ?_
  refine lv_if_ne (tgt := 46) hx hb dX0_many_32 (by decide) (fun c_10 => absurd rfl c_10) (fun c_10 => ?_)
  refine lv_bipush (v := 24) hx hb dX0_many_35 (by decide) ?_
  refine lv_iload_n hx hb dX0_many_37 rfl (lv_at hl 1 rfl) ?_
  refine lv_iconst (v := 2) hx hb dX0_many_38 (by decide) ?_
  refine k_calli (wr := []) (va_runS (As := [.int (nI nn), .int 2]) (rest := [.int 24]) ⟨hx, hb, hml, hown, hts⟩ (ct_X0_divisors hk l D ca H.size nn 2 h2 (by decide) (by decide)) (va_cwS 2 hts (lw_S q500 q501 q19 q502) rfl rfl rfl (by decide +kernel) ⟨Nat.le_of_ble_eq_true rfl, Nat.le_of_ble_eq_true rfl⟩) (k_pre hk hK hN hP hD [] (by decide) rfl trivial) rfl rfl hl.1 rfl (lv_room (Nat.le_of_ble_eq_true rfl)) dX0_many_39 ⟨Nat.le_of_ble_eq_true rfl, Nat.le_of_ble_eq_true rfl⟩) hP hD hS hA [] [] rfl rfl (by decide) (by decide) (fun r_11 u_12 H locs w_13 hP hD hxw_13 hzw_13 hqw_13 hS => ?_)
  obtain rfl : r_11 = nI (dvS nn 2 nn) := w_13
  refine lv_imul hx hb dX0_many_42 ?_
  refine lv_goto (tgt := 54) hx hb dX0_many_43 (by decide) ?_
  exact k_iret () hx hb hr hlocks (eq_mul rfl rfl) hP hD trivial hS (Nat.le_of_ble_eq_true rfl) (Nat.le_of_ble_eq_true rfl) dX0_many_54
set_option maxHeartbeats 4000000 in
set_option maxRecDepth 100000 in
theorem ct_X0_many_21 (l : Launch) (D : va_G) (ca : Nat → ClassId) (zH : Nat) (xo nn : Nat) (h1 : 1 ≤ nn) (h2 : nn ≤ 200) : Met l yX0_many (ws_ yX0_many cX0_many 4 (some .int)) ({ frames := 1, cells := 0, slots := 0, locals := 25 }) (va_Pc [.ref xo, .int (nI nn), .int (nI 1)] (pr_ NW D ca [] zH (fun _ => True))) (qI D (fun (r : Int32) (u : Unit) => r = nI (8 * dvS nn 4 nn)) (fun u => []) (fun u H => True) (va_A [] zH)) 0 0 (va_A [] zH) := by
  have hk := NW_ok
  refine k_ofW (Qc := qI D (fun (r : Int32) (u : Unit) => r = nI (8 * dvS nn 4 nn)) (fun u => []) (fun u H => True)) (by decide) (Nat.le_of_ble_eq_true rfl) ?_
  intro p e s m below meth c ls A H hH hx hb hr hts hown hlocks hnm hml hsz hP hD hK hN hA hAn hS hro hl
  have hl : lv_has ls 4 [(0, .ref xo), (1, .int (nI nn)), (2, .int (nI 1))] := hl
  refine lv_iload_n hx hb dX0_many_0 rfl (lv_at hl 1 rfl) ?_
  refine lv_i2l (v := (nI nn).toInt64) hx hb dX0_many_1 rfl ?_
  refine lv_lconst (v := 1) hx hb dX0_many_2 (by decide) ?_
  refine lv_ldc2 hx hb hown (hts _ q499) dX0_many_3 ?_
  refine k_calli (wr := []) (va_runS (As := [.long ((nI nn).toInt64), .long 1, .long 200]) (rest := []) ⟨hx, hb, hml, hown, hts⟩ (ct_X0_isIn hk l D ca H.size ((nI nn).toInt64) 1 200) (va_cwS 3 hts (lw_S q131 q132 q19 q133) rfl rfl rfl (by decide +kernel) ⟨Nat.le_of_ble_eq_true rfl, Nat.le_of_ble_eq_true rfl⟩) (k_pre hk hK hN hP hD [] (by decide) rfl trivial) rfl rfl hl.1 rfl (lv_room (Nat.le_of_ble_eq_true rfl)) dX0_many_6 ⟨Nat.le_of_ble_eq_true rfl, Nat.le_of_ble_eq_true rfl⟩) hP hD hS hA [] [] rfl rfl (by decide) (by decide) (fun r_1 u_2 H locs w_3 hP hD hxw_3 hzw_3 hqw_3 hS => ?_)
  obtain rfl : r_1 = bI (p_in ((nI nn).toInt64) 1 200) := w_3
  refine lv_if_eq (tgt := 24) hx hb dX0_many_9 (by decide) (fun c_4 => absurd c_4 (by rw [in_nn h1 h2]; decide)) (fun c_4 => ?_)
  refine lv_iload_n hx hb dX0_many_12 rfl (lv_at hl 2 rfl) ?_
  refine lv_i2l (v := (nI 1).toInt64) hx hb dX0_many_13 rfl ?_
  refine lv_lconst (v := 0) hx hb dX0_many_14 (by decide) ?_
  refine lv_ldc2 hx hb hown (hts _ q135) dX0_many_15 ?_
  refine k_calli (wr := []) (va_runS (As := [.long ((nI 1).toInt64), .long 0, .long 2]) (rest := []) ⟨hx, hb, hml, hown, hts⟩ (ct_X0_isIn hk l D ca H.size ((nI 1).toInt64) 0 2) (va_cwS 3 hts (lw_S q131 q132 q19 q133) rfl rfl rfl (by decide +kernel) ⟨Nat.le_of_ble_eq_true rfl, Nat.le_of_ble_eq_true rfl⟩) (k_pre hk hK hN hP hD [] (by decide) rfl trivial) rfl rfl hl.1 rfl (lv_room (Nat.le_of_ble_eq_true rfl)) dX0_many_18 ⟨Nat.le_of_ble_eq_true rfl, Nat.le_of_ble_eq_true rfl⟩) hP hD hS hA [] [] rfl rfl (by decide) (by decide) (fun r_5 u_6 H locs w_7 hP hD hxw_7 hzw_7 hqw_7 hS => ?_)
  obtain rfl : r_5 = bI (p_in ((nI 1).toInt64) 0 2) := w_7
  refine lv_if_ne (tgt := 26) hx hb dX0_many_21 (by decide) (fun c_8 => ?_) (fun c_8 => absurd c_8 (by decide))
  refine lv_iload_n hx hb dX0_many_26 rfl (lv_at hl 2 rfl) ?_
  refine lv_iconst (v := 2) hx hb dX0_many_27 (by decide) ?_
  refine lv_icmp_ge (tgt := 55) hx hb dX0_many_28 (by decide) (fun c_9 => absurd c_9 (by decide)) (fun c_9 => ?_)
  refine lv_iload_n hx hb dX0_many_31 rfl (lv_at hl 2 rfl) ?_
  refine lv_if_ne (tgt := 46) hx hb dX0_many_32 (by decide) (fun c_10 => ?_) (fun c_10 => absurd c_10 (by decide))
  refine lv_bipush (v := 8) hx hb dX0_many_46 (by decide) ?_
  refine lv_iload_n hx hb dX0_many_48 rfl (lv_at hl 1 rfl) ?_
  refine lv_iconst (v := 4) hx hb dX0_many_49 (by decide) ?_
  refine k_calli (wr := []) (va_runS (As := [.int (nI nn), .int 4]) (rest := [.int 8]) ⟨hx, hb, hml, hown, hts⟩ (ct_X0_divisors hk l D ca H.size nn 4 h2 (by decide) (by decide)) (va_cwS 2 hts (lw_S q500 q501 q19 q502) rfl rfl rfl (by decide +kernel) ⟨Nat.le_of_ble_eq_true rfl, Nat.le_of_ble_eq_true rfl⟩) (k_pre hk hK hN hP hD [] (by decide) rfl trivial) rfl rfl hl.1 rfl (lv_room (Nat.le_of_ble_eq_true rfl)) dX0_many_50 ⟨Nat.le_of_ble_eq_true rfl, Nat.le_of_ble_eq_true rfl⟩) hP hD hS hA [] [] rfl rfl (by decide) (by decide) (fun r_11 u_12 H locs w_13 hP hD hxw_13 hzw_13 hqw_13 hS => ?_)
  obtain rfl : r_11 = nI (dvS nn 4 nn) := w_13
  refine lv_imul hx hb dX0_many_53 ?_
  exact k_iret () hx hb hr hlocks (eq_mul rfl rfl) hP hD trivial hS (Nat.le_of_ble_eq_true rfl) (Nat.le_of_ble_eq_true rfl) dX0_many_54
set_option maxHeartbeats 4000000 in
set_option maxRecDepth 100000 in
theorem ct_X0_many_22 (l : Launch) (D : va_G) (ca : Nat → ClassId) (zH : Nat) (xo nn : Nat) (h1 : 1 ≤ nn) (h2 : nn ≤ 200) : Met l yX0_many (ws_ yX0_many cX0_many 4 (some .int)) ({ frames := 4, cells := 1, slots := 6, locals := 111 }) (va_Pc [.ref xo, .int (nI nn), .int (nI 2)] (pr_ NW D ca [] zH (fun _ => True))) (qI D (fun (r : Int32) (u : Nat) => r = nI (alS 1 nn (S0 (4 * (nn : Int)) u)) ∧ u * u ≤ 4 * nn ∧ 4 * nn < (u + 1) * (u + 1)) (fun u => []) (fun u H => True) (va_A [] zH)) 1 6 (va_A [] zH) := by
  have hk := NW_ok
  refine k_ofW (Qc := qI D (fun (r : Int32) (u : Nat) => r = nI (alS 1 nn (S0 (4 * (nn : Int)) u)) ∧ u * u ≤ 4 * nn ∧ 4 * nn < (u + 1) * (u + 1)) (fun u => []) (fun u H => True)) (by decide) (Nat.le_of_ble_eq_true rfl) ?_
  intro p e s m below meth c ls A H hH hx hb hr hts hown hlocks hnm hml hsz hP hD hK hN hA hAn hS hro hl
  have hl : lv_has ls 4 [(0, .ref xo), (1, .int (nI nn)), (2, .int (nI 2))] := hl
  refine lv_iload_n hx hb dX0_many_0 rfl (lv_at hl 1 rfl) ?_
  refine lv_i2l (v := (nI nn).toInt64) hx hb dX0_many_1 rfl ?_
  refine lv_lconst (v := 1) hx hb dX0_many_2 (by decide) ?_
  refine lv_ldc2 hx hb hown (hts _ q499) dX0_many_3 ?_
  refine k_calli (wr := []) (va_runS (As := [.long ((nI nn).toInt64), .long 1, .long 200]) (rest := []) ⟨hx, hb, hml, hown, hts⟩ (ct_X0_isIn hk l D ca H.size ((nI nn).toInt64) 1 200) (va_cwS 3 hts (lw_S q131 q132 q19 q133) rfl rfl rfl (by decide +kernel) ⟨Nat.le_of_ble_eq_true rfl, Nat.le_of_ble_eq_true rfl⟩) (k_pre hk hK hN hP hD [] (by decide) rfl trivial) rfl rfl hl.1 rfl (lv_room (Nat.le_of_ble_eq_true rfl)) dX0_many_6 ⟨Nat.le_of_ble_eq_true rfl, Nat.le_of_ble_eq_true rfl⟩) hP hD hS hA [] [] rfl rfl (by decide) (by decide) (fun r_1 u_2 H locs w_3 hP hD hxw_3 hzw_3 hqw_3 hS => ?_)
  obtain rfl : r_1 = bI (p_in ((nI nn).toInt64) 1 200) := w_3
  refine lv_if_eq (tgt := 24) hx hb dX0_many_9 (by decide) (fun c_4 => absurd c_4 (by rw [in_nn h1 h2]; decide)) (fun c_4 => ?_)
  refine lv_iload_n hx hb dX0_many_12 rfl (lv_at hl 2 rfl) ?_
  refine lv_i2l (v := (nI 2).toInt64) hx hb dX0_many_13 rfl ?_
  refine lv_lconst (v := 0) hx hb dX0_many_14 (by decide) ?_
  refine lv_ldc2 hx hb hown (hts _ q135) dX0_many_15 ?_
  refine k_calli (wr := []) (va_runS (As := [.long ((nI 2).toInt64), .long 0, .long 2]) (rest := []) ⟨hx, hb, hml, hown, hts⟩ (ct_X0_isIn hk l D ca H.size ((nI 2).toInt64) 0 2) (va_cwS 3 hts (lw_S q131 q132 q19 q133) rfl rfl rfl (by decide +kernel) ⟨Nat.le_of_ble_eq_true rfl, Nat.le_of_ble_eq_true rfl⟩) (k_pre hk hK hN hP hD [] (by decide) rfl trivial) rfl rfl hl.1 rfl (lv_room (Nat.le_of_ble_eq_true rfl)) dX0_many_18 ⟨Nat.le_of_ble_eq_true rfl, Nat.le_of_ble_eq_true rfl⟩) hP hD hS hA [] [] rfl rfl (by decide) (by decide) (fun r_5 u_6 H locs w_7 hP hD hxw_7 hzw_7 hqw_7 hS => ?_)
  obtain rfl : r_5 = bI (p_in ((nI 2).toInt64) 0 2) := w_7
  refine lv_if_ne (tgt := 26) hx hb dX0_many_21 (by decide) (fun c_8 => ?_) (fun c_8 => absurd c_8 (by decide))
  refine lv_iload_n hx hb dX0_many_26 rfl (lv_at hl 2 rfl) ?_
  refine lv_iconst (v := 2) hx hb dX0_many_27 (by decide) ?_
  refine lv_icmp_ge (tgt := 55) hx hb dX0_many_28 (by decide) (fun c_9 => ?_) (fun c_9 => absurd (by decide) c_9)
  refine va_new (ci := 5) (fs := [.int 0, .int 0, .int 0, .int 0, .int 0, .null]) (C := RX6) (T := TX6) (N := 6) hx hb hts in_X6 tyX6 tyX6_ok hown (hts _ q503) (hts _ q504) (hts _ q36) hK hP hD hS hA rfl (fun j hj => by rcases (show j = 0 ∨ j = 1 ∨ j = 2 ∨ j = 3 ∨ j = 4 ∨ j = 5 by omega) with rfl | rfl | rfl | rfl | rfl | rfl <;> rfl) (Nat.le_of_ble_eq_true rfl) (Nat.le_of_ble_eq_true rfl) dX0_many_55 (fun q_10 H hP hD hS => ?_)
  have hP : va_P D vwCl [(q_10, .inr (5, [.int 0, .int 0, .int 0, .int 0, .int 0, .null]))] H := hP
  have hD : va_D A [(q_10, .inr (5, [.int 0, .int 0, .int 0, .int 0, .int 0, .null]))] := hD
  refine lv_dup hx hb dX0_many_58 rfl ?_
  refine lv_iload_n hx hb dX0_many_59 rfl (lv_at hl 1 rfl) ?_
  refine lv_iconst (v := (-1)) hx hb dX0_many_60 (by decide) ?_
  refine k_callv (wr := []) (va_runI (As := [.int (nI nn), .int (-1)]) (rest := [.ref q_10]) ⟨hx, hb, hml, hown, hts⟩ (ct_X6_init l D ca H.size q_10 nn (-1) (by omega)) (cwI 2 hts (lw_meth q507) rfl rfl rfl (hts _ q36) (hts _ q505) (hts _ q506) rfl (by decide +kernel) ⟨Nat.le_of_ble_eq_true rfl, Nat.le_of_ble_eq_true rfl⟩) (k_pre hk hK hN hP hD [0] (by decide) rfl trivial) rfl rfl hl.1 rfl (lv_room (Nat.le_of_ble_eq_true rfl)) dX0_many_61 ⟨Nat.le_of_ble_eq_true rfl, Nat.le_of_ble_eq_true rfl⟩) hP hD hS hA [0] [] rfl rfl (by decide) (by decide) (fun u_12 H locs w_13 hP hD hxw_13 hzw_13 hqw_13 hS => ?_)
  have hP : va_P D vwCl [(q_10, .inr (5, [.int (nI nn), .int (nI u_12), .int 0, .int 0, .int (-1), .null]))] H := hP
  have hD : va_D A [(q_10, .inr (5, [.int (nI nn), .int (nI u_12), .int 0, .int 0, .int (-1), .null]))] := hD
  have hM28 : u_12 ≤ 28 := root_le (b := 28) w_13.1 (by omega)
  obtain ⟨hS1, hS2, hS3⟩ := S0_T h1 h2 hM28 w_13.2
  refine lv_astore_n (lv' := [(3, .ref q_10), (0, .ref xo), (1, .int (nI nn)), (2, .int (nI 2))]) hx hb dX0_many_64 rfl hl (by decide) rfl (fun ls hl => ?_)
  refine lv_aload_n hx hb dX0_many_65 rfl (lv_at hl 0 rfl) ?_
  refine lv_iconst (v := 1) hx hb dX0_many_66 (by decide) ?_
  refine k_callv (wr := []) (va_runV (As := [.int 1]) (rest := []) ⟨hx, hb, hml, hown, hts⟩ (ct_X6_go_n1 l D ca H.size q_10 nn u_12 (S0 (4 * (nn : Int)) u_12).length (alS 1 nn (S0 (4 * (nn : Int)) u_12)) (-1) (4 * (nn : Int)) h2 hM28 w_13.2 rfl hS3 (Nat.le_trans (alS_le _ _) hS3) (fun k hk9 => nI_m1 (by omega)) rfl rfl) (cwV 1 hts (lw_V q530 q531 q532 q36 q533) rfl rfl rfl (by decide +kernel) ⟨Nat.le_of_ble_eq_true rfl, Nat.le_of_ble_eq_true rfl⟩) (k_preV hk hK hN hP hD [0] (by decide) rfl trivial hP rfl (q0 := 0) rfl) rfl rfl hl.1 rfl (lv_room (Nat.le_of_ble_eq_true rfl)) dX0_many_67 ⟨Nat.le_of_ble_eq_true rfl, Nat.le_of_ble_eq_true rfl⟩) hP hD hS hA [0] [] rfl rfl (by decide) (by decide) (fun u_15 H locs w_16 hP hD hxw_16 hzw_16 hqw_16 hS => ?_)
  have hP : va_P D vwCl [(q_10, .inr (5, [.int (nI nn), .int (nI u_12), .int (nI (S0 (4 * (nn : Int)) u_12).length), .int (nI (alS 1 nn (S0 (4 * (nn : Int)) u_12))), .int (-1), .null]))] H := hP
  have hD : va_D A [(q_10, .inr (5, [.int (nI nn), .int (nI u_12), .int (nI (S0 (4 * (nn : Int)) u_12).length), .int (nI (alS 1 nn (S0 (4 * (nn : Int)) u_12))), .int (-1), .null]))] := hD
  refine lv_aload_n hx hb dX0_many_70 rfl (lv_at hl 0 rfl) ?_
  refine va_get (D := D) (ci := 5) (v := .int (nI (alS 1 nn (S0 (4 * (nn : Int)) u_12)))) (C := RX6) (T := TX6) (N := 6) hx hb hts in_X6 hown hK hP 0 rfl rfl 3 (by decide) (hts _ q513) (fun _ h9 => h9) rfl dX0_many_71 ?_
  exact k_iret u_12 hx hb hr hlocks (⟨rfl, w_13.1, w_13.2⟩) (hP.sub [] rfl) (hD.sub [] (by decide) rfl) trivial hS (Nat.le_of_ble_eq_true rfl) (Nat.le_of_ble_eq_true rfl) dX0_many_74
set_option maxHeartbeats 4000000 in
set_option maxRecDepth 100000 in
theorem ct_X0_listed_1 (l : Launch) (D : va_G) (ca : Nat → ClassId) (zH : Nat) (xo : Nat) (s0 n0 i0 : Int32) (h1 : p_in s0.toInt64 0 15 = false) : Met l yX0_listed (ws_ yX0_listed cX0_listed 5 (some .int)) ({ frames := 2, cells := 0, slots := 0, locals := 45 }) (va_Pc [.ref xo, .int s0, .int n0, .int i0] (pr_ NW D ca [] zH (fun _ => True))) (qI D (fun (r : Int32) (u : Unit) => r = -1) (fun u => []) (fun u H => True) (va_A [] zH)) 0 0 (va_A [] zH) := by
  have hk := NW_ok
  refine k_ofW (Qc := qI D (fun (r : Int32) (u : Unit) => r = -1) (fun u => []) (fun u H => True)) (by decide) (Nat.le_of_ble_eq_true rfl) ?_
  intro p e s m below meth c ls A H hH hx hb hr hts hown hlocks hnm hml hsz hP hD hK hN hA hAn hS hro hl
  have hl : lv_has ls 5 [(0, .ref xo), (1, .int s0), (2, .int n0), (3, .int i0)] := hl
  refine lv_iload_n hx hb dX0_listed_0 rfl (lv_at hl 1 rfl) ?_
  refine k_calli (wr := []) (va_runS (As := [.int s0]) (rest := []) ⟨hx, hb, hml, hown, hts⟩ (ct_X0_isRegister hk l D ca H.size s0) (va_cwS 1 hts (lw_S q313 q314 q19 q315) rfl rfl rfl (by decide +kernel) ⟨Nat.le_of_ble_eq_true rfl, Nat.le_of_ble_eq_true rfl⟩) (k_pre hk hK hN hP hD [] (by decide) rfl trivial) rfl rfl hl.1 rfl (lv_room (Nat.le_of_ble_eq_true rfl)) dX0_listed_1 ⟨Nat.le_of_ble_eq_true rfl, Nat.le_of_ble_eq_true rfl⟩) hP hD hS hA [] [] rfl rfl (by decide) (by decide) (fun r_1 u_2 H locs w_3 hP hD hxw_3 hzw_3 hqw_3 hS => ?_)
  obtain rfl : r_1 = bI (p_in s0.toInt64 0 15) := w_3
  refine lv_if_eq (tgt := 23) hx hb dX0_listed_4 (by decide) (fun c_4 => ?_) (fun c_4 => absurd (by rw [h1]; rfl) c_4)
  refine lv_iconst (v := (-1)) hx hb dX0_listed_23 (by decide) ?_
  exact k_iret () hx hb hr hlocks (rfl) hP hD trivial hS (Nat.le_of_ble_eq_true rfl) (Nat.le_of_ble_eq_true rfl) dX0_listed_24
set_option maxHeartbeats 4000000 in
set_option maxRecDepth 100000 in
theorem ct_X0_listed_2 (l : Launch) (D : va_G) (ca : Nat → ClassId) (zH : Nat) (xo js : Nat) (n0 i0 : Int32) (hjs : js < 16) (h1 : p_in n0.toInt64 1 200 = false) : Met l yX0_listed (ws_ yX0_listed cX0_listed 5 (some .int)) ({ frames := 2, cells := 0, slots := 0, locals := 45 }) (va_Pc [.ref xo, .int (nI js), .int n0, .int i0] (pr_ NW D ca [] zH (fun _ => True))) (qI D (fun (r : Int32) (u : Unit) => r = -1) (fun u => []) (fun u H => True) (va_A [] zH)) 0 0 (va_A [] zH) := by
  have hk := NW_ok
  refine k_ofW (Qc := qI D (fun (r : Int32) (u : Unit) => r = -1) (fun u => []) (fun u H => True)) (by decide) (Nat.le_of_ble_eq_true rfl) ?_
  intro p e s m below meth c ls A H hH hx hb hr hts hown hlocks hnm hml hsz hP hD hK hN hA hAn hS hro hl
  have hl : lv_has ls 5 [(0, .ref xo), (1, .int (nI js)), (2, .int n0), (3, .int i0)] := hl
  refine lv_iload_n hx hb dX0_listed_0 rfl (lv_at hl 1 rfl) ?_
  refine k_calli (wr := []) (va_runS (As := [.int (nI js)]) (rest := []) ⟨hx, hb, hml, hown, hts⟩ (ct_X0_isRegister hk l D ca H.size (nI js)) (va_cwS 1 hts (lw_S q313 q314 q19 q315) rfl rfl rfl (by decide +kernel) ⟨Nat.le_of_ble_eq_true rfl, Nat.le_of_ble_eq_true rfl⟩) (k_pre hk hK hN hP hD [] (by decide) rfl trivial) rfl rfl hl.1 rfl (lv_room (Nat.le_of_ble_eq_true rfl)) dX0_listed_1 ⟨Nat.le_of_ble_eq_true rfl, Nat.le_of_ble_eq_true rfl⟩) hP hD hS hA [] [] rfl rfl (by decide) (by decide) (fun r_1 u_2 H locs w_3 hP hD hxw_3 hzw_3 hqw_3 hS => ?_)
  obtain rfl : r_1 = bI (p_in (nI js).toInt64 0 15) := w_3
  refine lv_if_eq (tgt := 23) hx hb dX0_listed_4 (by decide) (fun c_4 => absurd c_4 (by rw [in_15 hjs]; decide)) (fun c_4 => ?_)
  refine lv_iload_n hx hb dX0_listed_7 rfl (lv_at hl 2 rfl) ?_
  refine lv_i2l (v := n0.toInt64) hx hb dX0_listed_8 rfl ?_
  refine lv_lconst (v := 1) hx hb dX0_listed_9 (by decide) ?_
  refine lv_ldc2 hx hb hown (hts _ q499) dX0_listed_10 ?_
  refine k_calli (wr := []) (va_runS (As := [.long n0.toInt64, .long 1, .long 200]) (rest := []) ⟨hx, hb, hml, hown, hts⟩ (ct_X0_isIn hk l D ca H.size n0.toInt64 1 200) (va_cwS 3 hts (lw_S q131 q132 q19 q133) rfl rfl rfl (by decide +kernel) ⟨Nat.le_of_ble_eq_true rfl, Nat.le_of_ble_eq_true rfl⟩) (k_pre hk hK hN hP hD [] (by decide) rfl trivial) rfl rfl hl.1 rfl (lv_room (Nat.le_of_ble_eq_true rfl)) dX0_listed_13 ⟨Nat.le_of_ble_eq_true rfl, Nat.le_of_ble_eq_true rfl⟩) hP hD hS hA [] [] rfl rfl (by decide) (by decide) (fun r_5 u_6 H locs w_7 hP hD hxw_7 hzw_7 hqw_7 hS => ?_)
  obtain rfl : r_5 = bI (p_in n0.toInt64 1 200) := w_7
  refine lv_if_eq (tgt := 23) hx hb dX0_listed_16 (by decide) (fun c_8 => ?_) (fun c_8 => absurd (by rw [h1]; rfl) c_8)
  refine lv_iconst (v := (-1)) hx hb dX0_listed_23 (by decide) ?_
  exact k_iret () hx hb hr hlocks (rfl) hP hD trivial hS (Nat.le_of_ble_eq_true rfl) (Nat.le_of_ble_eq_true rfl) dX0_listed_24
set_option maxHeartbeats 4000000 in
set_option maxRecDepth 100000 in
theorem ct_X0_listed_3 (l : Launch) (D : va_G) (ca : Nat → ClassId) (zH : Nat) (xo js nn : Nat) (i0 : Int32) (hjs : js < 16) (h1 : 1 ≤ nn) (h2 : nn ≤ 200) (h3 : i0 < 0) : Met l yX0_listed (ws_ yX0_listed cX0_listed 5 (some .int)) ({ frames := 2, cells := 0, slots := 0, locals := 45 }) (va_Pc [.ref xo, .int (nI js), .int (nI nn), .int i0] (pr_ NW D ca [] zH (fun _ => True))) (qI D (fun (r : Int32) (u : Unit) => r = -1) (fun u => []) (fun u H => True) (va_A [] zH)) 0 0 (va_A [] zH) := by
  have hk := NW_ok
  refine k_ofW (Qc := qI D (fun (r : Int32) (u : Unit) => r = -1) (fun u => []) (fun u H => True)) (by decide) (Nat.le_of_ble_eq_true rfl) ?_
  intro p e s m below meth c ls A H hH hx hb hr hts hown hlocks hnm hml hsz hP hD hK hN hA hAn hS hro hl
  have hl : lv_has ls 5 [(0, .ref xo), (1, .int (nI js)), (2, .int (nI nn)), (3, .int i0)] := hl
  refine lv_iload_n hx hb dX0_listed_0 rfl (lv_at hl 1 rfl) ?_
  refine k_calli (wr := []) (va_runS (As := [.int (nI js)]) (rest := []) ⟨hx, hb, hml, hown, hts⟩ (ct_X0_isRegister hk l D ca H.size (nI js)) (va_cwS 1 hts (lw_S q313 q314 q19 q315) rfl rfl rfl (by decide +kernel) ⟨Nat.le_of_ble_eq_true rfl, Nat.le_of_ble_eq_true rfl⟩) (k_pre hk hK hN hP hD [] (by decide) rfl trivial) rfl rfl hl.1 rfl (lv_room (Nat.le_of_ble_eq_true rfl)) dX0_listed_1 ⟨Nat.le_of_ble_eq_true rfl, Nat.le_of_ble_eq_true rfl⟩) hP hD hS hA [] [] rfl rfl (by decide) (by decide) (fun r_1 u_2 H locs w_3 hP hD hxw_3 hzw_3 hqw_3 hS => ?_)
  obtain rfl : r_1 = bI (p_in (nI js).toInt64 0 15) := w_3
  refine lv_if_eq (tgt := 23) hx hb dX0_listed_4 (by decide) (fun c_4 => absurd c_4 (by rw [in_15 hjs]; decide)) (fun c_4 => ?_)
  refine lv_iload_n hx hb dX0_listed_7 rfl (lv_at hl 2 rfl) ?_
  refine lv_i2l (v := (nI nn).toInt64) hx hb dX0_listed_8 rfl ?_
  refine lv_lconst (v := 1) hx hb dX0_listed_9 (by decide) ?_
  refine lv_ldc2 hx hb hown (hts _ q499) dX0_listed_10 ?_
  refine k_calli (wr := []) (va_runS (As := [.long ((nI nn).toInt64), .long 1, .long 200]) (rest := []) ⟨hx, hb, hml, hown, hts⟩ (ct_X0_isIn hk l D ca H.size ((nI nn).toInt64) 1 200) (va_cwS 3 hts (lw_S q131 q132 q19 q133) rfl rfl rfl (by decide +kernel) ⟨Nat.le_of_ble_eq_true rfl, Nat.le_of_ble_eq_true rfl⟩) (k_pre hk hK hN hP hD [] (by decide) rfl trivial) rfl rfl hl.1 rfl (lv_room (Nat.le_of_ble_eq_true rfl)) dX0_listed_13 ⟨Nat.le_of_ble_eq_true rfl, Nat.le_of_ble_eq_true rfl⟩) hP hD hS hA [] [] rfl rfl (by decide) (by decide) (fun r_5 u_6 H locs w_7 hP hD hxw_7 hzw_7 hqw_7 hS => ?_)
  obtain rfl : r_5 = bI (p_in ((nI nn).toInt64) 1 200) := w_7
  refine lv_if_eq (tgt := 23) hx hb dX0_listed_16 (by decide) (fun c_8 => absurd c_8 (by rw [in_nn h1 h2]; decide)) (fun c_8 => ?_)
  refine lv_iload_n hx hb dX0_listed_19 rfl (lv_at hl 3 rfl) ?_
  refine lv_if_ge (tgt := 25) hx hb dX0_listed_20 (by decide) (fun c_9 => absurd c_9 (Int32.not_le.mpr h3)) (fun c_9 => ?_)
  refine lv_iconst (v := (-1)) hx hb dX0_listed_23 (by decide) ?_
  exact k_iret () hx hb hr hlocks (rfl) hP hD trivial hS (Nat.le_of_ble_eq_true rfl) (Nat.le_of_ble_eq_true rfl) dX0_listed_24
set_option maxHeartbeats 4000000 in
set_option maxRecDepth 100000 in
theorem ct_X0_listed_n (l : Launch) (D : va_G) (ca : Nat → ClassId) (zH : Nat) (xo js nn ww : Nat) (hjs : js < 16) (h1 : 1 ≤ nn) (h2 : nn ≤ 200) (hww : ww < 2 ^ 31) (h3 : 24 * dvS nn 2 nn ≤ ww) : Met l yX0_listed (ws_ yX0_listed cX0_listed 5 (some .int)) ({ frames := 4, cells := 1, slots := 6, locals := 111 }) (va_Pc [.ref xo, .int (nI js), .int (nI nn), .int (nI ww)] (pr_ NW D ca [] zH (fun _ => True))) (qI D (fun (r : Int32) (u : Unit) => r = -4) (fun u => []) (fun u H => True) (va_A [] zH)) 1 6 (va_A [] zH) := by
  have hk := NW_ok
  refine k_ofW (Qc := qI D (fun (r : Int32) (u : Unit) => r = -4) (fun u => []) (fun u H => True)) (by decide) (Nat.le_of_ble_eq_true rfl) ?_
  intro p e s m below meth c ls A H hH hx hb hr hts hown hlocks hnm hml hsz hP hD hK hN hA hAn hS hro hl
  have hl : lv_has ls 5 [(0, .ref xo), (1, .int (nI js)), (2, .int (nI nn)), (3, .int (nI ww))] := hl
  refine lv_iload_n hx hb dX0_listed_0 rfl (lv_at hl 1 rfl) ?_
  refine k_calli (wr := []) (va_runS (As := [.int (nI js)]) (rest := []) ⟨hx, hb, hml, hown, hts⟩ (ct_X0_isRegister hk l D ca H.size (nI js)) (va_cwS 1 hts (lw_S q313 q314 q19 q315) rfl rfl rfl (by decide +kernel) ⟨Nat.le_of_ble_eq_true rfl, Nat.le_of_ble_eq_true rfl⟩) (k_pre hk hK hN hP hD [] (by decide) rfl trivial) rfl rfl hl.1 rfl (lv_room (Nat.le_of_ble_eq_true rfl)) dX0_listed_1 ⟨Nat.le_of_ble_eq_true rfl, Nat.le_of_ble_eq_true rfl⟩) hP hD hS hA [] [] rfl rfl (by decide) (by decide) (fun r_1 u_2 H locs w_3 hP hD hxw_3 hzw_3 hqw_3 hS => ?_)
  obtain rfl : r_1 = bI (p_in (nI js).toInt64 0 15) := w_3
  refine lv_if_eq (tgt := 23) hx hb dX0_listed_4 (by decide) (fun c_4 => absurd c_4 (by rw [in_15 hjs]; decide)) (fun c_4 => ?_)
  refine lv_iload_n hx hb dX0_listed_7 rfl (lv_at hl 2 rfl) ?_
  refine lv_i2l (v := (nI nn).toInt64) hx hb dX0_listed_8 rfl ?_
  refine lv_lconst (v := 1) hx hb dX0_listed_9 (by decide) ?_
  refine lv_ldc2 hx hb hown (hts _ q499) dX0_listed_10 ?_
  refine k_calli (wr := []) (va_runS (As := [.long ((nI nn).toInt64), .long 1, .long 200]) (rest := []) ⟨hx, hb, hml, hown, hts⟩ (ct_X0_isIn hk l D ca H.size ((nI nn).toInt64) 1 200) (va_cwS 3 hts (lw_S q131 q132 q19 q133) rfl rfl rfl (by decide +kernel) ⟨Nat.le_of_ble_eq_true rfl, Nat.le_of_ble_eq_true rfl⟩) (k_pre hk hK hN hP hD [] (by decide) rfl trivial) rfl rfl hl.1 rfl (lv_room (Nat.le_of_ble_eq_true rfl)) dX0_listed_13 ⟨Nat.le_of_ble_eq_true rfl, Nat.le_of_ble_eq_true rfl⟩) hP hD hS hA [] [] rfl rfl (by decide) (by decide) (fun r_5 u_6 H locs w_7 hP hD hxw_7 hzw_7 hqw_7 hS => ?_)
  obtain rfl : r_5 = bI (p_in ((nI nn).toInt64) 1 200) := w_7
  refine lv_if_eq (tgt := 23) hx hb dX0_listed_16 (by decide) (fun c_8 => absurd c_8 (by rw [in_nn h1 h2]; decide)) (fun c_8 => ?_)
  refine lv_iload_n hx hb dX0_listed_19 rfl (lv_at hl 3 rfl) ?_
  refine lv_if_ge (tgt := 25) hx hb dX0_listed_20 (by decide) (fun c_9 => ?_) (fun c_9 => absurd ((le_n (a := 0) (b := ww) rfl rfl (by decide) hww).mpr (Nat.zero_le ww)) c_9)
  refine va_new (ci := 5) (fs := [.int 0, .int 0, .int 0, .int 0, .int 0, .null]) (C := RX6) (T := TX6) (N := 6) hx hb hts in_X6 tyX6 tyX6_ok hown (hts _ q503) (hts _ q504) (hts _ q36) hK hP hD hS hA rfl (fun j hj => by rcases (show j = 0 ∨ j = 1 ∨ j = 2 ∨ j = 3 ∨ j = 4 ∨ j = 5 by omega) with rfl | rfl | rfl | rfl | rfl | rfl <;> rfl) (Nat.le_of_ble_eq_true rfl) (Nat.le_of_ble_eq_true rfl) dX0_listed_25 (fun q_10 H hP hD hS => ?_)
  have hP : va_P D vwCl [(q_10, .inr (5, [.int 0, .int 0, .int 0, .int 0, .int 0, .null]))] H := hP
  have hD : va_D A [(q_10, .inr (5, [.int 0, .int 0, .int 0, .int 0, .int 0, .null]))] := hD
  refine lv_dup hx hb dX0_listed_28 rfl ?_
  refine lv_iload_n hx hb dX0_listed_29 rfl (lv_at hl 2 rfl) ?_
  refine lv_iload_n hx hb dX0_listed_30 rfl (lv_at hl 3 rfl) ?_
  refine k_callv (wr := []) (va_runI (As := [.int (nI nn), .int (nI ww)]) (rest := [.ref q_10]) ⟨hx, hb, hml, hown, hts⟩ (ct_X6_init l D ca H.size q_10 nn (nI ww) (by omega)) (cwI 2 hts (lw_meth q507) rfl rfl rfl (hts _ q36) (hts _ q505) (hts _ q506) rfl (by decide +kernel) ⟨Nat.le_of_ble_eq_true rfl, Nat.le_of_ble_eq_true rfl⟩) (k_pre hk hK hN hP hD [0] (by decide) rfl trivial) rfl rfl hl.1 rfl (lv_room (Nat.le_of_ble_eq_true rfl)) dX0_listed_31 ⟨Nat.le_of_ble_eq_true rfl, Nat.le_of_ble_eq_true rfl⟩) hP hD hS hA [0] [] rfl rfl (by decide) (by decide) (fun u_12 H locs w_13 hP hD hxw_13 hzw_13 hqw_13 hS => ?_)
  have hP : va_P D vwCl [(q_10, .inr (5, [.int (nI nn), .int (nI u_12), .int 0, .int 0, .int (nI ww), .null]))] H := hP
  have hD : va_D A [(q_10, .inr (5, [.int (nI nn), .int (nI u_12), .int 0, .int 0, .int (nI ww), .null]))] := hD
  have hM28 : u_12 ≤ 28 := root_le (b := 28) w_13.1 (by omega)
  obtain ⟨hS1, hS2, hS3⟩ := S0_T h1 h2 hM28 w_13.2
  refine lv_astore (lv' := [(4, .ref q_10), (0, .ref xo), (1, .int (nI js)), (2, .int (nI nn)), (3, .int (nI ww))]) hx hb dX0_listed_34 hl (by decide) rfl (fun ls hl => ?_)
  refine lv_aload hx hb dX0_listed_36 (lv_at hl 0 rfl) ?_
  refine lv_iconst (v := 0) hx hb dX0_listed_38 (by decide) ?_
  refine k_callv (wr := []) (va_runV (As := [.int 0]) (rest := []) ⟨hx, hb, hml, hown, hts⟩ (ct_X6_go_n0 l D ca H.size q_10 nn u_12 (S0 (4 * (nn : Int)) u_12).length (alS 0 nn (S0 (4 * (nn : Int)) u_12)) (nI ww) (4 * (nn : Int)) h2 hM28 w_13.2 rfl hS3 (by rw [alS_0]; decide) (fun k hk9 z => absurd (eq_y (a := k) (b := ww) rfl rfl (by omega) hww z) (by omega)) rfl rfl) (cwV 1 hts (lw_V q530 q531 q532 q36 q533) rfl rfl rfl (by decide +kernel) ⟨Nat.le_of_ble_eq_true rfl, Nat.le_of_ble_eq_true rfl⟩) (k_preV hk hK hN hP hD [0] (by decide) rfl trivial hP rfl (q0 := 0) rfl) rfl rfl hl.1 rfl (lv_room (Nat.le_of_ble_eq_true rfl)) dX0_listed_39 ⟨Nat.le_of_ble_eq_true rfl, Nat.le_of_ble_eq_true rfl⟩) hP hD hS hA [0] [] rfl rfl (by decide) (by decide) (fun u_15 H locs w_16 hP hD hxw_16 hzw_16 hqw_16 hS => ?_)
  have hP : va_P D vwCl [(q_10, .inr (5, [.int (nI nn), .int (nI u_12), .int (nI (S0 (4 * (nn : Int)) u_12).length), .int (nI (alS 0 nn (S0 (4 * (nn : Int)) u_12))), .int (nI ww), .null]))] H := hP
  have hD : va_D A [(q_10, .inr (5, [.int (nI nn), .int (nI u_12), .int (nI (S0 (4 * (nn : Int)) u_12).length), .int (nI (alS 0 nn (S0 (4 * (nn : Int)) u_12))), .int (nI ww), .null]))] := hD
  refine lv_aload hx hb dX0_listed_42 (lv_at hl 0 rfl) ?_
  refine va_get (D := D) (ci := 5) (v := .null) (C := RX6) (T := TX6) (N := 6) hx hb hts in_X6 hown hK hP 0 rfl rfl 5 (by decide) (hts _ q516) (fun _ h9 => h9) rfl dX0_listed_44 ?_
  refine lv_ifnonnullN hx hb dX0_listed_47 ?_
  refine lv_bipush (v := (-4)) hx hb dX0_listed_50 (by decide) ?_
  exact k_iret () hx hb hr hlocks (rfl) (hP.sub [] rfl) (hD.sub [] (by decide) rfl) trivial hS (Nat.le_of_ble_eq_true rfl) (Nat.le_of_ble_eq_true rfl) dX0_listed_52
set_option maxHeartbeats 4000000 in
set_option maxRecDepth 100000 in
theorem ct_X0_listed_y (l : Launch) (D : va_G) (ca : Nat → ClassId) (zH : Nat) (xo xs xu xd xr xf : Nat) (ra : Nat → Nat) (g : AI) (js nn ww : Nat) (hjs : js < 16) (h1 : 1 ≤ nn) (h2 : nn ≤ 200) (h3 : ww < 24 * dvS nn 2 nn) : Met l yX0_listed (ws_ yX0_listed cX0_listed 5 (some .int)) ({ frames := 5, cells := 2, slots := 10, locals := 124 }) (va_Pc [.ref xo, .int (nI js), .int (nI nn), .int (nI ww)] (pr_ NW D ca [(xo, oX xs xu xd xr xf), (xr, rA ca 4 16 (fun i => some (ra i)))] zH (fun H => Rg D H ra g))) (qI D (fun (r : Int32) (u : (Nat → Nat) × AI × Nat) => r = 1 ∧ u.2.1 = wq g js (qz ((S0 (4 * (nn : Int)) u.2.2).getD ww (0, 0, 0, 0))) ∧ u.2.2 * u.2.2 ≤ 4 * nn ∧ 4 * nn < (u.2.2 + 1) * (u.2.2 + 1)) (fun u => [(xo, oX xs xu xd xr xf), (xr, rA ca 4 16 (fun i => some (u.1 i)))]) (fun u H => Rg D H u.1 u.2.1) (va_A [(xo, oX xs xu xd xr xf), (xr, rA ca 4 16 (fun i => some (ra i)))] zH)) 2 10 (va_A [(xo, oX xs xu xd xr xf), (xr, rA ca 4 16 (fun i => some (ra i)))] zH) := by
  have hk := NW_ok
  refine k_ofW (Qc := qI D (fun (r : Int32) (u : (Nat → Nat) × AI × Nat) => r = 1 ∧ u.2.1 = wq g js (qz ((S0 (4 * (nn : Int)) u.2.2).getD ww (0, 0, 0, 0))) ∧ u.2.2 * u.2.2 ≤ 4 * nn ∧ 4 * nn < (u.2.2 + 1) * (u.2.2 + 1)) (fun u => [(xo, oX xs xu xd xr xf), (xr, rA ca 4 16 (fun i => some (u.1 i)))]) (fun u H => Rg D H u.1 u.2.1)) (by decide) (Nat.le_of_ble_eq_true rfl) ?_
  intro p e s m below meth c ls A H hH hx hb hr hts hown hlocks hnm hml hsz hP hD hK hN hA hAn hS hro hl
  have hl : lv_has ls 5 [(0, .ref xo), (1, .int (nI js)), (2, .int (nI nn)), (3, .int (nI ww))] := hl
  have hdv := dvS_le nn 2 nn
  have hnn2 := Nat.mul_le_mul h2 h2
  have hww : ww < 2 ^ 31 := by omega
  have hOF := k_outF hK (hH ▸ hP) (okc (oko 0 (by decide)) (okc (oka 4 (by decide)) (okn))) hAn
  have hOS := k_outS hK (hH ▸ hP) (okc (oko 0 (by decide)) (okc (oka 4 (by decide)) (okn))) hAn
  have hRg := hro
  refine lv_iload_n hx hb dX0_listed_0 rfl (lv_at hl 1 rfl) ?_
  refine k_calli (wr := [(xo, oX xs xu xd xr xf), (xr, rA ca 4 16 (fun i => some (ra i)))]) (va_runS (As := [.int (nI js)]) (rest := []) ⟨hx, hb, hml, hown, hts⟩ (ct_X0_isRegister hk l D ca H.size (nI js)) (va_cwS 1 hts (lw_S q313 q314 q19 q315) rfl rfl rfl (by decide +kernel) ⟨Nat.le_of_ble_eq_true rfl, Nat.le_of_ble_eq_true rfl⟩) (k_pre hk hK hN hP hD [] (by decide) rfl trivial) rfl rfl hl.1 rfl (lv_room (Nat.le_of_ble_eq_true rfl)) dX0_listed_1 ⟨Nat.le_of_ble_eq_true rfl, Nat.le_of_ble_eq_true rfl⟩) hP hD hS hA [] [0, 1] rfl rfl (by decide) (by decide) (fun r_1 u_2 H locs w_3 hP hD hxw_3 hzw_3 hqw_3 hS => ?_)
  obtain rfl : r_1 = bI (p_in (nI js).toInt64 0 15) := w_3
  refine lv_if_eq (tgt := 23) hx hb dX0_listed_4 (by decide) (fun c_4 => absurd c_4 (by rw [in_15 hjs]; decide)) (fun c_4 => ?_)
  refine lv_iload_n hx hb dX0_listed_7 rfl (lv_at hl 2 rfl) ?_
  refine lv_i2l (v := (nI nn).toInt64) hx hb dX0_listed_8 rfl ?_
  refine lv_lconst (v := 1) hx hb dX0_listed_9 (by decide) ?_
  refine lv_ldc2 hx hb hown (hts _ q499) dX0_listed_10 ?_
  refine k_calli (wr := [(xo, oX xs xu xd xr xf), (xr, rA ca 4 16 (fun i => some (ra i)))]) (va_runS (As := [.long ((nI nn).toInt64), .long 1, .long 200]) (rest := []) ⟨hx, hb, hml, hown, hts⟩ (ct_X0_isIn hk l D ca H.size ((nI nn).toInt64) 1 200) (va_cwS 3 hts (lw_S q131 q132 q19 q133) rfl rfl rfl (by decide +kernel) ⟨Nat.le_of_ble_eq_true rfl, Nat.le_of_ble_eq_true rfl⟩) (k_pre hk hK hN hP hD [] (by decide) rfl trivial) rfl rfl hl.1 rfl (lv_room (Nat.le_of_ble_eq_true rfl)) dX0_listed_13 ⟨Nat.le_of_ble_eq_true rfl, Nat.le_of_ble_eq_true rfl⟩) hP hD hS hA [] [0, 1] rfl rfl (by decide) (by decide) (fun r_5 u_6 H locs w_7 hP hD hxw_7 hzw_7 hqw_7 hS => ?_)
  obtain rfl : r_5 = bI (p_in ((nI nn).toInt64) 1 200) := w_7
  refine lv_if_eq (tgt := 23) hx hb dX0_listed_16 (by decide) (fun c_8 => absurd c_8 (by rw [in_nn h1 h2]; decide)) (fun c_8 => ?_)
  refine lv_iload_n hx hb dX0_listed_19 rfl (lv_at hl 3 rfl) ?_
  refine lv_if_ge (tgt := 25) hx hb dX0_listed_20 (by decide) (fun c_9 => ?_) (fun c_9 => absurd ((le_n (a := 0) (b := ww) rfl rfl (by decide) hww).mpr (Nat.zero_le ww)) c_9)
  refine va_new (ci := 5) (fs := [.int 0, .int 0, .int 0, .int 0, .int 0, .null]) (C := RX6) (T := TX6) (N := 6) hx hb hts in_X6 tyX6 tyX6_ok hown (hts _ q503) (hts _ q504) (hts _ q36) hK hP hD hS hA rfl (fun j hj => by rcases (show j = 0 ∨ j = 1 ∨ j = 2 ∨ j = 3 ∨ j = 4 ∨ j = 5 by omega) with rfl | rfl | rfl | rfl | rfl | rfl <;> rfl) (Nat.le_of_ble_eq_true rfl) (Nat.le_of_ble_eq_true rfl) dX0_listed_25 (fun q_10 H hP hD hS => ?_)
  have hP : va_P D vwCl [(xo, oX xs xu xd xr xf), (xr, rA ca 4 16 (fun i => some (ra i))), (q_10, .inr (5, [.int 0, .int 0, .int 0, .int 0, .int 0, .null]))] H := hP
  have hD : va_D A [(xo, oX xs xu xd xr xf), (xr, rA ca 4 16 (fun i => some (ra i))), (q_10, .inr (5, [.int 0, .int 0, .int 0, .int 0, .int 0, .null]))] := hD
  refine lv_dup hx hb dX0_listed_28 rfl ?_
  refine lv_iload_n hx hb dX0_listed_29 rfl (lv_at hl 2 rfl) ?_
  refine lv_iload_n hx hb dX0_listed_30 rfl (lv_at hl 3 rfl) ?_
  refine k_callv (wr := [(xo, oX xs xu xd xr xf), (xr, rA ca 4 16 (fun i => some (ra i)))]) (va_runI (As := [.int (nI nn), .int (nI ww)]) (rest := [.ref q_10]) ⟨hx, hb, hml, hown, hts⟩ (ct_X6_init l D ca H.size q_10 nn (nI ww) (by omega)) (cwI 2 hts (lw_meth q507) rfl rfl rfl (hts _ q36) (hts _ q505) (hts _ q506) rfl (by decide +kernel) ⟨Nat.le_of_ble_eq_true rfl, Nat.le_of_ble_eq_true rfl⟩) (k_pre hk hK hN hP hD [2] (by decide) rfl trivial) rfl rfl hl.1 rfl (lv_room (Nat.le_of_ble_eq_true rfl)) dX0_listed_31 ⟨Nat.le_of_ble_eq_true rfl, Nat.le_of_ble_eq_true rfl⟩) hP hD hS hA [2] [0, 1] rfl rfl (by decide) (by decide) (fun u_12 H locs w_13 hP hD hxw_13 hzw_13 hqw_13 hS => ?_)
  have hP : va_P D vwCl [(xo, oX xs xu xd xr xf), (xr, rA ca 4 16 (fun i => some (ra i))), (q_10, .inr (5, [.int (nI nn), .int (nI u_12), .int 0, .int 0, .int (nI ww), .null]))] H := hP
  have hD : va_D A [(xo, oX xs xu xd xr xf), (xr, rA ca 4 16 (fun i => some (ra i))), (q_10, .inr (5, [.int (nI nn), .int (nI u_12), .int 0, .int 0, .int (nI ww), .null]))] := hD
  have hM28 : u_12 ≤ 28 := root_le (b := 28) w_13.1 (by omega)
  obtain ⟨hS1, hS2, hS3⟩ := S0_T h1 h2 hM28 w_13.2
  refine lv_astore (lv' := [(4, .ref q_10), (0, .ref xo), (1, .int (nI js)), (2, .int (nI nn)), (3, .int (nI ww))]) hx hb dX0_listed_34 hl (by decide) rfl (fun ls hl => ?_)
  refine lv_aload hx hb dX0_listed_36 (lv_at hl 0 rfl) ?_
  refine lv_iconst (v := 0) hx hb dX0_listed_38 (by decide) ?_
  refine k_callv (wr := [(xo, oX xs xu xd xr xf), (xr, rA ca 4 16 (fun i => some (ra i)))]) (va_runV (As := [.int 0]) (rest := []) ⟨hx, hb, hml, hown, hts⟩ (ct_X6_go_y l D ca H.size q_10 nn u_12 (S0 (4 * (nn : Int)) u_12).length ww (4 * (nn : Int)) ((S0 (4 * (nn : Int)) u_12).getD ww (0, 0, 0, 0)) h2 hM28 w_13.2 rfl hS3 (by omega) rfl rfl) (cwV 1 hts (lw_V q530 q531 q532 q36 q533) rfl rfl rfl (by decide +kernel) ⟨Nat.le_of_ble_eq_true rfl, Nat.le_of_ble_eq_true rfl⟩) (k_preV hk hK hN hP hD [2] (by decide) rfl trivial hP rfl (q0 := 2) rfl) rfl rfl hl.1 rfl (lv_room (Nat.le_of_ble_eq_true rfl)) dX0_listed_39 ⟨Nat.le_of_ble_eq_true rfl, Nat.le_of_ble_eq_true rfl⟩) hP hD hS hA [2] [0, 1] rfl rfl (by decide) (by decide) (fun u_15 H locs w_16 hP hD hxw_16 hzw_16 hqw_16 hS => ?_)
  have hP : va_P D vwCl [(xo, oX xs xu xd xr xf), (xr, rA ca 4 16 (fun i => some (ra i))), (q_10, .inr (5, [.int (nI nn), .int (nI u_12), .int (nI (ww + 1)), .int 0, .int (nI ww), .ref u_15])), (u_15, f4 (qz ((S0 (4 * (nn : Int)) u_12).getD ww (0, 0, 0, 0))))] H := hP
  have hD : va_D A [(xo, oX xs xu xd xr xf), (xr, rA ca 4 16 (fun i => some (ra i))), (q_10, .inr (5, [.int (nI nn), .int (nI u_12), .int (nI (ww + 1)), .int 0, .int (nI ww), .ref u_15])), (u_15, f4 (qz ((S0 (4 * (nn : Int)) u_12).getD ww (0, 0, 0, 0))))] := hD
  refine lv_aload hx hb dX0_listed_42 (lv_at hl 0 rfl) ?_
  refine va_get (D := D) (ci := 5) (v := .ref u_15) (C := RX6) (T := TX6) (N := 6) hx hb hts in_X6 hown hK hP 2 rfl rfl 5 (by decide) (hts _ q516) (fun _ h9 => h9) rfl dX0_listed_44 ?_
  refine lv_ifnonnull (tgt := 53) hx hb dX0_listed_47 (by decide) ?_
  refine lv_aload_n hx hb dX0_listed_53 rfl (lv_at hl 1 rfl) ?_
  refine va_get (D := D) (ci := 0) (v := .ref xr) (C := RX0) (T := TX0) (N := 5) hx hb hts in_X0 hown hK hP 0 rfl rfl 3 (by decide) (hts _ q296) (fun _ h9 => h9) rfl dX0_listed_54 ?_
  refine lv_iload_n hx hb dX0_listed_57 rfl (lv_at hl 2 rfl) ?_
  refine lv_aload hx hb dX0_listed_58 (lv_at hl 0 rfl) ?_
  refine va_get (D := D) (ci := 5) (v := .ref u_15) (C := RX6) (T := TX6) (N := 6) hx hb hts in_X6 hown hK hP 2 rfl rfl 5 (by decide) (hts _ q516) (fun _ h9 => h9) rfl dX0_listed_60 ?_
  refine va_astqM hx hb hK hP hD hS 1 4 rfl rfl (any_fo hK (Fo.of hP 3 rfl)) (vin_nI (a := js) rfl (by omega) (by omega)) dX0_listed_63 (fun H locs hP hD hS => ?_)
  rw [nI_clamp (show js < 2 ^ 31 by omega), up_some] at hP hD
  have hP : va_P D vwCl [(xo, oX xs xu xd xr xf), (xr, rA ca 4 16 (fun i => some ((va_up ra js u_15) i))), (q_10, .inr (5, [.int (nI nn), .int (nI u_12), .int (nI (ww + 1)), .int 0, .int (nI ww), .ref u_15])), (u_15, f4 (qz ((S0 (4 * (nn : Int)) u_12).getD ww (0, 0, 0, 0))))] H := hP
  have hD : va_D A [(xo, oX xs xu xd xr xf), (xr, rA ca 4 16 (fun i => some ((va_up ra js u_15) i))), (q_10, .inr (5, [.int (nI nn), .int (nI u_12), .int (nI (ww + 1)), .int 0, .int (nI ww), .ref u_15])), (u_15, f4 (qz ((S0 (4 * (nn : Int)) u_12).getD ww (0, 0, 0, 0))))] := hD
  refine lv_iconst (v := 1) hx hb dX0_listed_64 (by decide) ?_
  exact k_iret (va_up ra js u_15, wq g js (qz ((S0 (4 * (nn : Int)) u_12).getD ww (0, 0, 0, 0))), u_12) hx hb hr hlocks (⟨rfl, rfl, w_13.1, w_13.2⟩) (hP.sub [0, 1] rfl) (hD.sub [0, 1] (by decide) rfl) (by show Rg D H (va_up ra js u_15) (wq g js (qz ((S0 (4 * (nn : Int)) u_12).getD ww (0, 0, 0, 0)))); exact Rg.set (hRg.keep hS hOF) (Fo.of hP 3 rfl) (qz_low hM28 (getD_mem (by omega)))) hS (Nat.le_of_ble_eq_true rfl) (Nat.le_of_ble_eq_true rfl) dX0_listed_65
