/-! COMPONENT: numbers -/
def q_nz (v : Q4) : Bool := decide (q_sq v = 0)
set_option maxHeartbeats 4000000 in
set_option maxRecDepth 100000 in
theorem ct_X7_square (l : Launch) (D : va_G) (ca : Nat → ClassId) (zH : Nat) (h0 : Nat) (v : Q4)  : MetN l yX7_square cX7_square 1 (some .long) (ws_ yX7_square cX7_square 1 (some .long)) ({ frames := 1, cells := 0, slots := 0, locals := 21 }) (va_Pc [.ref h0] (pr_ NW D ca [] zH (fun H => Fo D H h0 v))) (qL D (fun (r : Int64) (u : Unit) => r = q_sq v) (fun u => []) (fun u H => True) (va_A [] zH)) 0 0 (va_A [] zH) := by
  have hk := NW_ok
  refine k_ofN (Qc := qL D (fun (r : Int64) (u : Unit) => r = q_sq v) (fun u => []) (fun u H => True)) (Nat.le_of_ble_eq_true rfl) ?_
  intro p e s m below meth c ls A H hH hx hb hr hts hown hlocks hnm hml hsz hP hD hK hN hA hAn hS hro hl
  have hl : lv_has ls 1 [(0, .ref h0)] := hl
  have hF0 := hro
  have nF0 := k_new hAn hF0.lt
  refine lv_aload_n hx hb dX7_square_0 rfl (lv_at hl 0 rfl) ?_
  refine lv_iconst (v := 0) hx hb dX7_square_1 (by decide) ?_
  refine k_callFl (wr := []) (va_runF (hK.1 1 _ rfl).2 (As := [.int 0]) (rest := []) ⟨hx, hb, hml, hown, hts⟩ (ct_X1_part hk l D ca H.size h0 0 v) (va_cwF 1 hts (lw_app (fun w hw => by simp only [List.mem_cons, List.not_mem_nil, or_false] at hw; rcases hw with e | e | e | e <;> rw [e] <;> first | exact q256 | exact q260 | exact q262 | exact q20) (lw_meth q264)) rfl rfl rfl hN.2.2.2.2.2.2.1 (by decide +kernel) ⟨Nat.le_of_ble_eq_true rfl, Nat.le_of_ble_eq_true rfl⟩) (k_preV hk hK hN hP hD [] (by decide) rfl (hF0.keep hS nF0) (hF0.keep hS nF0) rfl (q0 := 0) rfl) rfl rfl hl.1 rfl (lv_room (Nat.le_of_ble_eq_true rfl)) dX7_square_2 ⟨Nat.le_of_ble_eq_true rfl, Nat.le_of_ble_eq_true rfl⟩) hP hD hS hA [] [] rfl rfl (by decide) (by decide) (fun r_1 u_2 H locs w_3 hP hD hxw_3 hzw_3 hqw_3 hS => ?_)
  obtain rfl : r_1 = q_part v 0 := w_3
  refine lv_aload_n hx hb dX7_square_7 rfl (lv_at hl 0 rfl) ?_
  refine lv_iconst (v := 0) hx hb dX7_square_8 (by decide) ?_
  refine k_callFl (wr := []) (va_runF (hK.1 1 _ rfl).2 (As := [.int 0]) (rest := [.long (q_part v 0)]) ⟨hx, hb, hml, hown, hts⟩ (ct_X1_part hk l D ca H.size h0 0 v) (va_cwF 1 hts (lw_app (fun w hw => by simp only [List.mem_cons, List.not_mem_nil, or_false] at hw; rcases hw with e | e | e | e <;> rw [e] <;> first | exact q256 | exact q260 | exact q262 | exact q20) (lw_meth q264)) rfl rfl rfl hN.2.2.2.2.2.2.1 (by decide +kernel) ⟨Nat.le_of_ble_eq_true rfl, Nat.le_of_ble_eq_true rfl⟩) (k_preV hk hK hN hP hD [] (by decide) rfl (hF0.keep hS nF0) (hF0.keep hS nF0) rfl (q0 := 0) rfl) rfl rfl hl.1 rfl (lv_room (Nat.le_of_ble_eq_true rfl)) dX7_square_9 ⟨Nat.le_of_ble_eq_true rfl, Nat.le_of_ble_eq_true rfl⟩) hP hD hS hA [] [] rfl rfl (by decide) (by decide) (fun r_4 u_5 H locs w_6 hP hD hxw_6 hzw_6 hqw_6 hS => ?_)
  obtain rfl : r_4 = q_part v 0 := w_6
  refine lv_lmul hx hb dX7_square_14 ?_
  refine lv_aload_n hx hb dX7_square_15 rfl (lv_at hl 0 rfl) ?_
  refine lv_iconst (v := 1) hx hb dX7_square_16 (by decide) ?_
  refine k_callFl (wr := []) (va_runF (hK.1 1 _ rfl).2 (As := [.int 1]) (rest := [.long ((q_part v 0) * (q_part v 0))]) ⟨hx, hb, hml, hown, hts⟩ (ct_X1_part hk l D ca H.size h0 1 v) (va_cwF 1 hts (lw_app (fun w hw => by simp only [List.mem_cons, List.not_mem_nil, or_false] at hw; rcases hw with e | e | e | e <;> rw [e] <;> first | exact q256 | exact q260 | exact q262 | exact q20) (lw_meth q264)) rfl rfl rfl hN.2.2.2.2.2.2.1 (by decide +kernel) ⟨Nat.le_of_ble_eq_true rfl, Nat.le_of_ble_eq_true rfl⟩) (k_preV hk hK hN hP hD [] (by decide) rfl (hF0.keep hS nF0) (hF0.keep hS nF0) rfl (q0 := 0) rfl) rfl rfl hl.1 rfl (lv_room (Nat.le_of_ble_eq_true rfl)) dX7_square_17 ⟨Nat.le_of_ble_eq_true rfl, Nat.le_of_ble_eq_true rfl⟩) hP hD hS hA [] [] rfl rfl (by decide) (by decide) (fun r_7 u_8 H locs w_9 hP hD hxw_9 hzw_9 hqw_9 hS => ?_)
  obtain rfl : r_7 = q_part v 1 := w_9
  refine lv_aload_n hx hb dX7_square_22 rfl (lv_at hl 0 rfl) ?_
  refine lv_iconst (v := 1) hx hb dX7_square_23 (by decide) ?_
  refine k_callFl (wr := []) (va_runF (hK.1 1 _ rfl).2 (As := [.int 1]) (rest := [.long (q_part v 1), .long ((q_part v 0) * (q_part v 0))]) ⟨hx, hb, hml, hown, hts⟩ (ct_X1_part hk l D ca H.size h0 1 v) (va_cwF 1 hts (lw_app (fun w hw => by simp only [List.mem_cons, List.not_mem_nil, or_false] at hw; rcases hw with e | e | e | e <;> rw [e] <;> first | exact q256 | exact q260 | exact q262 | exact q20) (lw_meth q264)) rfl rfl rfl hN.2.2.2.2.2.2.1 (by decide +kernel) ⟨Nat.le_of_ble_eq_true rfl, Nat.le_of_ble_eq_true rfl⟩) (k_preV hk hK hN hP hD [] (by decide) rfl (hF0.keep hS nF0) (hF0.keep hS nF0) rfl (q0 := 0) rfl) rfl rfl hl.1 rfl (lv_room (Nat.le_of_ble_eq_true rfl)) dX7_square_24 ⟨Nat.le_of_ble_eq_true rfl, Nat.le_of_ble_eq_true rfl⟩) hP hD hS hA [] [] rfl rfl (by decide) (by decide) (fun r_10 u_11 H locs w_12 hP hD hxw_12 hzw_12 hqw_12 hS => ?_)
  obtain rfl : r_10 = q_part v 1 := w_12
  refine lv_lmul hx hb dX7_square_29 ?_
  refine lv_ladd hx hb dX7_square_30 ?_
  refine lv_aload_n hx hb dX7_square_31 rfl (lv_at hl 0 rfl) ?_
  refine lv_iconst (v := 2) hx hb dX7_square_32 (by decide) ?_
  refine k_callFl (wr := []) (va_runF (hK.1 1 _ rfl).2 (As := [.int 2]) (rest := [.long (((q_part v 0) * (q_part v 0)) + ((q_part v 1) * (q_part v 1)))]) ⟨hx, hb, hml, hown, hts⟩ (ct_X1_part hk l D ca H.size h0 2 v) (va_cwF 1 hts (lw_app (fun w hw => by simp only [List.mem_cons, List.not_mem_nil, or_false] at hw; rcases hw with e | e | e | e <;> rw [e] <;> first | exact q256 | exact q260 | exact q262 | exact q20) (lw_meth q264)) rfl rfl rfl hN.2.2.2.2.2.2.1 (by decide +kernel) ⟨Nat.le_of_ble_eq_true rfl, Nat.le_of_ble_eq_true rfl⟩) (k_preV hk hK hN hP hD [] (by decide) rfl (hF0.keep hS nF0) (hF0.keep hS nF0) rfl (q0 := 0) rfl) rfl rfl hl.1 rfl (lv_room (Nat.le_of_ble_eq_true rfl)) dX7_square_33 ⟨Nat.le_of_ble_eq_true rfl, Nat.le_of_ble_eq_true rfl⟩) hP hD hS hA [] [] rfl rfl (by decide) (by decide) (fun r_13 u_14 H locs w_15 hP hD hxw_15 hzw_15 hqw_15 hS => ?_)
  obtain rfl : r_13 = q_part v 2 := w_15
  refine lv_aload_n hx hb dX7_square_38 rfl (lv_at hl 0 rfl) ?_
  refine lv_iconst (v := 2) hx hb dX7_square_39 (by decide) ?_
  refine k_callFl (wr := []) (va_runF (hK.1 1 _ rfl).2 (As := [.int 2]) (rest := [.long (q_part v 2), .long (((q_part v 0) * (q_part v 0)) + ((q_part v 1) * (q_part v 1)))]) ⟨hx, hb, hml, hown, hts⟩ (ct_X1_part hk l D ca H.size h0 2 v) (va_cwF 1 hts (lw_app (fun w hw => by simp only [List.mem_cons, List.not_mem_nil, or_false] at hw; rcases hw with e | e | e | e <;> rw [e] <;> first | exact q256 | exact q260 | exact q262 | exact q20) (lw_meth q264)) rfl rfl rfl hN.2.2.2.2.2.2.1 (by decide +kernel) ⟨Nat.le_of_ble_eq_true rfl, Nat.le_of_ble_eq_true rfl⟩) (k_preV hk hK hN hP hD [] (by decide) rfl (hF0.keep hS nF0) (hF0.keep hS nF0) rfl (q0 := 0) rfl) rfl rfl hl.1 rfl (lv_room (Nat.le_of_ble_eq_true rfl)) dX7_square_40 ⟨Nat.le_of_ble_eq_true rfl, Nat.le_of_ble_eq_true rfl⟩) hP hD hS hA [] [] rfl rfl (by decide) (by decide) (fun r_16 u_17 H locs w_18 hP hD hxw_18 hzw_18 hqw_18 hS => ?_)
  obtain rfl : r_16 = q_part v 2 := w_18
  refine lv_lmul hx hb dX7_square_45 ?_
  refine lv_ladd hx hb dX7_square_46 ?_
  refine lv_aload_n hx hb dX7_square_47 rfl (lv_at hl 0 rfl) ?_
  refine lv_iconst (v := 3) hx hb dX7_square_48 (by decide) ?_
  refine k_callFl (wr := []) (va_runF (hK.1 1 _ rfl).2 (As := [.int 3]) (rest := [.long ((((q_part v 0) * (q_part v 0)) + ((q_part v 1) * (q_part v 1))) + ((q_part v 2) * (q_part v 2)))]) ⟨hx, hb, hml, hown, hts⟩ (ct_X1_part hk l D ca H.size h0 3 v) (va_cwF 1 hts (lw_app (fun w hw => by simp only [List.mem_cons, List.not_mem_nil, or_false] at hw; rcases hw with e | e | e | e <;> rw [e] <;> first | exact q256 | exact q260 | exact q262 | exact q20) (lw_meth q264)) rfl rfl rfl hN.2.2.2.2.2.2.1 (by decide +kernel) ⟨Nat.le_of_ble_eq_true rfl, Nat.le_of_ble_eq_true rfl⟩) (k_preV hk hK hN hP hD [] (by decide) rfl (hF0.keep hS nF0) (hF0.keep hS nF0) rfl (q0 := 0) rfl) rfl rfl hl.1 rfl (lv_room (Nat.le_of_ble_eq_true rfl)) dX7_square_49 ⟨Nat.le_of_ble_eq_true rfl, Nat.le_of_ble_eq_true rfl⟩) hP hD hS hA [] [] rfl rfl (by decide) (by decide) (fun r_19 u_20 H locs w_21 hP hD hxw_21 hzw_21 hqw_21 hS => ?_)
  obtain rfl : r_19 = q_part v 3 := w_21
  refine lv_aload_n hx hb dX7_square_54 rfl (lv_at hl 0 rfl) ?_
  refine lv_iconst (v := 3) hx hb dX7_square_55 (by decide) ?_
  refine k_callFl (wr := []) (va_runF (hK.1 1 _ rfl).2 (As := [.int 3]) (rest := [.long (q_part v 3), .long ((((q_part v 0) * (q_part v 0)) + ((q_part v 1) * (q_part v 1))) + ((q_part v 2) * (q_part v 2)))]) ⟨hx, hb, hml, hown, hts⟩ (ct_X1_part hk l D ca H.size h0 3 v) (va_cwF 1 hts (lw_app (fun w hw => by simp only [List.mem_cons, List.not_mem_nil, or_false] at hw; rcases hw with e | e | e | e <;> rw [e] <;> first | exact q256 | exact q260 | exact q262 | exact q20) (lw_meth q264)) rfl rfl rfl hN.2.2.2.2.2.2.1 (by decide +kernel) ⟨Nat.le_of_ble_eq_true rfl, Nat.le_of_ble_eq_true rfl⟩) (k_preV hk hK hN hP hD [] (by decide) rfl (hF0.keep hS nF0) (hF0.keep hS nF0) rfl (q0 := 0) rfl) rfl rfl hl.1 rfl (lv_room (Nat.le_of_ble_eq_true rfl)) dX7_square_56 ⟨Nat.le_of_ble_eq_true rfl, Nat.le_of_ble_eq_true rfl⟩) hP hD hS hA [] [] rfl rfl (by decide) (by decide) (fun r_22 u_23 H locs w_24 hP hD hxw_24 hzw_24 hqw_24 hS => ?_)
  obtain rfl : r_22 = q_part v 3 := w_24
  refine lv_lmul hx hb dX7_square_61 ?_
  refine lv_ladd hx hb dX7_square_62 ?_
  exact k_lret () hx hb hr hlocks (by simp [q_sq, q_part]) hP hD trivial hS (Nat.le_of_ble_eq_true rfl) (Nat.le_of_ble_eq_true rfl) dX7_square_63
set_option maxHeartbeats 4000000 in
set_option maxRecDepth 100000 in
theorem ct_X7_isNought (l : Launch) (D : va_G) (ca : Nat → ClassId) (zH : Nat) (h0 : Nat) (v : Q4)  : MetN l yX7_isNought cX7_isNought 1 (some .boolean) (ws_ yX7_isNought cX7_isNought 1 (some .boolean)) ({ frames := 2, cells := 0, slots := 0, locals := 41 }) (va_Pc [.ref h0] (pr_ NW D ca [] zH (fun H => Fo D H h0 v))) (qI D (fun (r : Int32) (u : Unit) => r = bI (q_nz v)) (fun u => []) (fun u H => True) (va_A [] zH)) 0 0 (va_A [] zH) := by
  have hk := NW_ok
  refine k_ofN (Qc := qI D (fun (r : Int32) (u : Unit) => r = bI (q_nz v)) (fun u => []) (fun u H => True)) (Nat.le_of_ble_eq_true rfl) ?_
  intro p e s m below meth c ls A H hH hx hb hr hts hown hlocks hnm hml hsz hP hD hK hN hA hAn hS hro hl
  have hl : lv_has ls 1 [(0, .ref h0)] := hl
  have hF0 := hro
  have nF0 := k_new hAn hF0.lt
  refine lv_aload_n hx hb dX7_isNought_0 rfl (lv_at hl 0 rfl) ?_
  refine k_callFl (wr := []) (kd_runF (x := yX7_square) (hK.1 1 _ rfl).2 (As := []) (rest := []) ⟨hx, hb, hml, hown, hts⟩ (ct_X7_square l D ca H.size h0 v) qL_ret rfl (lw_meth q254) rfl rfl rfl ⟨Nat.le_of_ble_eq_true rfl, Nat.le_of_ble_eq_true rfl⟩ (hts _ q365) hN.2.2.2.2.2.2.2.1 ⟨by decide, by decide⟩ hN.2.2.2.2.2.2.2.2.2.2 (hts _ q252) (by decide +kernel) (k_preV hk hK hN hP hD [] (by decide) rfl (hF0.keep hS nF0) (hF0.keep hS nF0) rfl (q0 := 0) rfl) rfl rfl hl.1 rfl (lv_room (Nat.le_of_ble_eq_true rfl)) dX7_isNought_1 ⟨Nat.le_of_ble_eq_true rfl, Nat.le_of_ble_eq_true rfl⟩) hP hD hS hA [] [] rfl rfl (by decide) (by decide) (fun r_1 u_2 H locs w_3 hP hD hxw_3 hzw_3 hqw_3 hS => ?_)
  obtain rfl : r_1 = q_sq v := w_3
  refine lv_lconst (v := 0) hx hb dX7_isNought_6 (by decide) ?_
  refine k_lc_ne (tgt := 15) hx hb dX7_isNought_7 dX7_isNought_8 (by decide) (fun c_4 => ?_) (fun c_4 => ?_)
  · refine lv_iconst (v := 0) hx hb dX7_isNought_15 (by decide) ?_
    exact k_zret () hx hb hr hlocks (by decide) (by simp [q_nz, bI, c_4]) hP hD trivial hS (Nat.le_of_ble_eq_true rfl) (Nat.le_of_ble_eq_true rfl) dX7_isNought_16
  · refine lv_iconst (v := 1) hx hb dX7_isNought_11 (by decide) ?_
    refine lv_goto (tgt := 16) hx hb dX7_isNought_12 (by decide) ?_
    exact k_zret () hx hb hr hlocks (by decide) (by simp [q_nz, bI, c_4]) hP hD trivial hS (Nat.le_of_ble_eq_true rfl) (Nat.le_of_ble_eq_true rfl) dX7_isNought_16
set_option maxHeartbeats 4000000 in
set_option maxRecDepth 100000 in
theorem ct_X1_norm (l : Launch) (D : va_G) (ca : Nat → ClassId) (zH : Nat) (h0 : Nat) (v : Q4)  : Met l yX1_norm (ws_ yX1_norm cX1_norm 1 (some .long)) ({ frames := 2, cells := 0, slots := 0, locals := 41 }) (va_Pc [.ref h0] (pr_ NW D ca [] zH (fun H => Fo D H h0 v))) (qL D (fun (r : Int64) (u : Unit) => r = q_norm v) (fun u => []) (fun u H => True) (va_A [] zH)) 0 0 (va_A [] zH) := by
  have hk := NW_ok
  refine k_ofW (Qc := qL D (fun (r : Int64) (u : Unit) => r = q_norm v) (fun u => []) (fun u H => True)) (by decide) (Nat.le_of_ble_eq_true rfl) ?_
  intro p e s m below meth c ls A H hH hx hb hr hts hown hlocks hnm hml hsz hP hD hK hN hA hAn hS hro hl
  have hl : lv_has ls 1 [(0, .ref h0)] := hl
  have hF0 := hro
  have nF0 := k_new hAn hF0.lt
  refine lv_aload_n hx hb dX1_norm_0 rfl (lv_at hl 0 rfl) ?_
  refine k_calll (wr := []) (kd_runV (x := yF_square) (owner := "FourParts$Parts") (As := []) (rest := []) ⟨hx, hb, hml, hown, hts⟩ (ct_X7_square l D ca H.size h0 v) qL_ret rfl (lw_meth q254) rfl rfl rfl ⟨Nat.le_of_ble_eq_true rfl, Nat.le_of_ble_eq_true rfl⟩ (hN.1 _ (List.mem_of_getElem? (i := 1) rfl)) (hN.1 _ (List.mem_of_getElem? (i := 5) rfl)) (va_Decl.abs hN.2.2.2.2.2.2.2.1.1) ⟨by decide, by decide⟩ hN.2.2.2.2.2.2.2.2.1 (hts _ q252) (by decide +kernel) (k_preV hk hK hN hP hD [] (by decide) rfl (hF0.keep hS nF0) (hF0.keep hS nF0) rfl (q0 := 0) rfl) rfl rfl hl.1 rfl (lv_room (Nat.le_of_ble_eq_true rfl)) dX1_norm_1 ⟨Nat.le_of_ble_eq_true rfl, Nat.le_of_ble_eq_true rfl⟩) hP hD hS hA [] [] rfl rfl (by decide) (by decide) (fun r_1 u_2 H locs w_3 hP hD hxw_3 hzw_3 hqw_3 hS => ?_)
  obtain rfl : r_1 = q_sq v := w_3
  refine lv_ldc2 hx hb hown (hts _ q354) dX1_norm_4 ?_
  refine lv_ldiv hx hb dX1_norm_7 (by decide) ?_
  exact k_lret () hx hb hr hlocks (rfl) hP hD trivial hS (Nat.le_of_ble_eq_true rfl) (Nat.le_of_ble_eq_true rfl) dX1_norm_8
set_option maxHeartbeats 4000000 in
set_option maxRecDepth 100000 in
theorem ct_X1_fits (l : Launch) (D : va_G) (ca : Nat → ClassId) (zH : Nat) (h0 : Nat) (v : Q4)  : Met l yX1_fits (ws_ yX1_fits cX1_fits 3 (some .boolean)) ({ frames := 1, cells := 0, slots := 0, locals := 25 }) (va_Pc [.ref h0] (pr_ NW D ca [] zH (fun H => Fo D H h0 v))) (qI D (fun (r : Int32) (u : Unit) => r = bI (q_low v)) (fun u => []) (fun u H => True) (va_A [] zH)) 0 0 (va_A [] zH) := by
  have hk := NW_ok
  refine k_ofW (Qc := qI D (fun (r : Int32) (u : Unit) => r = bI (q_low v)) (fun u => []) (fun u H => True)) (by decide) (Nat.le_of_ble_eq_true rfl) ?_
  intro p e s m below meth c ls A H hH hx hb hr hts hown hlocks hnm hml hsz hP hD hK hN hA hAn hS hro hl
  have hl : lv_has ls 3 [(0, .ref h0)] := hl
  have hF0 := hro
  have nF0 := k_new hAn hF0.lt
  refine lv_iconst (v := 1) hx hb dX1_fits_0 (by decide) ?_
  refine lv_istore_n (lv' := [(1, .int 1), (0, .ref h0)]) hx hb dX1_fits_1 rfl hl (by decide) rfl (fun ls hl => ?_)
  refine lv_iconst (v := 0) hx hb dX1_fits_2 (by decide) ?_
  refine lv_istore_n (lv' := [(2, .int 0), (1, .int 1), (0, .ref h0)]) hx hb dX1_fits_3 rfl hl (by decide) rfl (fun ls hl => ?_)
  refine lv_iload_n hx hb dX1_fits_4 rfl (lv_at hl 0 rfl) ?_
  refine lv_iconst (v := 4) hx hb dX1_fits_5 (by decide) ?_
  refine lv_icmp_ge (tgt := 32) hx hb dX1_fits_6 (by decide) (fun c_1 => absurd c_1 (by decide)) (fun c_1 => ?_)
  refine lv_iload_n hx hb dX1_fits_9 rfl (lv_at hl 1 rfl) ?_
  refine lv_aload_n hx hb dX1_fits_10 rfl (lv_at hl 2 rfl) ?_
  refine lv_iload_n hx hb dX1_fits_11 rfl (lv_at hl 0 rfl) ?_
  refine k_calll (wr := []) (va_runV (As := [.int 0]) (rest := [.int 1]) ⟨hx, hb, hml, hown, hts⟩ (ct_X1_part hk l D ca H.size h0 0 v) (cwV 1 hts (lw_V q328 q262 q813 q20 q264) rfl rfl rfl (by decide +kernel) ⟨Nat.le_of_ble_eq_true rfl, Nat.le_of_ble_eq_true rfl⟩) (k_preV hk hK hN hP hD [] (by decide) rfl (hF0.keep hS nF0) (hF0.keep hS nF0) rfl (q0 := 0) rfl) rfl rfl hl.1 rfl (lv_room (Nat.le_of_ble_eq_true rfl)) dX1_fits_12 ⟨Nat.le_of_ble_eq_true rfl, Nat.le_of_ble_eq_true rfl⟩) hP hD hS hA [] [] rfl rfl (by decide) (by decide) (fun r_2 u_3 H locs w_4 hP hD hxw_4 hzw_4 hqw_4 hS => ?_)
  obtain rfl : r_2 = q_part v 0 := w_4
  refine lv_ldc2 hx hb hown (hts _ q329) dX1_fits_15 ?_
  refine lv_ldc2 hx hb hown (hts _ q330) dX1_fits_18 ?_
  refine k_calli (wr := []) (va_runSN (As := [.long (q_part v 0), .long (-20000), .long 20000]) (rest := [.int 1]) ⟨hx, hb, hml, hown, hts⟩ (ct_X0_isIn hk l D ca H.size (q_part v 0) (-20000) 20000) ⟨va_cnB 3 hts (lw_meth q133) rfl rfl rfl (hN.2.1 _ (List.mem_of_getElem? (i := 2) rfl)) (hts _ q19) (by decide +kernel) ⟨Nat.le_of_ble_eq_true rfl, Nat.le_of_ble_eq_true rfl⟩, hts _ q132, trivial⟩ (k_pre hk hK hN hP hD [] (by decide) rfl trivial) rfl rfl hl.1 rfl (lv_room (Nat.le_of_ble_eq_true rfl)) dX1_fits_21 ⟨Nat.le_of_ble_eq_true rfl, Nat.le_of_ble_eq_true rfl⟩) hP hD hS hA [] [] rfl rfl (by decide) (by decide) (fun r_5 u_6 H locs w_7 hP hD hxw_7 hzw_7 hqw_7 hS => ?_)
  obtain rfl : r_5 = bI (p_in (q_part v 0) (-20000) 20000) := w_7
  refine lv_iand hx hb dX1_fits_24 ?_
  refine lv_istore_n (lv' := [(1, .int (1 &&& (bI (p_in (q_part v 0) (-20000) 20000)))), (2, .int 0), (0, .ref h0)]) hx hb dX1_fits_25 rfl hl (by decide) rfl (fun ls hl => ?_)
  refine lv_iinc (v := 1) (lv' := [(2, .int 1), (1, .int (1 &&& (bI (p_in (q_part v 0) (-20000) 20000)))), (0, .ref h0)]) hx hb dX1_fits_26 hl (k := 1) rfl (by decide) (by decide) rfl (fun ls hl => ?_)
  refine lv_goto (tgt := 4) hx hb dX1_fits_29 (by decide) ?_
  refine lv_iload_n hx hb dX1_fits_4 rfl (lv_at hl 0 rfl) ?_
  refine lv_iconst (v := 4) hx hb dX1_fits_5 (by decide) ?_
  refine lv_icmp_ge (tgt := 32) hx hb dX1_fits_6 (by decide) (fun c_8 => absurd c_8 (by decide)) (fun c_8 => ?_)
  refine lv_iload_n hx hb dX1_fits_9 rfl (lv_at hl 1 rfl) ?_
  refine lv_aload_n hx hb dX1_fits_10 rfl (lv_at hl 2 rfl) ?_
  refine lv_iload_n hx hb dX1_fits_11 rfl (lv_at hl 0 rfl) ?_
  refine k_calll (wr := []) (va_runV (As := [.int 1]) (rest := [.int (1 &&& (bI (p_in (q_part v 0) (-20000) 20000)))]) ⟨hx, hb, hml, hown, hts⟩ (ct_X1_part hk l D ca H.size h0 1 v) (cwV 1 hts (lw_V q328 q262 q813 q20 q264) rfl rfl rfl (by decide +kernel) ⟨Nat.le_of_ble_eq_true rfl, Nat.le_of_ble_eq_true rfl⟩) (k_preV hk hK hN hP hD [] (by decide) rfl (hF0.keep hS nF0) (hF0.keep hS nF0) rfl (q0 := 0) rfl) rfl rfl hl.1 rfl (lv_room (Nat.le_of_ble_eq_true rfl)) dX1_fits_12 ⟨Nat.le_of_ble_eq_true rfl, Nat.le_of_ble_eq_true rfl⟩) hP hD hS hA [] [] rfl rfl (by decide) (by decide) (fun r_9 u_10 H locs w_11 hP hD hxw_11 hzw_11 hqw_11 hS => ?_)
  obtain rfl : r_9 = q_part v 1 := w_11
  refine lv_ldc2 hx hb hown (hts _ q329) dX1_fits_15 ?_
  refine lv_ldc2 hx hb hown (hts _ q330) dX1_fits_18 ?_
  refine k_calli (wr := []) (va_runSN (As := [.long (q_part v 1), .long (-20000), .long 20000]) (rest := [.int (1 &&& (bI (p_in (q_part v 0) (-20000) 20000)))]) ⟨hx, hb, hml, hown, hts⟩ (ct_X0_isIn hk l D ca H.size (q_part v 1) (-20000) 20000) ⟨va_cnB 3 hts (lw_meth q133) rfl rfl rfl (hN.2.1 _ (List.mem_of_getElem? (i := 2) rfl)) (hts _ q19) (by decide +kernel) ⟨Nat.le_of_ble_eq_true rfl, Nat.le_of_ble_eq_true rfl⟩, hts _ q132, trivial⟩ (k_pre hk hK hN hP hD [] (by decide) rfl trivial) rfl rfl hl.1 rfl (lv_room (Nat.le_of_ble_eq_true rfl)) dX1_fits_21 ⟨Nat.le_of_ble_eq_true rfl, Nat.le_of_ble_eq_true rfl⟩) hP hD hS hA [] [] rfl rfl (by decide) (by decide) (fun r_12 u_13 H locs w_14 hP hD hxw_14 hzw_14 hqw_14 hS => ?_)
  obtain rfl : r_12 = bI (p_in (q_part v 1) (-20000) 20000) := w_14
  refine lv_iand hx hb dX1_fits_24 ?_
  refine lv_istore_n (lv' := [(1, .int ((1 &&& (bI (p_in (q_part v 0) (-20000) 20000))) &&& (bI (p_in (q_part v 1) (-20000) 20000)))), (2, .int 1), (0, .ref h0)]) hx hb dX1_fits_25 rfl hl (by decide) rfl (fun ls hl => ?_)
  refine lv_iinc (v := 2) (lv' := [(2, .int 2), (1, .int ((1 &&& (bI (p_in (q_part v 0) (-20000) 20000))) &&& (bI (p_in (q_part v 1) (-20000) 20000)))), (0, .ref h0)]) hx hb dX1_fits_26 hl (k := 1) rfl (by decide) (by decide) rfl (fun ls hl => ?_)
  refine lv_goto (tgt := 4) hx hb dX1_fits_29 (by decide) ?_
  refine lv_iload_n hx hb dX1_fits_4 rfl (lv_at hl 0 rfl) ?_
  refine lv_iconst (v := 4) hx hb dX1_fits_5 (by decide) ?_
  refine lv_icmp_ge (tgt := 32) hx hb dX1_fits_6 (by decide) (fun c_15 => absurd c_15 (by decide)) (fun c_15 => ?_)
  refine lv_iload_n hx hb dX1_fits_9 rfl (lv_at hl 1 rfl) ?_
  refine lv_aload_n hx hb dX1_fits_10 rfl (lv_at hl 2 rfl) ?_
  refine lv_iload_n hx hb dX1_fits_11 rfl (lv_at hl 0 rfl) ?_
  refine k_calll (wr := []) (va_runV (As := [.int 2]) (rest := [.int ((1 &&& (bI (p_in (q_part v 0) (-20000) 20000))) &&& (bI (p_in (q_part v 1) (-20000) 20000)))]) ⟨hx, hb, hml, hown, hts⟩ (ct_X1_part hk l D ca H.size h0 2 v) (cwV 1 hts (lw_V q328 q262 q813 q20 q264) rfl rfl rfl (by decide +kernel) ⟨Nat.le_of_ble_eq_true rfl, Nat.le_of_ble_eq_true rfl⟩) (k_preV hk hK hN hP hD [] (by decide) rfl (hF0.keep hS nF0) (hF0.keep hS nF0) rfl (q0 := 0) rfl) rfl rfl hl.1 rfl (lv_room (Nat.le_of_ble_eq_true rfl)) dX1_fits_12 ⟨Nat.le_of_ble_eq_true rfl, Nat.le_of_ble_eq_true rfl⟩) hP hD hS hA [] [] rfl rfl (by decide) (by decide) (fun r_16 u_17 H locs w_18 hP hD hxw_18 hzw_18 hqw_18 hS => ?_)
  obtain rfl : r_16 = q_part v 2 := w_18
  refine lv_ldc2 hx hb hown (hts _ q329) dX1_fits_15 ?_
  refine lv_ldc2 hx hb hown (hts _ q330) dX1_fits_18 ?_
  refine k_calli (wr := []) (va_runSN (As := [.long (q_part v 2), .long (-20000), .long 20000]) (rest := [.int ((1 &&& (bI (p_in (q_part v 0) (-20000) 20000))) &&& (bI (p_in (q_part v 1) (-20000) 20000)))]) ⟨hx, hb, hml, hown, hts⟩ (ct_X0_isIn hk l D ca H.size (q_part v 2) (-20000) 20000) ⟨va_cnB 3 hts (lw_meth q133) rfl rfl rfl (hN.2.1 _ (List.mem_of_getElem? (i := 2) rfl)) (hts _ q19) (by decide +kernel) ⟨Nat.le_of_ble_eq_true rfl, Nat.le_of_ble_eq_true rfl⟩, hts _ q132, trivial⟩ (k_pre hk hK hN hP hD [] (by decide) rfl trivial) rfl rfl hl.1 rfl (lv_room (Nat.le_of_ble_eq_true rfl)) dX1_fits_21 ⟨Nat.le_of_ble_eq_true rfl, Nat.le_of_ble_eq_true rfl⟩) hP hD hS hA [] [] rfl rfl (by decide) (by decide) (fun r_19 u_20 H locs w_21 hP hD hxw_21 hzw_21 hqw_21 hS => ?_)
  obtain rfl : r_19 = bI (p_in (q_part v 2) (-20000) 20000) := w_21
  refine lv_iand hx hb dX1_fits_24 ?_
  refine lv_istore_n (lv' := [(1, .int (((1 &&& (bI (p_in (q_part v 0) (-20000) 20000))) &&& (bI (p_in (q_part v 1) (-20000) 20000))) &&& (bI (p_in (q_part v 2) (-20000) 20000)))), (2, .int 2), (0, .ref h0)]) hx hb dX1_fits_25 rfl hl (by decide) rfl (fun ls hl => ?_)
  refine lv_iinc (v := 3) (lv' := [(2, .int 3), (1, .int (((1 &&& (bI (p_in (q_part v 0) (-20000) 20000))) &&& (bI (p_in (q_part v 1) (-20000) 20000))) &&& (bI (p_in (q_part v 2) (-20000) 20000)))), (0, .ref h0)]) hx hb dX1_fits_26 hl (k := 1) rfl (by decide) (by decide) rfl (fun ls hl => ?_)
  refine lv_goto (tgt := 4) hx hb dX1_fits_29 (by decide) ?_
  refine lv_iload_n hx hb dX1_fits_4 rfl (lv_at hl 0 rfl) ?_
  refine lv_iconst (v := 4) hx hb dX1_fits_5 (by decide) ?_
  refine lv_icmp_ge (tgt := 32) hx hb dX1_fits_6 (by decide) (fun c_22 => absurd c_22 (by decide)) (fun c_22 => ?_)
  refine lv_iload_n hx hb dX1_fits_9 rfl (lv_at hl 1 rfl) ?_
  refine lv_aload_n hx hb dX1_fits_10 rfl (lv_at hl 2 rfl) ?_
  refine lv_iload_n hx hb dX1_fits_11 rfl (lv_at hl 0 rfl) ?_
  refine k_calll (wr := []) (va_runV (As := [.int 3]) (rest := [.int (((1 &&& (bI (p_in (q_part v 0) (-20000) 20000))) &&& (bI (p_in (q_part v 1) (-20000) 20000))) &&& (bI (p_in (q_part v 2) (-20000) 20000)))]) ⟨hx, hb, hml, hown, hts⟩ (ct_X1_part hk l D ca H.size h0 3 v) (cwV 1 hts (lw_V q328 q262 q813 q20 q264) rfl rfl rfl (by decide +kernel) ⟨Nat.le_of_ble_eq_true rfl, Nat.le_of_ble_eq_true rfl⟩) (k_preV hk hK hN hP hD [] (by decide) rfl (hF0.keep hS nF0) (hF0.keep hS nF0) rfl (q0 := 0) rfl) rfl rfl hl.1 rfl (lv_room (Nat.le_of_ble_eq_true rfl)) dX1_fits_12 ⟨Nat.le_of_ble_eq_true rfl, Nat.le_of_ble_eq_true rfl⟩) hP hD hS hA [] [] rfl rfl (by decide) (by decide) (fun r_23 u_24 H locs w_25 hP hD hxw_25 hzw_25 hqw_25 hS => ?_)
  obtain rfl : r_23 = q_part v 3 := w_25
  refine lv_ldc2 hx hb hown (hts _ q329) dX1_fits_15 ?_
  refine lv_ldc2 hx hb hown (hts _ q330) dX1_fits_18 ?_
  refine k_calli (wr := []) (va_runSN (As := [.long (q_part v 3), .long (-20000), .long 20000]) (rest := [.int (((1 &&& (bI (p_in (q_part v 0) (-20000) 20000))) &&& (bI (p_in (q_part v 1) (-20000) 20000))) &&& (bI (p_in (q_part v 2) (-20000) 20000)))]) ⟨hx, hb, hml, hown, hts⟩ (ct_X0_isIn hk l D ca H.size (q_part v 3) (-20000) 20000) ⟨va_cnB 3 hts (lw_meth q133) rfl rfl rfl (hN.2.1 _ (List.mem_of_getElem? (i := 2) rfl)) (hts _ q19) (by decide +kernel) ⟨Nat.le_of_ble_eq_true rfl, Nat.le_of_ble_eq_true rfl⟩, hts _ q132, trivial⟩ (k_pre hk hK hN hP hD [] (by decide) rfl trivial) rfl rfl hl.1 rfl (lv_room (Nat.le_of_ble_eq_true rfl)) dX1_fits_21 ⟨Nat.le_of_ble_eq_true rfl, Nat.le_of_ble_eq_true rfl⟩) hP hD hS hA [] [] rfl rfl (by decide) (by decide) (fun r_26 u_27 H locs w_28 hP hD hxw_28 hzw_28 hqw_28 hS => ?_)
  obtain rfl : r_26 = bI (p_in (q_part v 3) (-20000) 20000) := w_28
  refine lv_iand hx hb dX1_fits_24 ?_
  refine lv_istore_n (lv' := [(1, .int ((((1 &&& (bI (p_in (q_part v 0) (-20000) 20000))) &&& (bI (p_in (q_part v 1) (-20000) 20000))) &&& (bI (p_in (q_part v 2) (-20000) 20000))) &&& (bI (p_in (q_part v 3) (-20000) 20000)))), (2, .int 3), (0, .ref h0)]) hx hb dX1_fits_25 rfl hl (by decide) rfl (fun ls hl => ?_)
  refine lv_iinc (v := 4) (lv' := [(2, .int 4), (1, .int ((((1 &&& (bI (p_in (q_part v 0) (-20000) 20000))) &&& (bI (p_in (q_part v 1) (-20000) 20000))) &&& (bI (p_in (q_part v 2) (-20000) 20000))) &&& (bI (p_in (q_part v 3) (-20000) 20000)))), (0, .ref h0)]) hx hb dX1_fits_26 hl (k := 1) rfl (by decide) (by decide) rfl (fun ls hl => ?_)
  refine lv_goto (tgt := 4) hx hb dX1_fits_29 (by decide) ?_
  refine lv_iload_n hx hb dX1_fits_4 rfl (lv_at hl 0 rfl) ?_
  refine lv_iconst (v := 4) hx hb dX1_fits_5 (by decide) ?_
  refine lv_icmp_ge (tgt := 32) hx hb dX1_fits_6 (by decide) (fun c_29 => ?_) (fun c_29 => absurd (by decide) c_29)
  refine lv_iload_n hx hb dX1_fits_32 rfl (lv_at hl 1 rfl) ?_
  refine lv_topi (fun z_30 ez_30 => ?_)
  obtain rfl : z_30 = bI (q_low v) := ez_30.trans (by simp [and_1b, and_bI, q_low, q_part, Bool.and_assoc])
  exact k_zret () hx hb hr hlocks (bI_nar _) (rfl) hP hD trivial hS (Nat.le_of_ble_eq_true rfl) (Nat.le_of_ble_eq_true rfl) dX1_fits_33
