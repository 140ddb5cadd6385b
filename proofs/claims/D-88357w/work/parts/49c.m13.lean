set_option maxHeartbeats 4000000 in
set_option maxRecDepth 100000 in
theorem ct_X5_listed_1 {KN : State → Prop} (hk : KNok KN) (l : Launch) (D : va_G) (ca : Nat → ClassId) (zH : Nat) (o : Nat) (s0 n0 i0 : Int32) (h1 : p_in s0.toInt64 0 15 = false) : Met l yX5_listed (ws_ yX5_listed cX5_listed 6 (some .int)) ({ frames := 2, cells := 0, slots := 0, locals := 45 }) (va_Pc [.ref o, .int s0, .int n0, .int i0] (pr_ KN D ca [] zH (fun _ => True))) (qI D (fun (r : Int32) (u : Unit) => r = -1) (fun u => []) (fun u H => True) (va_A [] zH)) 0 0 (va_A [] zH) := by
  refine k_ofW (Qc := qI D (fun (r : Int32) (u : Unit) => r = -1) (fun u => []) (fun u H => True)) (by decide) (Nat.le_of_ble_eq_true rfl) ?_
  intro p e s m below meth c ls A H hH hx hb hr hts hown hlocks hnm hml hsz hP hD hK hN hA hAn hS hro hl
  have hl : lv_has ls 6 [(0, .ref o), (1, .int s0), (2, .int n0), (3, .int i0)] := hl
  refine lv_iload_n hx hb dX5_listed_0 rfl (lv_at hl 1 rfl) ?_
  refine k_calli (wr := []) (va_runS (As := [.int s0]) (rest := []) ⟨hx, hb, hml, hown, hts⟩ (ct_X5_isRegister hk l D ca H.size s0) (va_cwS 1 hts (lw_S q660 q661 q24 q662) rfl rfl rfl (by decide +kernel) ⟨Nat.le_of_ble_eq_true rfl, Nat.le_of_ble_eq_true rfl⟩) (k_pre hk hK hN hP hD [] (by decide) rfl trivial) rfl rfl hl.1 rfl (lv_room (Nat.le_of_ble_eq_true rfl)) dX5_listed_1 ⟨Nat.le_of_ble_eq_true rfl, Nat.le_of_ble_eq_true rfl⟩) hP hD hS hA [] [] rfl rfl (by decide) (by decide) (fun r_1 u_2 H locs w_3 hP hD hxw_3 hzw_3 hqw_3 hS => ?_)
  obtain rfl : r_1 = bI (p_in s0.toInt64 0 15) := w_3
  refine lv_if_eq (tgt := 23) hx hb dX5_listed_4 (by decide) (fun c_4 => ?_) (fun c_4 => absurd (by rw [h1]; rfl) c_4)
  refine lv_iconst (v := (-1)) hx hb dX5_listed_23 (by decide) ?_
  exact k_iret () hx hb hr hlocks (rfl) hP hD trivial hS (Nat.le_of_ble_eq_true rfl) (Nat.le_of_ble_eq_true rfl) dX5_listed_24
set_option maxHeartbeats 4000000 in
set_option maxRecDepth 100000 in
theorem ct_X5_listed_2 {KN : State → Prop} (hk : KNok KN) (l : Launch) (D : va_G) (ca : Nat → ClassId) (zH : Nat) (o js : Nat) (n0 i0 : Int32) (hjs : js < 16) (h1 : p_in n0.toInt64 1 200 = false) : Met l yX5_listed (ws_ yX5_listed cX5_listed 6 (some .int)) ({ frames := 2, cells := 0, slots := 0, locals := 45 }) (va_Pc [.ref o, .int (nI js), .int n0, .int i0] (pr_ KN D ca [] zH (fun _ => True))) (qI D (fun (r : Int32) (u : Unit) => r = -1) (fun u => []) (fun u H => True) (va_A [] zH)) 0 0 (va_A [] zH) := by
  refine k_ofW (Qc := qI D (fun (r : Int32) (u : Unit) => r = -1) (fun u => []) (fun u H => True)) (by decide) (Nat.le_of_ble_eq_true rfl) ?_
  intro p e s m below meth c ls A H hH hx hb hr hts hown hlocks hnm hml hsz hP hD hK hN hA hAn hS hro hl
  have hl : lv_has ls 6 [(0, .ref o), (1, .int (nI js)), (2, .int n0), (3, .int i0)] := hl
  refine lv_iload_n hx hb dX5_listed_0 rfl (lv_at hl 1 rfl) ?_
  refine k_calli (wr := []) (va_runS (As := [.int (nI js)]) (rest := []) ⟨hx, hb, hml, hown, hts⟩ (ct_X5_isRegister hk l D ca H.size (nI js)) (va_cwS 1 hts (lw_S q660 q661 q24 q662) rfl rfl rfl (by decide +kernel) ⟨Nat.le_of_ble_eq_true rfl, Nat.le_of_ble_eq_true rfl⟩) (k_pre hk hK hN hP hD [] (by decide) rfl trivial) rfl rfl hl.1 rfl (lv_room (Nat.le_of_ble_eq_true rfl)) dX5_listed_1 ⟨Nat.le_of_ble_eq_true rfl, Nat.le_of_ble_eq_true rfl⟩) hP hD hS hA [] [] rfl rfl (by decide) (by decide) (fun r_1 u_2 H locs w_3 hP hD hxw_3 hzw_3 hqw_3 hS => ?_)
  obtain rfl : r_1 = bI (p_in (nI js).toInt64 0 15) := w_3
  refine lv_if_eq (tgt := 23) hx hb dX5_listed_4 (by decide) (fun c_4 => absurd c_4 (by rw [in_15 hjs]; decide)) (fun c_4 => ?_)
  refine lv_iload_n hx hb dX5_listed_7 rfl (lv_at hl 2 rfl) ?_
  refine lv_i2l (v := n0.toInt64) hx hb dX5_listed_8 rfl ?_
  refine lv_lconst (v := 1) hx hb dX5_listed_9 (by decide) ?_
  refine lv_ldc2 hx hb hown (hts _ q783) dX5_listed_10 ?_
  refine k_calli (wr := []) (va_runS (As := [.long n0.toInt64, .long 1, .long 200]) (rest := []) ⟨hx, hb, hml, hown, hts⟩ (ct_X5_in hk l D ca H.size n0.toInt64 1 200) (va_cwS 3 hts (lw_S q635 q636 q24 q637) rfl rfl rfl (by decide +kernel) ⟨Nat.le_of_ble_eq_true rfl, Nat.le_of_ble_eq_true rfl⟩) (k_pre hk hK hN hP hD [] (by decide) rfl trivial) rfl rfl hl.1 rfl (lv_room (Nat.le_of_ble_eq_true rfl)) dX5_listed_13 ⟨Nat.le_of_ble_eq_true rfl, Nat.le_of_ble_eq_true rfl⟩) hP hD hS hA [] [] rfl rfl (by decide) (by decide) (fun r_5 u_6 H locs w_7 hP hD hxw_7 hzw_7 hqw_7 hS => ?_)
  obtain rfl : r_5 = bI (p_in n0.toInt64 1 200) := w_7
  refine lv_if_eq (tgt := 23) hx hb dX5_listed_16 (by decide) (fun c_8 => ?_) (fun c_8 => absurd (by rw [h1]; rfl) c_8)
  refine lv_iconst (v := (-1)) hx hb dX5_listed_23 (by decide) ?_
  exact k_iret () hx hb hr hlocks (rfl) hP hD trivial hS (Nat.le_of_ble_eq_true rfl) (Nat.le_of_ble_eq_true rfl) dX5_listed_24
set_option maxHeartbeats 4000000 in
set_option maxRecDepth 100000 in
theorem ct_X5_listed_3 {KN : State → Prop} (hk : KNok KN) (l : Launch) (D : va_G) (ca : Nat → ClassId) (zH : Nat) (o js nn : Nat) (i0 : Int32) (hjs : js < 16) (h1 : 1 ≤ nn) (h2 : nn ≤ 200) (h3 : i0 < 0) : Met l yX5_listed (ws_ yX5_listed cX5_listed 6 (some .int)) ({ frames := 2, cells := 0, slots := 0, locals := 45 }) (va_Pc [.ref o, .int (nI js), .int (nI nn), .int i0] (pr_ KN D ca [] zH (fun _ => True))) (qI D (fun (r : Int32) (u : Unit) => r = -1) (fun u => []) (fun u H => True) (va_A [] zH)) 0 0 (va_A [] zH) := by
  refine k_ofW (Qc := qI D (fun (r : Int32) (u : Unit) => r = -1) (fun u => []) (fun u H => True)) (by decide) (Nat.le_of_ble_eq_true rfl) ?_
  intro p e s m below meth c ls A H hH hx hb hr hts hown hlocks hnm hml hsz hP hD hK hN hA hAn hS hro hl
  have hl : lv_has ls 6 [(0, .ref o), (1, .int (nI js)), (2, .int (nI nn)), (3, .int i0)] := hl
  refine lv_iload_n hx hb dX5_listed_0 rfl (lv_at hl 1 rfl) ?_
  refine k_calli (wr := []) (va_runS (As := [.int (nI js)]) (rest := []) ⟨hx, hb, hml, hown, hts⟩ (ct_X5_isRegister hk l D ca H.size (nI js)) (va_cwS 1 hts (lw_S q660 q661 q24 q662) rfl rfl rfl (by decide +kernel) ⟨Nat.le_of_ble_eq_true rfl, Nat.le_of_ble_eq_true rfl⟩) (k_pre hk hK hN hP hD [] (by decide) rfl trivial) rfl rfl hl.1 rfl (lv_room (Nat.le_of_ble_eq_true rfl)) dX5_listed_1 ⟨Nat.le_of_ble_eq_true rfl, Nat.le_of_ble_eq_true rfl⟩) hP hD hS hA [] [] rfl rfl (by decide) (by decide) (fun r_1 u_2 H locs w_3 hP hD hxw_3 hzw_3 hqw_3 hS => ?_)
  obtain rfl : r_1 = bI (p_in (nI js).toInt64 0 15) := w_3
  refine lv_if_eq (tgt := 23) hx hb dX5_listed_4 (by decide) (fun c_4 => absurd c_4 (by rw [in_15 hjs]; decide)) (fun c_4 => ?_)
  refine lv_iload_n hx hb dX5_listed_7 rfl (lv_at hl 2 rfl) ?_
  refine lv_i2l (v := (nI nn).toInt64) hx hb dX5_listed_8 rfl ?_
  refine lv_lconst (v := 1) hx hb dX5_listed_9 (by decide) ?_
  refine lv_ldc2 hx hb hown (hts _ q783) dX5_listed_10 ?_
  refine k_calli (wr := []) (va_runS (As := [.long ((nI nn).toInt64), .long 1, .long 200]) (rest := []) ⟨hx, hb, hml, hown, hts⟩ (ct_X5_in hk l D ca H.size ((nI nn).toInt64) 1 200) (va_cwS 3 hts (lw_S q635 q636 q24 q637) rfl rfl rfl (by decide +kernel) ⟨Nat.le_of_ble_eq_true rfl, Nat.le_of_ble_eq_true rfl⟩) (k_pre hk hK hN hP hD [] (by decide) rfl trivial) rfl rfl hl.1 rfl (lv_room (Nat.le_of_ble_eq_true rfl)) dX5_listed_13 ⟨Nat.le_of_ble_eq_true rfl, Nat.le_of_ble_eq_true rfl⟩) hP hD hS hA [] [] rfl rfl (by decide) (by decide) (fun r_5 u_6 H locs w_7 hP hD hxw_7 hzw_7 hqw_7 hS => ?_)
  obtain rfl : r_5 = bI (p_in ((nI nn).toInt64) 1 200) := w_7
  refine lv_if_eq (tgt := 23) hx hb dX5_listed_16 (by decide) (fun c_8 => absurd c_8 (by rw [in_nn h1 h2]; decide)) (fun c_8 => ?_)
  refine lv_iload_n hx hb dX5_listed_19 rfl (lv_at hl 3 rfl) ?_
  refine lv_if_ge (tgt := 25) hx hb dX5_listed_20 (by decide) (fun c_9 => absurd c_9 (Int32.not_le.mpr h3)) (fun c_9 => ?_)
  refine lv_iconst (v := (-1)) hx hb dX5_listed_23 (by decide) ?_
  exact k_iret () hx hb hr hlocks (rfl) hP hD trivial hS (Nat.le_of_ble_eq_true rfl) (Nat.le_of_ble_eq_true rfl) dX5_listed_24
set_option maxHeartbeats 4000000 in
set_option maxRecDepth 100000 in
theorem ct_X5_listed_n {KN : State → Prop} (hk : KNok KN) (l : Launch) (D : va_G) (ca : Nat → ClassId) (zH : Nat) (o : Nat) (ad : Nat → Nat) (nf mo : Int32) (x : Q4) (js nn ww : Nat) (hjs : js < 16) (h1 : 1 ≤ nn) (h2 : nn ≤ 200) (hww : ww < 2 ^ 31) (h3 : 24 * dvS nn 2 nn ≤ ww) : Met l yX5_listed (ws_ yX5_listed cX5_listed 6 (some .int)) ({ frames := 3, cells := 0, slots := 0, locals := 86 }) (va_Pc [.ref o, .int (nI js), .int (nI nn), .int (nI ww)] (pr_ KN D ca [(o, mO ad nf mo), (ad 8, a4 ca x)] zH (fun _ => True))) (qI D (fun (r : Int32) (u : Q4) => r = -4) (fun u => [(o, mO ad nf mo), (ad 8, a4 ca u)]) (fun u H => True) (va_A [(o, mO ad nf mo), (ad 8, a4 ca x)] zH)) 0 0 (va_A [(o, mO ad nf mo), (ad 8, a4 ca x)] zH) := by
  refine k_ofW (Qc := qI D (fun (r : Int32) (u : Q4) => r = -4) (fun u => [(o, mO ad nf mo), (ad 8, a4 ca u)]) (fun u H => True)) (by decide) (Nat.le_of_ble_eq_true rfl) ?_
  intro p e s m below meth c ls A H hH hx hb hr hts hown hlocks hnm hml hsz hP hD hK hN hA hAn hS hro hl
  have hl : lv_has ls 6 [(0, .ref o), (1, .int (nI js)), (2, .int (nI nn)), (3, .int (nI ww))] := hl
  refine lv_iload_n hx hb dX5_listed_0 rfl (lv_at hl 1 rfl) ?_
  refine k_calli (wr := [(o, mO ad nf mo), (ad 8, a4 ca x)]) (va_runS (As := [.int (nI js)]) (rest := []) ⟨hx, hb, hml, hown, hts⟩ (ct_X5_isRegister hk l D ca H.size (nI js)) (va_cwS 1 hts (lw_S q660 q661 q24 q662) rfl rfl rfl (by decide +kernel) ⟨Nat.le_of_ble_eq_true rfl, Nat.le_of_ble_eq_true rfl⟩) (k_pre hk hK hN hP hD [] (by decide) rfl trivial) rfl rfl hl.1 rfl (lv_room (Nat.le_of_ble_eq_true rfl)) dX5_listed_1 ⟨Nat.le_of_ble_eq_true rfl, Nat.le_of_ble_eq_true rfl⟩) hP hD hS hA [] [0, 1] rfl rfl (by decide) (by decide) (fun r_1 u_2 H locs w_3 hP hD hxw_3 hzw_3 hqw_3 hS => ?_)
  obtain rfl : r_1 = bI (p_in (nI js).toInt64 0 15) := w_3
  refine lv_if_eq (tgt := 23) hx hb dX5_listed_4 (by decide) (fun c_4 => absurd c_4 (by rw [in_15 hjs]; decide)) (fun c_4 => ?_)
  refine lv_iload_n hx hb dX5_listed_7 rfl (lv_at hl 2 rfl) ?_
  refine lv_i2l (v := (nI nn).toInt64) hx hb dX5_listed_8 rfl ?_
  refine lv_lconst (v := 1) hx hb dX5_listed_9 (by decide) ?_
  refine lv_ldc2 hx hb hown (hts _ q783) dX5_listed_10 ?_
  refine k_calli (wr := [(o, mO ad nf mo), (ad 8, a4 ca x)]) (va_runS (As := [.long ((nI nn).toInt64), .long 1, .long 200]) (rest := []) ⟨hx, hb, hml, hown, hts⟩ (ct_X5_in hk l D ca H.size ((nI nn).toInt64) 1 200) (va_cwS 3 hts (lw_S q635 q636 q24 q637) rfl rfl rfl (by decide +kernel) ⟨Nat.le_of_ble_eq_true rfl, Nat.le_of_ble_eq_true rfl⟩) (k_pre hk hK hN hP hD [] (by decide) rfl trivial) rfl rfl hl.1 rfl (lv_room (Nat.le_of_ble_eq_true rfl)) dX5_listed_13 ⟨Nat.le_of_ble_eq_true rfl, Nat.le_of_ble_eq_true rfl⟩) hP hD hS hA [] [0, 1] rfl rfl (by decide) (by decide) (fun r_5 u_6 H locs w_7 hP hD hxw_7 hzw_7 hqw_7 hS => ?_)
  obtain rfl : r_5 = bI (p_in ((nI nn).toInt64) 1 200) := w_7
  refine lv_if_eq (tgt := 23) hx hb dX5_listed_16 (by decide) (fun c_8 => absurd c_8 (by rw [in_nn h1 h2]; decide)) (fun c_8 => ?_)
  refine lv_iload_n hx hb dX5_listed_19 rfl (lv_at hl 3 rfl) ?_
  refine lv_if_ge (tgt := 25) hx hb dX5_listed_20 (by decide) (fun c_9 => ?_) (fun c_9 => absurd ((le_n (a := 0) (b := ww) rfl rfl (by decide) hww).mpr (Nat.zero_le ww)) c_9)
  refine lv_aload_n hx hb dX5_listed_25 rfl (lv_at hl 0 rfl) ?_
  refine lv_iload_n hx hb dX5_listed_26 rfl (lv_at hl 2 rfl) ?_
  refine lv_iconst (v := 0) hx hb dX5_listed_27 (by decide) ?_
  refine lv_iconst (v := (-1)) hx hb dX5_listed_28 (by decide) ?_
  refine k_calli (wr := []) (va_runV (As := [.int (nI nn), .int 0, .int (-1)]) (rest := []) ⟨hx, hb, hml, hown, hts⟩ (ct_X5_go_0 hk l D ca H.size o ad nf mo x nn h1 h2) (cwV 3 hts (lw_V q784 q786 qs16 q24 q787) rfl rfl rfl (by decide +kernel) ⟨Nat.le_of_ble_eq_true rfl, Nat.le_of_ble_eq_true rfl⟩) (k_preV hk hK hN hP hD [0, 1] (by decide) rfl trivial hP rfl (q0 := 0) rfl) rfl rfl hl.1 rfl (lv_room (Nat.le_of_ble_eq_true rfl)) dX5_listed_29 ⟨Nat.le_of_ble_eq_true rfl, Nat.le_of_ble_eq_true rfl⟩) hP hD hS hA [0, 1] [] rfl rfl (by decide) (by decide) (fun r_10 u_11 H locs w_12 hP hD hxw_12 hzw_12 hqw_12 hS => ?_)
  have hP : va_P D vwCl [(o, mO ad nf mo), (ad 8, a4 ca u_11.2)] H := hP
  have hD : va_D A [(o, mO ad nf mo), (ad 8, a4 ca u_11.2)] := hD
  obtain ⟨ew_12, hr1w_12, hr2w_12⟩ := w_12
  subst ew_12
  have hM28 : u_11.1 ≤ 28 := root_le (b := 28) hr1w_12 (by omega)
  obtain ⟨hS1, hS2, hS3⟩ := S0_T h1 h2 hM28 hr2w_12
  have hT9 := (cS_0 (S0 (4 * (nn : Int)) u_11.1)).trans hS1
  refine lv_istore (lv' := [(4, .int (nI (cS 0 (S0 (4 * (nn : Int)) u_11.1)))), (0, .ref o), (1, .int (nI js)), (2, .int (nI nn)), (3, .int (nI ww))]) hx hb dX5_listed_32 hl (by decide) rfl (fun ls hl => ?_)
  refine lv_iload_n hx hb dX5_listed_34 rfl (lv_at hl 4 rfl) ?_
  refine lv_iload hx hb dX5_listed_35 (lv_at hl 0 rfl) ?_
  refine lv_icmp_lt (tgt := 43) hx hb dX5_listed_37 (by decide) (fun c_13 => absurd c_13 (fun z => absurd (lt_y (a := ww) (b := cS 0 (S0 (4 * (nn : Int)) u_11.1)) rfl rfl hww (by omega) z) (by omega))) (fun c_13 => ?_)
  refine lv_bipush (v := (-4)) hx hb dX5_listed_40 (by decide) ?_
  exact k_iret u_11.2 hx hb hr hlocks (rfl) hP hD trivial hS (Nat.le_of_ble_eq_true rfl) (Nat.le_of_ble_eq_true rfl) dX5_listed_42
set_option maxHeartbeats 4000000 in
set_option maxRecDepth 100000 in
theorem ct_X5_listed_y {KN : State → Prop} (hk : KNok KN) (l : Launch) (D : va_G) (ca : Nat → ClassId) (zH : Nat) (o : Nat) (ad : Nat → Nat) (nf mo : Int32) (g : AI) (x : Q4) (js nn ww : Nat) (hjs : js < 16) (h1 : 1 ≤ nn) (h2 : nn ≤ 200) (h3 : ww < 24 * dvS nn 2 nn) : Met l yX5_listed (ws_ yX5_listed cX5_listed 6 (some .int)) ({ frames := 3, cells := 0, slots := 0, locals := 86 }) (va_Pc [.ref o, .int (nI js), .int (nI nn), .int (nI ww)] (pr_ KN D ca [(o, mO ad nf mo), (ad 3, aI ca 64 g), (ad 8, a4 ca x)] zH (fun _ => True))) (qI D (fun (r : Int32) (u : Nat × AI × Q4) => r = 1 ∧ u.2.1 = wq g js (qz ((S0 (4 * (nn : Int)) u.1).getD ww (0, 0, 0, 0))) ∧ u.1 * u.1 ≤ 4 * nn ∧ 4 * nn < (u.1 + 1) * (u.1 + 1)) (fun u => [(o, mO ad nf mo), (ad 3, aI ca 64 u.2.1), (ad 8, a4 ca u.2.2)]) (fun u H => True) (va_A [(o, mO ad nf mo), (ad 3, aI ca 64 g), (ad 8, a4 ca x)] zH)) 0 0 (va_A [(o, mO ad nf mo), (ad 3, aI ca 64 g), (ad 8, a4 ca x)] zH) := by
  refine k_ofW (Qc := qI D (fun (r : Int32) (u : Nat × AI × Q4) => r = 1 ∧ u.2.1 = wq g js (qz ((S0 (4 * (nn : Int)) u.1).getD ww (0, 0, 0, 0))) ∧ u.1 * u.1 ≤ 4 * nn ∧ 4 * nn < (u.1 + 1) * (u.1 + 1)) (fun u => [(o, mO ad nf mo), (ad 3, aI ca 64 u.2.1), (ad 8, a4 ca u.2.2)]) (fun u H => True)) (by decide) (Nat.le_of_ble_eq_true rfl) ?_
  intro p e s m below meth c ls A H hH hx hb hr hts hown hlocks hnm hml hsz hP hD hK hN hA hAn hS hro hl
  have hl : lv_has ls 6 [(0, .ref o), (1, .int (nI js)), (2, .int (nI nn)), (3, .int (nI ww))] := hl
  have hdv := dvS_le nn 2 nn
  have hnn2 := Nat.mul_le_mul h2 h2
  have hww : ww < 2 ^ 31 := by omega
  refine lv_iload_n hx hb dX5_listed_0 rfl (lv_at hl 1 rfl) ?_
  refine k_calli (wr := [(o, mO ad nf mo), (ad 3, aI ca 64 g), (ad 8, a4 ca x)]) (va_runS (As := [.int (nI js)]) (rest := []) ⟨hx, hb, hml, hown, hts⟩ (ct_X5_isRegister hk l D ca H.size (nI js)) (va_cwS 1 hts (lw_S q660 q661 q24 q662) rfl rfl rfl (by decide +kernel) ⟨Nat.le_of_ble_eq_true rfl, Nat.le_of_ble_eq_true rfl⟩) (k_pre hk hK hN hP hD [] (by decide) rfl trivial) rfl rfl hl.1 rfl (lv_room (Nat.le_of_ble_eq_true rfl)) dX5_listed_1 ⟨Nat.le_of_ble_eq_true rfl, Nat.le_of_ble_eq_true rfl⟩) hP hD hS hA [] [0, 1, 2] rfl rfl (by decide) (by decide) (fun r_1 u_2 H locs w_3 hP hD hxw_3 hzw_3 hqw_3 hS => ?_)
  obtain rfl : r_1 = bI (p_in (nI js).toInt64 0 15) := w_3
  refine lv_if_eq (tgt := 23) hx hb dX5_listed_4 (by decide) (fun c_4 => absurd c_4 (by rw [in_15 hjs]; decide)) (fun c_4 => ?_)
  refine lv_iload_n hx hb dX5_listed_7 rfl (lv_at hl 2 rfl) ?_
  refine lv_i2l (v := (nI nn).toInt64) hx hb dX5_listed_8 rfl ?_
  refine lv_lconst (v := 1) hx hb dX5_listed_9 (by decide) ?_
  refine lv_ldc2 hx hb hown (hts _ q783) dX5_listed_10 ?_
  refine k_calli (wr := [(o, mO ad nf mo), (ad 3, aI ca 64 g), (ad 8, a4 ca x)]) (va_runS (As := [.long ((nI nn).toInt64), .long 1, .long 200]) (rest := []) ⟨hx, hb, hml, hown, hts⟩ (ct_X5_in hk l D ca H.size ((nI nn).toInt64) 1 200) (va_cwS 3 hts (lw_S q635 q636 q24 q637) rfl rfl rfl (by decide +kernel) ⟨Nat.le_of_ble_eq_true rfl, Nat.le_of_ble_eq_true rfl⟩) (k_pre hk hK hN hP hD [] (by decide) rfl trivial) rfl rfl hl.1 rfl (lv_room (Nat.le_of_ble_eq_true rfl)) dX5_listed_13 ⟨Nat.le_of_ble_eq_true rfl, Nat.le_of_ble_eq_true rfl⟩) hP hD hS hA [] [0, 1, 2] rfl rfl (by decide) (by decide) (fun r_5 u_6 H locs w_7 hP hD hxw_7 hzw_7 hqw_7 hS => ?_)
  obtain rfl : r_5 = bI (p_in ((nI nn).toInt64) 1 200) := w_7
  refine lv_if_eq (tgt := 23) hx hb dX5_listed_16 (by decide) (fun c_8 => absurd c_8 (by rw [in_nn h1 h2]; decide)) (fun c_8 => ?_)
  refine lv_iload_n hx hb dX5_listed_19 rfl (lv_at hl 3 rfl) ?_
  refine lv_if_ge (tgt := 25) hx hb dX5_listed_20 (by decide) (fun c_9 => ?_) (fun c_9 => absurd ((le_n (a := 0) (b := ww) rfl rfl (by decide) hww).mpr (Nat.zero_le ww)) c_9)
  refine lv_aload_n hx hb dX5_listed_25 rfl (lv_at hl 0 rfl) ?_
  refine lv_iload_n hx hb dX5_listed_26 rfl (lv_at hl 2 rfl) ?_
  refine lv_iconst (v := 0) hx hb dX5_listed_27 (by decide) ?_
  refine lv_iconst (v := (-1)) hx hb dX5_listed_28 (by decide) ?_
  refine k_calli (wr := [(ad 3, aI ca 64 g)]) (va_runV (As := [.int (nI nn), .int 0, .int (-1)]) (rest := []) ⟨hx, hb, hml, hown, hts⟩ (ct_X5_go_0 hk l D ca H.size o ad nf mo x nn h1 h2) (cwV 3 hts (lw_V q784 q786 qs16 q24 q787) rfl rfl rfl (by decide +kernel) ⟨Nat.le_of_ble_eq_true rfl, Nat.le_of_ble_eq_true rfl⟩) (k_preV hk hK hN hP hD [0, 2] (by decide) rfl trivial hP rfl (q0 := 0) rfl) rfl rfl hl.1 rfl (lv_room (Nat.le_of_ble_eq_true rfl)) dX5_listed_29 ⟨Nat.le_of_ble_eq_true rfl, Nat.le_of_ble_eq_true rfl⟩) hP hD hS hA [0, 2] [1] rfl rfl (by decide) (by decide) (fun r_10 u_11 H locs w_12 hP hD hxw_12 hzw_12 hqw_12 hS => ?_)
  have hP : va_P D vwCl [(ad 3, aI ca 64 g), (o, mO ad nf mo), (ad 8, a4 ca u_11.2)] H := hP
  have hD : va_D A [(ad 3, aI ca 64 g), (o, mO ad nf mo), (ad 8, a4 ca u_11.2)] := hD
  obtain ⟨ew_12, hr1w_12, hr2w_12⟩ := w_12
  subst ew_12
  have hM28 : u_11.1 ≤ 28 := root_le (b := 28) hr1w_12 (by omega)
  obtain ⟨hS1, hS2, hS3⟩ := S0_T h1 h2 hM28 hr2w_12
  have hT9 := (cS_0 (S0 (4 * (nn : Int)) u_11.1)).trans hS1
  refine lv_istore (lv' := [(4, .int (nI (cS 0 (S0 (4 * (nn : Int)) u_11.1)))), (0, .ref o), (1, .int (nI js)), (2, .int (nI nn)), (3, .int (nI ww))]) hx hb dX5_listed_32 hl (by decide) rfl (fun ls hl => ?_)
  refine lv_iload_n hx hb dX5_listed_34 rfl (lv_at hl 4 rfl) ?_
  refine lv_iload hx hb dX5_listed_35 (lv_at hl 0 rfl) ?_
  refine lv_icmp_lt (tgt := 43) hx hb dX5_listed_37 (by decide) (fun c_13 => ?_) (fun c_13 => absurd ((lt_n (a := ww) (b := cS 0 (S0 (4 * (nn : Int)) u_11.1)) rfl rfl hww (by omega)).mpr (by omega)) c_13)
  refine lv_aload_n hx hb dX5_listed_43 rfl (lv_at hl 1 rfl) ?_
  refine lv_iload_n hx hb dX5_listed_44 rfl (lv_at hl 3 rfl) ?_
  refine lv_iconst (v := 0) hx hb dX5_listed_45 (by decide) ?_
  refine lv_iload_n hx hb dX5_listed_46 rfl (lv_at hl 4 rfl) ?_
  refine k_calli (wr := [(ad 3, aI ca 64 g)]) (va_runV (As := [.int (nI nn), .int 0, .int (nI ww)]) (rest := []) ⟨hx, hb, hml, hown, hts⟩ (ct_X5_go_y hk l D ca H.size o ad nf mo u_11.2 nn ww h1 h2 h3) (cwV 3 hts (lw_V q784 q786 qs16 q24 q787) rfl rfl rfl (by decide +kernel) ⟨Nat.le_of_ble_eq_true rfl, Nat.le_of_ble_eq_true rfl⟩) (k_preV hk hK hN hP hD [1, 2] (by decide) rfl trivial hP rfl (q0 := 1) rfl) rfl rfl hl.1 rfl (lv_room (Nat.le_of_ble_eq_true rfl)) dX5_listed_47 ⟨Nat.le_of_ble_eq_true rfl, Nat.le_of_ble_eq_true rfl⟩) hP hD hS hA [1, 2] [0] rfl rfl (by decide) (by decide) (fun r_14 u_15 H locs w_16 hP hD hxw_16 hzw_16 hqw_16 hS => ?_)
  have hP : va_P D vwCl [(ad 3, aI ca 64 g), (o, mO ad nf mo), (ad 8, a4 ca u_15.2)] H := hP
  have hD : va_D A [(ad 3, aI ca 64 g), (o, mO ad nf mo), (ad 8, a4 ca u_15.2)] := hD
  obtain ⟨ew_16, hx8w_16, hr1w_16, hr2w_16⟩ := w_16
  subst ew_16
  refine lv_istore (lv' := [(5, .int (nI ww)), (4, .int (nI (cS 0 (S0 (4 * (nn : Int)) u_11.1)))), (0, .ref o), (1, .int (nI js)), (2, .int (nI nn)), (3, .int (nI ww))]) hx hb dX5_listed_50 hl (by decide) rfl (fun ls hl => ?_)
  refine lv_aload_n hx hb dX5_listed_52 rfl (lv_at hl 2 rfl) ?_
  refine lv_iload_n hx hb dX5_listed_53 rfl (lv_at hl 3 rfl) ?_
  refine lv_aload_n hx hb dX5_listed_54 rfl (lv_at hl 2 rfl) ?_
  refine va_get (D := D) (ci := 4) (v := .ref (ad 8)) (C := RX5) (T := TX5) (N := 18) hx hb hts in_X5 hown hK hP 1 rfl rfl 8 (by decide) (hts _ q581) (fun _ h9 => h9) rfl dX5_listed_55 ?_
  refine k_callv (wr := []) (va_runV (As := [.int (nI js), .ref (ad 8)]) (rest := []) ⟨hx, hb, hml, hown, hts⟩ (ct_X5_store hk l D ca H.size o ad nf mo (ad 8) g u_15.2 js (by omega)) (cwV 2 hts (lw_V q684 q686 qs9 q24 q687) rfl rfl rfl (by decide +kernel) ⟨Nat.le_of_ble_eq_true rfl, Nat.le_of_ble_eq_true rfl⟩) (k_preV hk hK hN hP hD [1, 0, 2] (by decide) rfl trivial hP rfl (q0 := 1) rfl) rfl rfl hl.1 rfl (lv_room (Nat.le_of_ble_eq_true rfl)) dX5_listed_58 ⟨Nat.le_of_ble_eq_true rfl, Nat.le_of_ble_eq_true rfl⟩) hP hD hS hA [1, 0, 2] [] rfl rfl (by decide) (by decide) (fun u_18 H locs w_19 hP hD hxw_19 hzw_19 hqw_19 hS => ?_)
  have hP : va_P D vwCl [(o, mO ad nf mo), (ad 3, aI ca 64 (wq g js u_15.2)), (ad 8, a4 ca u_15.2)] H := hP
  have hD : va_D A [(o, mO ad nf mo), (ad 3, aI ca 64 (wq g js u_15.2)), (ad 8, a4 ca u_15.2)] := hD
  refine lv_iconst (v := 1) hx hb dX5_listed_61 (by decide) ?_
  exact k_iret (u_15.1, (wq g js u_15.2), u_15.2) hx hb hr hlocks (⟨rfl, by rw [← hx8w_16], hr1w_16, hr2w_16⟩) hP hD trivial hS (Nat.le_of_ble_eq_true rfl) (Nat.le_of_ble_eq_true rfl) dX5_listed_62
