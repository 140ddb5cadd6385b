set_option maxHeartbeats 4000000 in
set_option maxRecDepth 100000 in
theorem ct_X0_copy_0 (l : Launch) (hl0 : l.stackTraces = false) (D : va_G) (ca : Nat → ClassId) (zH : Nat) (xo : Nat) (r0 t0 : Int32) (i0 j0 z0 : Int32) (h1 : p_in r0.toInt64 0 5 = false) : vx_Met l yX0_copy (wsH_ yX0_copy cX0_copy 7 (some .int) [((37 : Nat), (58 : Nat), (59 : Nat), (37 : Nat)), ((37 : Nat), (58 : Nat), (64 : Nat), (55 : Nat))]) ({ frames := 2, cells := 0, slots := 0, locals := 45 }) (va_Pc [.ref xo, .int r0, .int i0, .int t0, .int j0, .int z0] (prX NW D ca [] zH (fun _ => True))) (qI D (fun (r : Int32) (u : Unit) => r = -1) (fun u => []) (fun u H => True) (va_A [] zH)) noX 0 0 (va_A [] zH) := by
  have hk := NW_ok
  refine k_ofH (Qc := qI D (fun (r : Int32) (u : Unit) => r = -1) (fun u => []) (fun u H => True)) (by decide) (Nat.le_of_ble_eq_true rfl) ?_
  intro p e s m below meth c ls A H hH hx hb hr hts hown hlocks hnm hml hsz hP hD hK hN hA hAn hS hro hl hX hZ htb
  have hl : lv_has ls 7 [(0, .ref xo), (1, .int r0), (2, .int i0), (3, .int t0), (4, .int j0), (5, .int z0)] := hl
  refine lv_iload_n hx hb dX0_copy_0 rfl (lv_at hl 1 rfl) ?_
  refine k_calli (wr := []) (va_runS (As := [.int r0]) (rest := []) ⟨hx, hb, hml, hown, hts⟩ (ct_X0_isSheet hk l D ca H.size r0) (va_cwS 1 hts (lw_S q127 q128 q19 q129) rfl rfl rfl (by decide +kernel) ⟨Nat.le_of_ble_eq_true rfl, Nat.le_of_ble_eq_true rfl⟩) (k_pre hk hK hN hP hD [] (by decide) rfl trivial) rfl rfl hl.1 rfl (lv_room (Nat.le_of_ble_eq_true rfl)) dX0_copy_1 ⟨Nat.le_of_ble_eq_true rfl, Nat.le_of_ble_eq_true rfl⟩) hP hD hS hA [] [] rfl rfl (by decide) (by decide) (fun r_1 u_2 H locs w_3 hP hD hxw_3 hzw_3 hqw_3 hS => ?_)
  obtain rfl : r_1 = bI (p_in r0.toInt64 0 5) := w_3
  refine lv_if_eq (tgt := 14) hx hb dX0_copy_4 (by decide) (fun c_4 => ?_) (fun c_4 => absurd (by rw [h1]; rfl) c_4)
  refine lv_iconst (v := (-1)) hx hb dX0_copy_14 (by decide) ?_
  refine vx_ret ?_
  exact k_iret () hx hb hr hlocks (rfl) hP hD trivial hS (Nat.le_of_ble_eq_true rfl) (Nat.le_of_ble_eq_true rfl) dX0_copy_15
set_option maxHeartbeats 4000000 in
set_option maxRecDepth 100000 in
theorem ct_X0_copy_1 (l : Launch) (hl0 : l.stackTraces = false) (D : va_G) (ca : Nat → ClassId) (zH : Nat) (xo j : Nat) (t0 : Int32) (i0 j0 z0 : Int32) (hj : j < 6) (h1 : p_in t0.toInt64 0 5 = false) : vx_Met l yX0_copy (wsH_ yX0_copy cX0_copy 7 (some .int) [((37 : Nat), (58 : Nat), (59 : Nat), (37 : Nat)), ((37 : Nat), (58 : Nat), (64 : Nat), (55 : Nat))]) ({ frames := 2, cells := 0, slots := 0, locals := 45 }) (va_Pc [.ref xo, .int (nI j), .int i0, .int t0, .int j0, .int z0] (prX NW D ca [] zH (fun _ => True))) (qI D (fun (r : Int32) (u : Unit) => r = -1) (fun u => []) (fun u H => True) (va_A [] zH)) noX 0 0 (va_A [] zH) := by
  have hk := NW_ok
  refine k_ofH (Qc := qI D (fun (r : Int32) (u : Unit) => r = -1) (fun u => []) (fun u H => True)) (by decide) (Nat.le_of_ble_eq_true rfl) ?_
  intro p e s m below meth c ls A H hH hx hb hr hts hown hlocks hnm hml hsz hP hD hK hN hA hAn hS hro hl hX hZ htb
  have hl : lv_has ls 7 [(0, .ref xo), (1, .int (nI j)), (2, .int i0), (3, .int t0), (4, .int j0), (5, .int z0)] := hl
  refine lv_iload_n hx hb dX0_copy_0 rfl (lv_at hl 1 rfl) ?_
  refine k_calli (wr := []) (va_runS (As := [.int (nI j)]) (rest := []) ⟨hx, hb, hml, hown, hts⟩ (ct_X0_isSheet hk l D ca H.size (nI j)) (va_cwS 1 hts (lw_S q127 q128 q19 q129) rfl rfl rfl (by decide +kernel) ⟨Nat.le_of_ble_eq_true rfl, Nat.le_of_ble_eq_true rfl⟩) (k_pre hk hK hN hP hD [] (by decide) rfl trivial) rfl rfl hl.1 rfl (lv_room (Nat.le_of_ble_eq_true rfl)) dX0_copy_1 ⟨Nat.le_of_ble_eq_true rfl, Nat.le_of_ble_eq_true rfl⟩) hP hD hS hA [] [] rfl rfl (by decide) (by decide) (fun r_1 u_2 H locs w_3 hP hD hxw_3 hzw_3 hqw_3 hS => ?_)
  obtain rfl : r_1 = bI (p_in (nI j).toInt64 0 5) := w_3
  refine lv_if_eq (tgt := 14) hx hb dX0_copy_4 (by decide) (fun c_4 => absurd c_4 (by rw [in_5 hj]; decide)) (fun c_4 => ?_)
  refine lv_iload_n hx hb dX0_copy_7 rfl (lv_at hl 3 rfl) ?_
  refine k_calli (wr := []) (va_runS (As := [.int t0]) (rest := []) ⟨hx, hb, hml, hown, hts⟩ (ct_X0_isSheet hk l D ca H.size t0) (va_cwS 1 hts (lw_S q127 q128 q19 q129) rfl rfl rfl (by decide +kernel) ⟨Nat.le_of_ble_eq_true rfl, Nat.le_of_ble_eq_true rfl⟩) (k_pre hk hK hN hP hD [] (by decide) rfl trivial) rfl rfl hl.1 rfl (lv_room (Nat.le_of_ble_eq_true rfl)) dX0_copy_8 ⟨Nat.le_of_ble_eq_true rfl, Nat.le_of_ble_eq_true rfl⟩) hP hD hS hA [] [] rfl rfl (by decide) (by decide) (fun r_5 u_6 H locs w_7 hP hD hxw_7 hzw_7 hqw_7 hS => ?_)
  obtain rfl : r_5 = bI (p_in t0.toInt64 0 5) := w_7
  refine lv_if_ne (tgt := 16) hx hb dX0_copy_11 (by decide) (fun c_8 => absurd (by rw [h1]; decide) c_8) (fun c_8 => ?_)
  refine lv_iconst (v := (-1)) hx hb dX0_copy_14 (by decide) ?_
  refine vx_ret ?_
  exact k_iret () hx hb hr hlocks (rfl) hP hD trivial hS (Nat.le_of_ble_eq_true rfl) (Nat.le_of_ble_eq_true rfl) dX0_copy_15
set_option maxHeartbeats 4000000 in
set_option maxRecDepth 100000 in
theorem ct_X0_copy_NN (l : Launch) (hl0 : l.stackTraces = false) (D : va_G) (ca : Nat → ClassId) (zH : Nat) (xo xs xu xd xr xf : Nat) (sa : Nat → Option Nat) (j k : Nat) (i0 j0 z0 : Int32) (hj : j < 6) (hj2 : k < 6) (hs : sa j = none) (ht : sa k = none) : vx_Met l yX0_copy (wsH_ yX0_copy cX0_copy 7 (some .int) [((37 : Nat), (58 : Nat), (59 : Nat), (37 : Nat)), ((37 : Nat), (58 : Nat), (64 : Nat), (55 : Nat))]) ({ frames := 12, cells := 1, slots := 8, locals := 10400 }) (va_Pc [.ref xo, .int (nI j), .int i0, .int (nI k), .int j0, .int z0] (prX NW D ca [(xo, oX xs xu xd xr xf), (xs, rA ca 3 6 sa)] zH (fun _ => True))) (qI D (fun (r : Int32) (u : Unit) => r = -11) (fun u => [(xo, oX xs xu xd xr xf), (xs, rA ca 3 6 sa)]) (fun u H => True) (va_A [(xo, oX xs xu xd xr xf), (xs, rA ca 3 6 sa)] zH)) noX 1 8 (va_A [(xo, oX xs xu xd xr xf), (xs, rA ca 3 6 sa)] zH) := by
  have hk := NW_ok
  refine k_ofH (Qc := qI D (fun (r : Int32) (u : Unit) => r = -11) (fun u => [(xo, oX xs xu xd xr xf), (xs, rA ca 3 6 sa)]) (fun u H => True)) (by decide) (Nat.le_of_ble_eq_true rfl) ?_
  intro p e s m below meth c ls A H hH hx hb hr hts hown hlocks hnm hml hsz hP hD hK hN hA hAn hS hro hl hX hZ htb
  have hl : lv_has ls 7 [(0, .ref xo), (1, .int (nI j)), (2, .int i0), (3, .int (nI k)), (4, .int j0), (5, .int z0)] := hl
  refine lv_iload_n hx hb dX0_copy_0 rfl (lv_at hl 1 rfl) ?_
  refine k_calli (wr := [(xo, oX xs xu xd xr xf), (xs, rA ca 3 6 sa)]) (va_runS (As := [.int (nI j)]) (rest := []) ⟨hx, hb, hml, hown, hts⟩ (ct_X0_isSheet hk l D ca H.size (nI j)) (va_cwS 1 hts (lw_S q127 q128 q19 q129) rfl rfl rfl (by decide +kernel) ⟨Nat.le_of_ble_eq_true rfl, Nat.le_of_ble_eq_true rfl⟩) (k_pre hk hK hN hP hD [] (by decide) rfl trivial) rfl rfl hl.1 rfl (lv_room (Nat.le_of_ble_eq_true rfl)) dX0_copy_1 ⟨Nat.le_of_ble_eq_true rfl, Nat.le_of_ble_eq_true rfl⟩) hP hD hS hA [] [0, 1] rfl rfl (by decide) (by decide) (fun r_1 u_2 H locs w_3 hP hD hxw_3 hzw_3 hqw_3 hS => ?_)
  obtain rfl : r_1 = bI (p_in (nI j).toInt64 0 5) := w_3
  refine lv_if_eq (tgt := 14) hx hb dX0_copy_4 (by decide) (fun c_4 => absurd c_4 (by rw [in_5 hj]; decide)) (fun c_4 => ?_)
  refine lv_iload_n hx hb dX0_copy_7 rfl (lv_at hl 3 rfl) ?_
  refine k_calli (wr := [(xo, oX xs xu xd xr xf), (xs, rA ca 3 6 sa)]) (va_runS (As := [.int (nI k)]) (rest := []) ⟨hx, hb, hml, hown, hts⟩ (ct_X0_isSheet hk l D ca H.size (nI k)) (va_cwS 1 hts (lw_S q127 q128 q19 q129) rfl rfl rfl (by decide +kernel) ⟨Nat.le_of_ble_eq_true rfl, Nat.le_of_ble_eq_true rfl⟩) (k_pre hk hK hN hP hD [] (by decide) rfl trivial) rfl rfl hl.1 rfl (lv_room (Nat.le_of_ble_eq_true rfl)) dX0_copy_8 ⟨Nat.le_of_ble_eq_true rfl, Nat.le_of_ble_eq_true rfl⟩) hP hD hS hA [] [0, 1] rfl rfl (by decide) (by decide) (fun r_5 u_6 H locs w_7 hP hD hxw_7 hzw_7 hqw_7 hS => ?_)
  obtain rfl : r_5 = bI (p_in (nI k).toInt64 0 5) := w_7
  refine lv_if_ne (tgt := 16) hx hb dX0_copy_11 (by decide) (fun c_8 => ?_) (fun c_8 => absurd c_8 (by rw [in_5 hj2]; decide))
  refine lv_aload_n hx hb dX0_copy_16 rfl (lv_at hl 0 rfl) ?_
  refine va_get (D := D) (ci := 0) (v := .ref xs) (C := RX0) (T := TX0) (N := 5) hx hb hts in_X0 hown hK hP 0 rfl rfl 0 (by decide) (hts _ q293) (fun _ h9 => h9) rfl dX0_copy_17 ?_
  refine lv_iload_n hx hb dX0_copy_20 rfl (lv_at hl 1 rfl) ?_
  refine va_aldq hx hb hK hP 1 3 rfl rfl (vin_nI (a := j) rfl (by omega) (by decide)) dX0_copy_21 ?_
  refine W.eq (g2 := F0 m 22 ls [.null]) (by rw [nI_clamp (show j < 2 ^ 31 by omega), hs]; rfl) ?_
  refine lv_aload_n hx hb dX0_copy_22 rfl (lv_at hl 0 rfl) ?_
  refine va_get (D := D) (ci := 0) (v := .ref xs) (C := RX0) (T := TX0) (N := 5) hx hb hts in_X0 hown hK hP 0 rfl rfl 0 (by decide) (hts _ q293) (fun _ h9 => h9) rfl dX0_copy_23 ?_
  refine lv_iload_n hx hb dX0_copy_26 rfl (lv_at hl 3 rfl) ?_
  refine va_aldq hx hb hK hP 1 3 rfl rfl (vin_nI (a := k) rfl (by omega) (by decide)) dX0_copy_27 ?_
  refine W.eq (g2 := F0 m 28 ls [.null, .null]) (by rw [nI_clamp (show k < 2 ^ 31 by omega), ht]; rfl) ?_
  refine k_calli (wr := [(xo, oX xs xu xd xr xf), (xs, rA ca 3 6 sa)]) (va_runS (As := [.null, .null]) (rest := []) ⟨hx, hb, hml, hown, hts⟩ (ct_X0_areUnlike_NN l D ca H.size ) (va_cwS 2 hts (lw_S q206 q207 q19 q208) rfl rfl rfl (by decide +kernel) ⟨Nat.le_of_ble_eq_true rfl, Nat.le_of_ble_eq_true rfl⟩) (k_pre hk hK hN hP hD [] (by decide) rfl trivial) rfl rfl hl.1 rfl (lv_room (Nat.le_of_ble_eq_true rfl)) dX0_copy_28 ⟨Nat.le_of_ble_eq_true rfl, Nat.le_of_ble_eq_true rfl⟩) hP hD hS hA [] [0, 1] rfl rfl (by decide) (by decide) (fun r_9 u_10 H locs w_11 hP hD hxw_11 hzw_11 hqw_11 hS => ?_)
  obtain rfl : r_9 = bI false := w_11
  refine lv_if_eq (tgt := 37) hx hb dX0_copy_31 (by decide) (fun c_12 => ?_) (fun c_12 => absurd rfl c_12)
  refine lv_aload_n hx hb dX0_copy_37 rfl (lv_at hl 0 rfl) ?_
  refine va_get (D := D) (ci := 0) (v := .ref xs) (C := RX0) (T := TX0) (N := 5) hx hb hts in_X0 hown hK hP 0 rfl rfl 0 (by decide) (hts _ q293) (fun _ h9 => h9) rfl dX0_copy_38 ?_
  refine lv_iload_n hx hb dX0_copy_41 rfl (lv_at hl 1 rfl) ?_
  refine va_aldq hx hb hK hP 1 3 rfl rfl (vin_nI (a := j) rfl (by omega) (by decide)) dX0_copy_42 ?_
  refine W.eq (g2 := F0 m 43 ls [.null]) (by rw [nI_clamp (show j < 2 ^ 31 by omega), hs]; rfl) ?_
  refine lv_iload_n hx hb dX0_copy_43 rfl (lv_at hl 2 rfl) ?_
  refine lv_aload_n hx hb dX0_copy_44 rfl (lv_at hl 0 rfl) ?_
  refine va_get (D := D) (ci := 0) (v := .ref xs) (C := RX0) (T := TX0) (N := 5) hx hb hts in_X0 hown hK hP 0 rfl rfl 0 (by decide) (hts _ q293) (fun _ h9 => h9) rfl dX0_copy_45 ?_
  refine lv_iload_n hx hb dX0_copy_48 rfl (lv_at hl 3 rfl) ?_
  refine va_aldq hx hb hK hP 1 3 rfl rfl (vin_nI (a := k) rfl (by omega) (by decide)) dX0_copy_49 ?_
  refine W.eq (g2 := F0 m 50 ls [.null, .int i0, .null]) (by rw [nI_clamp (show k < 2 ^ 31 by omega), ht]; rfl) ?_
  refine lv_iload hx hb dX0_copy_50 (lv_at hl 4 rfl) ?_
  refine lv_iload hx hb dX0_copy_52 (lv_at hl 5 rfl) ?_
  refine nt_cpN (x := none) (y := none) hx hb (hml.trans hl.1.symm) hown (hts _ q212) (hts _ q214) (hts _ q213) (hts _ q33) (Or.inl rfl) (Nat.le_of_ble_eq_true rfl) (by decide) dX0_copy_54 (nt_noteN (nb := 8) hx hl0 (nx_of nx_N hts hX) nx_oN hZ.1 hZ.2 hS (by rw [hml]; exact hl.1) (Nat.le_of_ble_eq_true rfl) (Nat.le_of_ble_eq_true rfl) (Nat.le_of_ble_eq_true rfl) (Nat.le_of_ble_eq_true rfl)) (fun H9 q9 ce hz h9 hce hcv hcl => ?_)
  have hS := vs_same hS hz h9
  have hPz := vp_same hP (h9)
  clear hP
  have hP := hPz
  clear hPz
  obtain ⟨H, rfl⟩ : ∃ z, z = H9 := ⟨_, rfl⟩
  have hP : va_P D vwCl [(xo, oX xs xu xd xr xf), (xs, rA ca 3 6 sa)] H := hP
  have hD : va_D A [(xo, oX xs xu xd xr xf), (xs, rA ca 3 6 sa)] := hD
  refine vx_catch (E := "java/lang/NullPointerException") (name := "java/lang/NullPointerException") hown [] (⟨37, 58, 59, 37⟩ : ExceptionTableEntry) [(⟨37, 58, 64, 55⟩ : ExceptionTableEntry)] (by rw [htb]; rfl) (fun z hz => absurd hz List.not_mem_nil) (by decide) (by decide) (hts _ q145) (va_Nw.use rfl (hN.2.2.2.1 _ (List.mem_of_getElem? (i := 6) rfl))) hce hcv hcl ?_
  refine lv_astore (lv' := [(6, .ref q9), (0, .ref xo), (1, .int (nI j)), (2, .int i0), (3, .int (nI k)), (4, .int j0), (5, .int z0)]) hx hb dX0_copy_59 hl (by decide) rfl (fun ls hl => ?_)
  refine lv_bipush (v := (-11)) hx hb dX0_copy_61 (by decide) ?_
  refine vx_ret ?_
  exact k_iret () hx hb hr hlocks (rfl) hP hD trivial hS (Nat.le_of_ble_eq_true rfl) (Nat.le_of_ble_eq_true rfl) dX0_copy_63
set_option maxHeartbeats 4000000 in
set_option maxRecDepth 100000 in
theorem ct_X0_copy_NR (l : Launch) (hl0 : l.stackTraces = false) (D : va_G) (ca : Nat → ClassId) (zH : Nat) (xo xs xu xd xr xf : Nat) (sa : Nat → Option Nat) (j k rw : Nat) (i0 j0 z0 : Int32) (hj : j < 6) (hj2 : k < 6) (hs : sa j = none) (ht : sa k = some rw) : vx_Met l yX0_copy (wsH_ yX0_copy cX0_copy 7 (some .int) [((37 : Nat), (58 : Nat), (59 : Nat), (37 : Nat)), ((37 : Nat), (58 : Nat), (64 : Nat), (55 : Nat))]) ({ frames := 12, cells := 1, slots := 8, locals := 10400 }) (va_Pc [.ref xo, .int (nI j), .int i0, .int (nI k), .int j0, .int z0] (prX NW D ca [(xo, oX xs xu xd xr xf), (xs, rA ca 3 6 sa)] zH (fun _ => True))) (qI D (fun (r : Int32) (u : Unit) => r = -11) (fun u => [(xo, oX xs xu xd xr xf), (xs, rA ca 3 6 sa)]) (fun u H => True) (va_A [(xo, oX xs xu xd xr xf), (xs, rA ca 3 6 sa)] zH)) noX 1 8 (va_A [(xo, oX xs xu xd xr xf), (xs, rA ca 3 6 sa)] zH) := by
  have hk := NW_ok
  refine k_ofH (Qc := qI D (fun (r : Int32) (u : Unit) => r = -11) (fun u => [(xo, oX xs xu xd xr xf), (xs, rA ca 3 6 sa)]) (fun u H => True)) (by decide) (Nat.le_of_ble_eq_true rfl) ?_
  intro p e s m below meth c ls A H hH hx hb hr hts hown hlocks hnm hml hsz hP hD hK hN hA hAn hS hro hl hX hZ htb
  have hl : lv_has ls 7 [(0, .ref xo), (1, .int (nI j)), (2, .int i0), (3, .int (nI k)), (4, .int j0), (5, .int z0)] := hl
  refine lv_iload_n hx hb dX0_copy_0 rfl (lv_at hl 1 rfl) ?_
  refine k_calli (wr := [(xo, oX xs xu xd xr xf), (xs, rA ca 3 6 sa)]) (va_runS (As := [.int (nI j)]) (rest := []) ⟨hx, hb, hml, hown, hts⟩ (ct_X0_isSheet hk l D ca H.size (nI j)) (va_cwS 1 hts (lw_S q127 q128 q19 q129) rfl rfl rfl (by decide +kernel) ⟨Nat.le_of_ble_eq_true rfl, Nat.le_of_ble_eq_true rfl⟩) (k_pre hk hK hN hP hD [] (by decide) rfl trivial) rfl rfl hl.1 rfl (lv_room (Nat.le_of_ble_eq_true rfl)) dX0_copy_1 ⟨Nat.le_of_ble_eq_true rfl, Nat.le_of_ble_eq_true rfl⟩) hP hD hS hA [] [0, 1] rfl rfl (by decide) (by decide) (fun r_1 u_2 H locs w_3 hP hD hxw_3 hzw_3 hqw_3 hS => ?_)
  obtain rfl : r_1 = bI (p_in (nI j).toInt64 0 5) := w_3
  refine lv_if_eq (tgt := 14) hx hb dX0_copy_4 (by decide) (fun c_4 => absurd c_4 (by rw [in_5 hj]; decide)) (fun c_4 => ?_)
  refine lv_iload_n hx hb dX0_copy_7 rfl (lv_at hl 3 rfl) ?_
  refine k_calli (wr := [(xo, oX xs xu xd xr xf), (xs, rA ca 3 6 sa)]) (va_runS (As := [.int (nI k)]) (rest := []) ⟨hx, hb, hml, hown, hts⟩ (ct_X0_isSheet hk l D ca H.size (nI k)) (va_cwS 1 hts (lw_S q127 q128 q19 q129) rfl rfl rfl (by decide +kernel) ⟨Nat.le_of_ble_eq_true rfl, Nat.le_of_ble_eq_true rfl⟩) (k_pre hk hK hN hP hD [] (by decide) rfl trivial) rfl rfl hl.1 rfl (lv_room (Nat.le_of_ble_eq_true rfl)) dX0_copy_8 ⟨Nat.le_of_ble_eq_true rfl, Nat.le_of_ble_eq_true rfl⟩) hP hD hS hA [] [0, 1] rfl rfl (by decide) (by decide) (fun r_5 u_6 H locs w_7 hP hD hxw_7 hzw_7 hqw_7 hS => ?_)
  obtain rfl : r_5 = bI (p_in (nI k).toInt64 0 5) := w_7
  refine lv_if_ne (tgt := 16) hx hb dX0_copy_11 (by decide) (fun c_8 => ?_) (fun c_8 => absurd c_8 (by rw [in_5 hj2]; decide))
  refine lv_aload_n hx hb dX0_copy_16 rfl (lv_at hl 0 rfl) ?_
  refine va_get (D := D) (ci := 0) (v := .ref xs) (C := RX0) (T := TX0) (N := 5) hx hb hts in_X0 hown hK hP 0 rfl rfl 0 (by decide) (hts _ q293) (fun _ h9 => h9) rfl dX0_copy_17 ?_
  refine lv_iload_n hx hb dX0_copy_20 rfl (lv_at hl 1 rfl) ?_
  refine va_aldq hx hb hK hP 1 3 rfl rfl (vin_nI (a := j) rfl (by omega) (by decide)) dX0_copy_21 ?_
  refine W.eq (g2 := F0 m 22 ls [.null]) (by rw [nI_clamp (show j < 2 ^ 31 by omega), hs]; rfl) ?_
  refine lv_aload_n hx hb dX0_copy_22 rfl (lv_at hl 0 rfl) ?_
  refine va_get (D := D) (ci := 0) (v := .ref xs) (C := RX0) (T := TX0) (N := 5) hx hb hts in_X0 hown hK hP 0 rfl rfl 0 (by decide) (hts _ q293) (fun _ h9 => h9) rfl dX0_copy_23 ?_
  refine lv_iload_n hx hb dX0_copy_26 rfl (lv_at hl 3 rfl) ?_
  refine va_aldq hx hb hK hP 1 3 rfl rfl (vin_nI (a := k) rfl (by omega) (by decide)) dX0_copy_27 ?_
  refine W.eq (g2 := F0 m 28 ls [.ref rw, .null]) (by rw [nI_clamp (show k < 2 ^ 31 by omega), ht]; rfl) ?_
  refine k_calli (wr := [(xo, oX xs xu xd xr xf), (xs, rA ca 3 6 sa)]) (va_runS (As := [.null, .ref rw]) (rest := []) ⟨hx, hb, hml, hown, hts⟩ (ct_X0_areUnlike_NR l D ca H.size rw) (va_cwS 2 hts (lw_S q206 q207 q19 q208) rfl rfl rfl (by decide +kernel) ⟨Nat.le_of_ble_eq_true rfl, Nat.le_of_ble_eq_true rfl⟩) (k_pre hk hK hN hP hD [] (by decide) rfl trivial) rfl rfl hl.1 rfl (lv_room (Nat.le_of_ble_eq_true rfl)) dX0_copy_28 ⟨Nat.le_of_ble_eq_true rfl, Nat.le_of_ble_eq_true rfl⟩) hP hD hS hA [] [0, 1] rfl rfl (by decide) (by decide) (fun r_9 u_10 H locs w_11 hP hD hxw_11 hzw_11 hqw_11 hS => ?_)
  obtain rfl : r_9 = bI false := w_11
  refine lv_if_eq (tgt := 37) hx hb dX0_copy_31 (by decide) (fun c_12 => ?_) (fun c_12 => absurd rfl c_12)
  refine lv_aload_n hx hb dX0_copy_37 rfl (lv_at hl 0 rfl) ?_
  refine va_get (D := D) (ci := 0) (v := .ref xs) (C := RX0) (T := TX0) (N := 5) hx hb hts in_X0 hown hK hP 0 rfl rfl 0 (by decide) (hts _ q293) (fun _ h9 => h9) rfl dX0_copy_38 ?_
  refine lv_iload_n hx hb dX0_copy_41 rfl (lv_at hl 1 rfl) ?_
  refine va_aldq hx hb hK hP 1 3 rfl rfl (vin_nI (a := j) rfl (by omega) (by decide)) dX0_copy_42 ?_
  refine W.eq (g2 := F0 m 43 ls [.null]) (by rw [nI_clamp (show j < 2 ^ 31 by omega), hs]; rfl) ?_
  refine lv_iload_n hx hb dX0_copy_43 rfl (lv_at hl 2 rfl) ?_
  refine lv_aload_n hx hb dX0_copy_44 rfl (lv_at hl 0 rfl) ?_
  refine va_get (D := D) (ci := 0) (v := .ref xs) (C := RX0) (T := TX0) (N := 5) hx hb hts in_X0 hown hK hP 0 rfl rfl 0 (by decide) (hts _ q293) (fun _ h9 => h9) rfl dX0_copy_45 ?_
  refine lv_iload_n hx hb dX0_copy_48 rfl (lv_at hl 3 rfl) ?_
  refine va_aldq hx hb hK hP 1 3 rfl rfl (vin_nI (a := k) rfl (by omega) (by decide)) dX0_copy_49 ?_
  refine W.eq (g2 := F0 m 50 ls [.ref rw, .int i0, .null]) (by rw [nI_clamp (show k < 2 ^ 31 by omega), ht]; rfl) ?_
  refine lv_iload hx hb dX0_copy_50 (lv_at hl 4 rfl) ?_
  refine lv_iload hx hb dX0_copy_52 (lv_at hl 5 rfl) ?_
  refine nt_cpN (x := none) (y := (some rw)) hx hb (hml.trans hl.1.symm) hown (hts _ q212) (hts _ q214) (hts _ q213) (hts _ q33) (Or.inl rfl) (Nat.le_of_ble_eq_true rfl) (by decide) dX0_copy_54 (nt_noteN (nb := 8) hx hl0 (nx_of nx_N hts hX) nx_oN hZ.1 hZ.2 hS (by rw [hml]; exact hl.1) (Nat.le_of_ble_eq_true rfl) (Nat.le_of_ble_eq_true rfl) (Nat.le_of_ble_eq_true rfl) (Nat.le_of_ble_eq_true rfl)) (fun H9 q9 ce hz h9 hce hcv hcl => ?_)
  have hS := vs_same hS hz h9
  have hPz := vp_same hP (h9)
  clear hP
  have hP := hPz
  clear hPz
  obtain ⟨H, rfl⟩ : ∃ z, z = H9 := ⟨_, rfl⟩
  have hP : va_P D vwCl [(xo, oX xs xu xd xr xf), (xs, rA ca 3 6 sa)] H := hP
  have hD : va_D A [(xo, oX xs xu xd xr xf), (xs, rA ca 3 6 sa)] := hD
  refine vx_catch (E := "java/lang/NullPointerException") (name := "java/lang/NullPointerException") hown [] (⟨37, 58, 59, 37⟩ : ExceptionTableEntry) [(⟨37, 58, 64, 55⟩ : ExceptionTableEntry)] (by rw [htb]; rfl) (fun z hz => absurd hz List.not_mem_nil) (by decide) (by decide) (hts _ q145) (va_Nw.use rfl (hN.2.2.2.1 _ (List.mem_of_getElem? (i := 6) rfl))) hce hcv hcl ?_
  refine lv_astore (lv' := [(6, .ref q9), (0, .ref xo), (1, .int (nI j)), (2, .int i0), (3, .int (nI k)), (4, .int j0), (5, .int z0)]) hx hb dX0_copy_59 hl (by decide) rfl (fun ls hl => ?_)
  refine lv_bipush (v := (-11)) hx hb dX0_copy_61 (by decide) ?_
  refine vx_ret ?_
  exact k_iret () hx hb hr hlocks (rfl) hP hD trivial hS (Nat.le_of_ble_eq_true rfl) (Nat.le_of_ble_eq_true rfl) dX0_copy_63
set_option maxHeartbeats 4000000 in
set_option maxRecDepth 100000 in
theorem ct_X0_copy_RN (l : Launch) (hl0 : l.stackTraces = false) (D : va_G) (ca : Nat → ClassId) (zH : Nat) (xo xs xu xd xr xf : Nat) (sa : Nat → Option Nat) (j k rw : Nat) (i0 j0 z0 : Int32) (hj : j < 6) (hj2 : k < 6) (hs : sa j = some rw) (ht : sa k = none) : vx_Met l yX0_copy (wsH_ yX0_copy cX0_copy 7 (some .int) [((37 : Nat), (58 : Nat), (59 : Nat), (37 : Nat)), ((37 : Nat), (58 : Nat), (64 : Nat), (55 : Nat))]) ({ frames := 12, cells := 1, slots := 8, locals := 10400 }) (va_Pc [.ref xo, .int (nI j), .int i0, .int (nI k), .int j0, .int z0] (prX NW D ca [(xo, oX xs xu xd xr xf), (xs, rA ca 3 6 sa)] zH (fun _ => True))) (qI D (fun (r : Int32) (u : Unit) => r = -11) (fun u => [(xo, oX xs xu xd xr xf), (xs, rA ca 3 6 sa)]) (fun u H => True) (va_A [(xo, oX xs xu xd xr xf), (xs, rA ca 3 6 sa)] zH)) noX 1 8 (va_A [(xo, oX xs xu xd xr xf), (xs, rA ca 3 6 sa)] zH) := by
  have hk := NW_ok
  refine k_ofH (Qc := qI D (fun (r : Int32) (u : Unit) => r = -11) (fun u => [(xo, oX xs xu xd xr xf), (xs, rA ca 3 6 sa)]) (fun u H => True)) (by decide) (Nat.le_of_ble_eq_true rfl) ?_
  intro p e s m below meth c ls A H hH hx hb hr hts hown hlocks hnm hml hsz hP hD hK hN hA hAn hS hro hl hX hZ htb
  have hl : lv_has ls 7 [(0, .ref xo), (1, .int (nI j)), (2, .int i0), (3, .int (nI k)), (4, .int j0), (5, .int z0)] := hl
  refine lv_iload_n hx hb dX0_copy_0 rfl (lv_at hl 1 rfl) ?_
  refine k_calli (wr := [(xo, oX xs xu xd xr xf), (xs, rA ca 3 6 sa)]) (va_runS (As := [.int (nI j)]) (rest := []) ⟨hx, hb, hml, hown, hts⟩ (ct_X0_isSheet hk l D ca H.size (nI j)) (va_cwS 1 hts (lw_S q127 q128 q19 q129) rfl rfl rfl (by decide +kernel) ⟨Nat.le_of_ble_eq_true rfl, Nat.le_of_ble_eq_true rfl⟩) (k_pre hk hK hN hP hD [] (by decide) rfl trivial) rfl rfl hl.1 rfl (lv_room (Nat.le_of_ble_eq_true rfl)) dX0_copy_1 ⟨Nat.le_of_ble_eq_true rfl, Nat.le_of_ble_eq_true rfl⟩) hP hD hS hA [] [0, 1] rfl rfl (by decide) (by decide) (fun r_1 u_2 H locs w_3 hP hD hxw_3 hzw_3 hqw_3 hS => ?_)
  obtain rfl : r_1 = bI (p_in (nI j).toInt64 0 5) := w_3
  refine lv_if_eq (tgt := 14) hx hb dX0_copy_4 (by decide) (fun c_4 => absurd c_4 (by rw [in_5 hj]; decide)) (fun c_4 => ?_)
  refine lv_iload_n hx hb dX0_copy_7 rfl (lv_at hl 3 rfl) ?_
  refine k_calli (wr := [(xo, oX xs xu xd xr xf), (xs, rA ca 3 6 sa)]) (va_runS (As := [.int (nI k)]) (rest := []) ⟨hx, hb, hml, hown, hts⟩ (ct_X0_isSheet hk l D ca H.size (nI k)) (va_cwS 1 hts (lw_S q127 q128 q19 q129) rfl rfl rfl (by decide +kernel) ⟨Nat.le_of_ble_eq_true rfl, Nat.le_of_ble_eq_true rfl⟩) (k_pre hk hK hN hP hD [] (by decide) rfl trivial) rfl rfl hl.1 rfl (lv_room (Nat.le_of_ble_eq_true rfl)) dX0_copy_8 ⟨Nat.le_of_ble_eq_true rfl, Nat.le_of_ble_eq_true rfl⟩) hP hD hS hA [] [0, 1] rfl rfl (by decide) (by decide) (fun r_5 u_6 H locs w_7 hP hD hxw_7 hzw_7 hqw_7 hS => ?_)
  obtain rfl : r_5 = bI (p_in (nI k).toInt64 0 5) := w_7
  refine lv_if_ne (tgt := 16) hx hb dX0_copy_11 (by decide) (fun c_8 => ?_) (fun c_8 => absurd c_8 (by rw [in_5 hj2]; decide))
  refine lv_aload_n hx hb dX0_copy_16 rfl (lv_at hl 0 rfl) ?_
  refine va_get (D := D) (ci := 0) (v := .ref xs) (C := RX0) (T := TX0) (N := 5) hx hb hts in_X0 hown hK hP 0 rfl rfl 0 (by decide) (hts _ q293) (fun _ h9 => h9) rfl dX0_copy_17 ?_
  refine lv_iload_n hx hb dX0_copy_20 rfl (lv_at hl 1 rfl) ?_
  refine va_aldq hx hb hK hP 1 3 rfl rfl (vin_nI (a := j) rfl (by omega) (by decide)) dX0_copy_21 ?_
  refine W.eq (g2 := F0 m 22 ls [.ref rw]) (by rw [nI_clamp (show j < 2 ^ 31 by omega), hs]; rfl) ?_
  refine lv_aload_n hx hb dX0_copy_22 rfl (lv_at hl 0 rfl) ?_
  refine va_get (D := D) (ci := 0) (v := .ref xs) (C := RX0) (T := TX0) (N := 5) hx hb hts in_X0 hown hK hP 0 rfl rfl 0 (by decide) (hts _ q293) (fun _ h9 => h9) rfl dX0_copy_23 ?_
  refine lv_iload_n hx hb dX0_copy_26 rfl (lv_at hl 3 rfl) ?_
  refine va_aldq hx hb hK hP 1 3 rfl rfl (vin_nI (a := k) rfl (by omega) (by decide)) dX0_copy_27 ?_
  refine W.eq (g2 := F0 m 28 ls [.null, .ref rw]) (by rw [nI_clamp (show k < 2 ^ 31 by omega), ht]; rfl) ?_
  refine k_calli (wr := [(xo, oX xs xu xd xr xf), (xs, rA ca 3 6 sa)]) (va_runS (As := [.ref rw, .null]) (rest := []) ⟨hx, hb, hml, hown, hts⟩ (ct_X0_areUnlike_RN l D ca H.size rw) (va_cwS 2 hts (lw_S q206 q207 q19 q208) rfl rfl rfl (by decide +kernel) ⟨Nat.le_of_ble_eq_true rfl, Nat.le_of_ble_eq_true rfl⟩) (k_pre hk hK hN hP hD [] (by decide) rfl trivial) rfl rfl hl.1 rfl (lv_room (Nat.le_of_ble_eq_true rfl)) dX0_copy_28 ⟨Nat.le_of_ble_eq_true rfl, Nat.le_of_ble_eq_true rfl⟩) hP hD hS hA [] [0, 1] rfl rfl (by decide) (by decide) (fun r_9 u_10 H locs w_11 hP hD hxw_11 hzw_11 hqw_11 hS => ?_)
  obtain rfl : r_9 = bI false := w_11
  refine lv_if_eq (tgt := 37) hx hb dX0_copy_31 (by decide) (fun c_12 => ?_) (fun c_12 => absurd rfl c_12)
  refine lv_aload_n hx hb dX0_copy_37 rfl (lv_at hl 0 rfl) ?_
  refine va_get (D := D) (ci := 0) (v := .ref xs) (C := RX0) (T := TX0) (N := 5) hx hb hts in_X0 hown hK hP 0 rfl rfl 0 (by decide) (hts _ q293) (fun _ h9 => h9) rfl dX0_copy_38 ?_
  refine lv_iload_n hx hb dX0_copy_41 rfl (lv_at hl 1 rfl) ?_
  refine va_aldq hx hb hK hP 1 3 rfl rfl (vin_nI (a := j) rfl (by omega) (by decide)) dX0_copy_42 ?_
  refine W.eq (g2 := F0 m 43 ls [.ref rw]) (by rw [nI_clamp (show j < 2 ^ 31 by omega), hs]; rfl) ?_
  refine lv_iload_n hx hb dX0_copy_43 rfl (lv_at hl 2 rfl) ?_
  refine lv_aload_n hx hb dX0_copy_44 rfl (lv_at hl 0 rfl) ?_
  refine va_get (D := D) (ci := 0) (v := .ref xs) (C := RX0) (T := TX0) (N := 5) hx hb hts in_X0 hown hK hP 0 rfl rfl 0 (by decide) (hts _ q293) (fun _ h9 => h9) rfl dX0_copy_45 ?_
  refine lv_iload_n hx hb dX0_copy_48 rfl (lv_at hl 3 rfl) ?_
  refine va_aldq hx hb hK hP 1 3 rfl rfl (vin_nI (a := k) rfl (by omega) (by decide)) dX0_copy_49 ?_
  refine W.eq (g2 := F0 m 50 ls [.null, .int i0, .ref rw]) (by rw [nI_clamp (show k < 2 ^ 31 by omega), ht]; rfl) ?_
  refine lv_iload hx hb dX0_copy_50 (lv_at hl 4 rfl) ?_
  refine lv_iload hx hb dX0_copy_52 (lv_at hl 5 rfl) ?_
  refine nt_cpN (x := (some rw)) (y := none) hx hb (hml.trans hl.1.symm) hown (hts _ q212) (hts _ q214) (hts _ q213) (hts _ q33) (Or.inr rfl) (Nat.le_of_ble_eq_true rfl) (by decide) dX0_copy_54 (nt_noteN (nb := 8) hx hl0 (nx_of nx_N hts hX) nx_oN hZ.1 hZ.2 hS (by rw [hml]; exact hl.1) (Nat.le_of_ble_eq_true rfl) (Nat.le_of_ble_eq_true rfl) (Nat.le_of_ble_eq_true rfl) (Nat.le_of_ble_eq_true rfl)) (fun H9 q9 ce hz h9 hce hcv hcl => ?_)
  have hS := vs_same hS hz h9
  have hPz := vp_same hP (h9)
  clear hP
  have hP := hPz
  clear hPz
  obtain ⟨H, rfl⟩ : ∃ z, z = H9 := ⟨_, rfl⟩
  have hP : va_P D vwCl [(xo, oX xs xu xd xr xf), (xs, rA ca 3 6 sa)] H := hP
  have hD : va_D A [(xo, oX xs xu xd xr xf), (xs, rA ca 3 6 sa)] := hD
  refine vx_catch (E := "java/lang/NullPointerException") (name := "java/lang/NullPointerException") hown [] (⟨37, 58, 59, 37⟩ : ExceptionTableEntry) [(⟨37, 58, 64, 55⟩ : ExceptionTableEntry)] (by rw [htb]; rfl) (fun z hz => absurd hz List.not_mem_nil) (by decide) (by decide) (hts _ q145) (va_Nw.use rfl (hN.2.2.2.1 _ (List.mem_of_getElem? (i := 6) rfl))) hce hcv hcl ?_
  refine lv_astore (lv' := [(6, .ref q9), (0, .ref xo), (1, .int (nI j)), (2, .int i0), (3, .int (nI k)), (4, .int j0), (5, .int z0)]) hx hb dX0_copy_59 hl (by decide) rfl (fun ls hl => ?_)
  refine lv_bipush (v := (-11)) hx hb dX0_copy_61 (by decide) ?_
  refine vx_ret ?_
  exact k_iret () hx hb hr hlocks (rfl) hP hD trivial hS (Nat.le_of_ble_eq_true rfl) (Nat.le_of_ble_eq_true rfl) dX0_copy_63
set_option maxHeartbeats 4000000 in
set_option maxRecDepth 100000 in
theorem ct_X0_copy_U01 (l : Launch) (hl0 : l.stackTraces = false) (D : va_G) (ca : Nat → ClassId) (zH : Nat) (xo xs xu xd xr xf : Nat) (sa : Nat → Option Nat) (j k rw1 rw2 n1 n2 : Nat) (f1 f2 : AL) (i0 j0 z0 : Int32) (hj : j < 6) (hj2 : k < 6) (hs : sa j = some rw1) (ht : sa k = some rw2) : vx_Met l yX0_copy (wsH_ yX0_copy cX0_copy 7 (some .int) [((37 : Nat), (58 : Nat), (59 : Nat), (37 : Nat)), ((37 : Nat), (58 : Nat), (64 : Nat), (55 : Nat))]) ({ frames := 2, cells := 0, slots := 0, locals := 45 }) (va_Pc [.ref xo, .int (nI j), .int i0, .int (nI k), .int j0, .int z0] (prX NW D ca [(xo, oX xs xu xd xr xf), (xs, rA ca 3 6 sa), (rw1, rwE ca 0 n1 f1), (rw2, rwE ca 1 n2 f2)] zH (fun _ => True))) (qI D (fun (r : Int32) (u : Unit) => r = -14) (fun u => [(xo, oX xs xu xd xr xf), (xs, rA ca 3 6 sa), (rw1, rwE ca 0 n1 f1), (rw2, rwE ca 1 n2 f2)]) (fun u H => True) (va_A [(xo, oX xs xu xd xr xf), (xs, rA ca 3 6 sa), (rw1, rwE ca 0 n1 f1), (rw2, rwE ca 1 n2 f2)] zH)) noX 0 0 (va_A [(xo, oX xs xu xd xr xf), (xs, rA ca 3 6 sa), (rw1, rwE ca 0 n1 f1), (rw2, rwE ca 1 n2 f2)] zH) := by
  have hk := NW_ok
  refine k_ofH (Qc := qI D (fun (r : Int32) (u : Unit) => r = -14) (fun u => [(xo, oX xs xu xd xr xf), (xs, rA ca 3 6 sa), (rw1, rwE ca 0 n1 f1), (rw2, rwE ca 1 n2 f2)]) (fun u H => True)) (by decide) (Nat.le_of_ble_eq_true rfl) ?_
  intro p e s m below meth c ls A H hH hx hb hr hts hown hlocks hnm hml hsz hP hD hK hN hA hAn hS hro hl hX hZ htb
  have hl : lv_has ls 7 [(0, .ref xo), (1, .int (nI j)), (2, .int i0), (3, .int (nI k)), (4, .int j0), (5, .int z0)] := hl
  refine lv_iload_n hx hb dX0_copy_0 rfl (lv_at hl 1 rfl) ?_
  refine k_calli (wr := [(xo, oX xs xu xd xr xf), (xs, rA ca 3 6 sa), (rw1, rwE ca 0 n1 f1), (rw2, rwE ca 1 n2 f2)]) (va_runS (As := [.int (nI j)]) (rest := []) ⟨hx, hb, hml, hown, hts⟩ (ct_X0_isSheet hk l D ca H.size (nI j)) (va_cwS 1 hts (lw_S q127 q128 q19 q129) rfl rfl rfl (by decide +kernel) ⟨Nat.le_of_ble_eq_true rfl, Nat.le_of_ble_eq_true rfl⟩) (k_pre hk hK hN hP hD [] (by decide) rfl trivial) rfl rfl hl.1 rfl (lv_room (Nat.le_of_ble_eq_true rfl)) dX0_copy_1 ⟨Nat.le_of_ble_eq_true rfl, Nat.le_of_ble_eq_true rfl⟩) hP hD hS hA [] [0, 1, 2, 3] rfl rfl (by decide) (by decide) (fun r_1 u_2 H locs w_3 hP hD hxw_3 hzw_3 hqw_3 hS => ?_)
  obtain rfl : r_1 = bI (p_in (nI j).toInt64 0 5) := w_3
  refine lv_if_eq (tgt := 14) hx hb dX0_copy_4 (by decide) (fun c_4 => absurd c_4 (by rw [in_5 hj]; decide)) (fun c_4 => ?_)
  refine lv_iload_n hx hb dX0_copy_7 rfl (lv_at hl 3 rfl) ?_
  refine k_calli (wr := [(xo, oX xs xu xd xr xf), (xs, rA ca 3 6 sa), (rw1, rwE ca 0 n1 f1), (rw2, rwE ca 1 n2 f2)]) (va_runS (As := [.int (nI k)]) (rest := []) ⟨hx, hb, hml, hown, hts⟩ (ct_X0_isSheet hk l D ca H.size (nI k)) (va_cwS 1 hts (lw_S q127 q128 q19 q129) rfl rfl rfl (by decide +kernel) ⟨Nat.le_of_ble_eq_true rfl, Nat.le_of_ble_eq_true rfl⟩) (k_pre hk hK hN hP hD [] (by decide) rfl trivial) rfl rfl hl.1 rfl (lv_room (Nat.le_of_ble_eq_true rfl)) dX0_copy_8 ⟨Nat.le_of_ble_eq_true rfl, Nat.le_of_ble_eq_true rfl⟩) hP hD hS hA [] [0, 1, 2, 3] rfl rfl (by decide) (by decide) (fun r_5 u_6 H locs w_7 hP hD hxw_7 hzw_7 hqw_7 hS => ?_)
  obtain rfl : r_5 = bI (p_in (nI k).toInt64 0 5) := w_7
  refine lv_if_ne (tgt := 16) hx hb dX0_copy_11 (by decide) (fun c_8 => ?_) (fun c_8 => absurd c_8 (by rw [in_5 hj2]; decide))
  refine lv_aload_n hx hb dX0_copy_16 rfl (lv_at hl 0 rfl) ?_
  refine va_get (D := D) (ci := 0) (v := .ref xs) (C := RX0) (T := TX0) (N := 5) hx hb hts in_X0 hown hK hP 0 rfl rfl 0 (by decide) (hts _ q293) (fun _ h9 => h9) rfl dX0_copy_17 ?_
  refine lv_iload_n hx hb dX0_copy_20 rfl (lv_at hl 1 rfl) ?_
  refine va_aldq hx hb hK hP 1 3 rfl rfl (vin_nI (a := j) rfl (by omega) (by decide)) dX0_copy_21 ?_
  refine W.eq (g2 := F0 m 22 ls [.ref rw1]) (by rw [nI_clamp (show j < 2 ^ 31 by omega), hs]; rfl) ?_
  refine lv_aload_n hx hb dX0_copy_22 rfl (lv_at hl 0 rfl) ?_
  refine va_get (D := D) (ci := 0) (v := .ref xs) (C := RX0) (T := TX0) (N := 5) hx hb hts in_X0 hown hK hP 0 rfl rfl 0 (by decide) (hts _ q293) (fun _ h9 => h9) rfl dX0_copy_23 ?_
  refine lv_iload_n hx hb dX0_copy_26 rfl (lv_at hl 3 rfl) ?_
  refine va_aldq hx hb hK hP 1 3 rfl rfl (vin_nI (a := k) rfl (by omega) (by decide)) dX0_copy_27 ?_
  refine W.eq (g2 := F0 m 28 ls [.ref rw2, .ref rw1]) (by rw [nI_clamp (show k < 2 ^ 31 by omega), ht]; rfl) ?_
  refine k_calli (wr := [(xo, oX xs xu xd xr xf), (xs, rA ca 3 6 sa)]) (va_runS (As := [.ref rw1, .ref rw2]) (rest := []) ⟨hx, hb, hml, hown, hts⟩ (ct_X0_areUnlike_01 l D ca H.size rw1 n1 rw2 n2 f1 f2) (va_cwS 2 hts (lw_S q206 q207 q19 q208) rfl rfl rfl (by decide +kernel) ⟨Nat.le_of_ble_eq_true rfl, Nat.le_of_ble_eq_true rfl⟩) (k_pre hk hK hN hP hD [2, 3] (by decide) rfl trivial) rfl rfl hl.1 rfl (lv_room (Nat.le_of_ble_eq_true rfl)) dX0_copy_28 ⟨Nat.le_of_ble_eq_true rfl, Nat.le_of_ble_eq_true rfl⟩) hP hD hS hA [2, 3] [0, 1] rfl rfl (by decide) (by decide) (fun r_9 u_10 H locs w_11 hP hD hxw_11 hzw_11 hqw_11 hS => ?_)
  have hP : va_P D vwCl [(xo, oX xs xu xd xr xf), (xs, rA ca 3 6 sa), (rw1, rwE ca 0 n1 f1), (rw2, rwE ca 1 n2 f2)] H := hP
  have hD : va_D A [(xo, oX xs xu xd xr xf), (xs, rA ca 3 6 sa), (rw1, rwE ca 0 n1 f1), (rw2, rwE ca 1 n2 f2)] := hD
  obtain rfl : r_9 = bI true := w_11
  refine lv_if_eq (tgt := 37) hx hb dX0_copy_31 (by decide) (fun c_12 => absurd c_12 (by decide)) (fun c_12 => ?_)
  refine lv_bipush (v := (-14)) hx hb dX0_copy_34 (by decide) ?_
  refine vx_ret ?_
  exact k_iret () hx hb hr hlocks (rfl) hP hD trivial hS (Nat.le_of_ble_eq_true rfl) (Nat.le_of_ble_eq_true rfl) dX0_copy_36
set_option maxHeartbeats 4000000 in
set_option maxRecDepth 100000 in
theorem ct_X0_copy_U02 (l : Launch) (hl0 : l.stackTraces = false) (D : va_G) (ca : Nat → ClassId) (zH : Nat) (xo xs xu xd xr xf : Nat) (sa : Nat → Option Nat) (j k rw1 rw2 n1 n2 : Nat) (f1 f2 : AL) (i0 j0 z0 : Int32) (hj : j < 6) (hj2 : k < 6) (hs : sa j = some rw1) (ht : sa k = some rw2) : vx_Met l yX0_copy (wsH_ yX0_copy cX0_copy 7 (some .int) [((37 : Nat), (58 : Nat), (59 : Nat), (37 : Nat)), ((37 : Nat), (58 : Nat), (64 : Nat), (55 : Nat))]) ({ frames := 2, cells := 0, slots := 0, locals := 45 }) (va_Pc [.ref xo, .int (nI j), .int i0, .int (nI k), .int j0, .int z0] (prX NW D ca [(xo, oX xs xu xd xr xf), (xs, rA ca 3 6 sa), (rw1, rwE ca 0 n1 f1), (rw2, rwE ca 2 n2 f2)] zH (fun _ => True))) (qI D (fun (r : Int32) (u : Unit) => r = -14) (fun u => [(xo, oX xs xu xd xr xf), (xs, rA ca 3 6 sa), (rw1, rwE ca 0 n1 f1), (rw2, rwE ca 2 n2 f2)]) (fun u H => True) (va_A [(xo, oX xs xu xd xr xf), (xs, rA ca 3 6 sa), (rw1, rwE ca 0 n1 f1), (rw2, rwE ca 2 n2 f2)] zH)) noX 0 0 (va_A [(xo, oX xs xu xd xr xf), (xs, rA ca 3 6 sa), (rw1, rwE ca 0 n1 f1), (rw2, rwE ca 2 n2 f2)] zH) := by
  have hk := NW_ok
  refine k_ofH (Qc := qI D (fun (r : Int32) (u : Unit) => r = -14) (fun u => [(xo, oX xs xu xd xr xf), (xs, rA ca 3 6 sa), (rw1, rwE ca 0 n1 f1), (rw2, rwE ca 2 n2 f2)]) (fun u H => True)) (by decide) (Nat.le_of_ble_eq_true rfl) ?_
  intro p e s m below meth c ls A H hH hx hb hr hts hown hlocks hnm hml hsz hP hD hK hN hA hAn hS hro hl hX hZ htb
  have hl : lv_has ls 7 [(0, .ref xo), (1, .int (nI j)), (2, .int i0), (3, .int (nI k)), (4, .int j0), (5, .int z0)] := hl
  refine lv_iload_n hx hb dX0_copy_0 rfl (lv_at hl 1 rfl) ?_
  refine k_calli (wr := [(xo, oX xs xu xd xr xf), (xs, rA ca 3 6 sa), (rw1, rwE ca 0 n1 f1), (rw2, rwE ca 2 n2 f2)]) (va_runS (As := [.int (nI j)]) (rest := []) ⟨hx, hb, hml, hown, hts⟩ (ct_X0_isSheet hk l D ca H.size (nI j)) (va_cwS 1 hts (lw_S q127 q128 q19 q129) rfl rfl rfl (by decide +kernel) ⟨Nat.le_of_ble_eq_true rfl, Nat.le_of_ble_eq_true rfl⟩) (k_pre hk hK hN hP hD [] (by decide) rfl trivial) rfl rfl hl.1 rfl (lv_room (Nat.le_of_ble_eq_true rfl)) dX0_copy_1 ⟨Nat.le_of_ble_eq_true rfl, Nat.le_of_ble_eq_true rfl⟩) hP hD hS hA [] [0, 1, 2, 3] rfl rfl (by decide) (by decide) (fun r_1 u_2 H locs w_3 hP hD hxw_3 hzw_3 hqw_3 hS => ?_)
  obtain rfl : r_1 = bI (p_in (nI j).toInt64 0 5) := w_3
  refine lv_if_eq (tgt := 14) hx hb dX0_copy_4 (by decide) (fun c_4 => absurd c_4 (by rw [in_5 hj]; decide)) (fun c_4 => ?_)
  refine lv_iload_n hx hb dX0_copy_7 rfl (lv_at hl 3 rfl) ?_
  refine k_calli (wr := [(xo, oX xs xu xd xr xf), (xs, rA ca 3 6 sa), (rw1, rwE ca 0 n1 f1), (rw2, rwE ca 2 n2 f2)]) (va_runS (As := [.int (nI k)]) (rest := []) ⟨hx, hb, hml, hown, hts⟩ (ct_X0_isSheet hk l D ca H.size (nI k)) (va_cwS 1 hts (lw_S q127 q128 q19 q129) rfl rfl rfl (by decide +kernel) ⟨Nat.le_of_ble_eq_true rfl, Nat.le_of_ble_eq_true rfl⟩) (k_pre hk hK hN hP hD [] (by decide) rfl trivial) rfl rfl hl.1 rfl (lv_room (Nat.le_of_ble_eq_true rfl)) dX0_copy_8 ⟨Nat.le_of_ble_eq_true rfl, Nat.le_of_ble_eq_true rfl⟩) hP hD hS hA [] [0, 1, 2, 3] rfl rfl (by decide) (by decide) (fun r_5 u_6 H locs w_7 hP hD hxw_7 hzw_7 hqw_7 hS => ?_)
  obtain rfl : r_5 = bI (p_in (nI k).toInt64 0 5) := w_7
  refine lv_if_ne (tgt := 16) hx hb dX0_copy_11 (by decide) (fun c_8 => ?_) (fun c_8 => absurd c_8 (by rw [in_5 hj2]; decide))
  refine lv_aload_n hx hb dX0_copy_16 rfl (lv_at hl 0 rfl) ?_
  refine va_get (D := D) (ci := 0) (v := .ref xs) (C := RX0) (T := TX0) (N := 5) hx hb hts in_X0 hown hK hP 0 rfl rfl 0 (by decide) (hts _ q293) (fun _ h9 => h9) rfl dX0_copy_17 ?_
  refine lv_iload_n hx hb dX0_copy_20 rfl (lv_at hl 1 rfl) ?_
  refine va_aldq hx hb hK hP 1 3 rfl rfl (vin_nI (a := j) rfl (by omega) (by decide)) dX0_copy_21 ?_
  refine W.eq (g2 := F0 m 22 ls [.ref rw1]) (by rw [nI_clamp (show j < 2 ^ 31 by omega), hs]; rfl) ?_
  refine lv_aload_n hx hb dX0_copy_22 rfl (lv_at hl 0 rfl) ?_
  refine va_get (D := D) (ci := 0) (v := .ref xs) (C := RX0) (T := TX0) (N := 5) hx hb hts in_X0 hown hK hP 0 rfl rfl 0 (by decide) (hts _ q293) (fun _ h9 => h9) rfl dX0_copy_23 ?_
  refine lv_iload_n hx hb dX0_copy_26 rfl (lv_at hl 3 rfl) ?_
  refine va_aldq hx hb hK hP 1 3 rfl rfl (vin_nI (a := k) rfl (by omega) (by decide)) dX0_copy_27 ?_
  refine W.eq (g2 := F0 m 28 ls [.ref rw2, .ref rw1]) (by rw [nI_clamp (show k < 2 ^ 31 by omega), ht]; rfl) ?_
  refine k_calli (wr := [(xo, oX xs xu xd xr xf), (xs, rA ca 3 6 sa)]) (va_runS (As := [.ref rw1, .ref rw2]) (rest := []) ⟨hx, hb, hml, hown, hts⟩ (ct_X0_areUnlike_02 l D ca H.size rw1 n1 rw2 n2 f1 f2) (va_cwS 2 hts (lw_S q206 q207 q19 q208) rfl rfl rfl (by decide +kernel) ⟨Nat.le_of_ble_eq_true rfl, Nat.le_of_ble_eq_true rfl⟩) (k_pre hk hK hN hP hD [2, 3] (by decide) rfl trivial) rfl rfl hl.1 rfl (lv_room (Nat.le_of_ble_eq_true rfl)) dX0_copy_28 ⟨Nat.le_of_ble_eq_true rfl, Nat.le_of_ble_eq_true rfl⟩) hP hD hS hA [2, 3] [0, 1] rfl rfl (by decide) (by decide) (fun r_9 u_10 H locs w_11 hP hD hxw_11 hzw_11 hqw_11 hS => ?_)
  have hP : va_P D vwCl [(xo, oX xs xu xd xr xf), (xs, rA ca 3 6 sa), (rw1, rwE ca 0 n1 f1), (rw2, rwE ca 2 n2 f2)] H := hP
  have hD : va_D A [(xo, oX xs xu xd xr xf), (xs, rA ca 3 6 sa), (rw1, rwE ca 0 n1 f1), (rw2, rwE ca 2 n2 f2)] := hD
  obtain rfl : r_9 = bI true := w_11
  refine lv_if_eq (tgt := 37) hx hb dX0_copy_31 (by decide) (fun c_12 => absurd c_12 (by decide)) (fun c_12 => ?_)
  refine lv_bipush (v := (-14)) hx hb dX0_copy_34 (by decide) ?_
  refine vx_ret ?_
  exact k_iret () hx hb hr hlocks (rfl) hP hD trivial hS (Nat.le_of_ble_eq_true rfl) (Nat.le_of_ble_eq_true rfl) dX0_copy_36
set_option maxHeartbeats 4000000 in
set_option maxRecDepth 100000 in
theorem ct_X0_copy_U10 (l : Launch) (hl0 : l.stackTraces = false) (D : va_G) (ca : Nat → ClassId) (zH : Nat) (xo xs xu xd xr xf : Nat) (sa : Nat → Option Nat) (j k rw1 rw2 n1 n2 : Nat) (f1 f2 : AL) (i0 j0 z0 : Int32) (hj : j < 6) (hj2 : k < 6) (hs : sa j = some rw1) (ht : sa k = some rw2) : vx_Met l yX0_copy (wsH_ yX0_copy cX0_copy 7 (some .int) [((37 : Nat), (58 : Nat), (59 : Nat), (37 : Nat)), ((37 : Nat), (58 : Nat), (64 : Nat), (55 : Nat))]) ({ frames := 2, cells := 0, slots := 0, locals := 45 }) (va_Pc [.ref xo, .int (nI j), .int i0, .int (nI k), .int j0, .int z0] (prX NW D ca [(xo, oX xs xu xd xr xf), (xs, rA ca 3 6 sa), (rw1, rwE ca 1 n1 f1), (rw2, rwE ca 0 n2 f2)] zH (fun _ => True))) (qI D (fun (r : Int32) (u : Unit) => r = -14) (fun u => [(xo, oX xs xu xd xr xf), (xs, rA ca 3 6 sa), (rw1, rwE ca 1 n1 f1), (rw2, rwE ca 0 n2 f2)]) (fun u H => True) (va_A [(xo, oX xs xu xd xr xf), (xs, rA ca 3 6 sa), (rw1, rwE ca 1 n1 f1), (rw2, rwE ca 0 n2 f2)] zH)) noX 0 0 (va_A [(xo, oX xs xu xd xr xf), (xs, rA ca 3 6 sa), (rw1, rwE ca 1 n1 f1), (rw2, rwE ca 0 n2 f2)] zH) := by
  have hk := NW_ok
  refine k_ofH (Qc := qI D (fun (r : Int32) (u : Unit) => r = -14) (fun u => [(xo, oX xs xu xd xr xf), (xs, rA ca 3 6 sa), (rw1, rwE ca 1 n1 f1), (rw2, rwE ca 0 n2 f2)]) (fun u H => True)) (by decide) (Nat.le_of_ble_eq_true rfl) ?_
  intro p e s m below meth c ls A H hH hx hb hr hts hown hlocks hnm hml hsz hP hD hK hN hA hAn hS hro hl hX hZ htb
  have hl : lv_has ls 7 [(0, .ref xo), (1, .int (nI j)), (2, .int i0), (3, .int (nI k)), (4, .int j0), (5, .int z0)] := hl
  refine lv_iload_n hx hb dX0_copy_0 rfl (lv_at hl 1 rfl) ?_
  refine k_calli (wr := [(xo, oX xs xu xd xr xf), (xs, rA ca 3 6 sa), (rw1, rwE ca 1 n1 f1), (rw2, rwE ca 0 n2 f2)]) (va_runS (As := [.int (nI j)]) (rest := []) ⟨hx, hb, hml, hown, hts⟩ (ct_X0_isSheet hk l D ca H.size (nI j)) (va_cwS 1 hts (lw_S q127 q128 q19 q129) rfl rfl rfl (by decide +kernel) ⟨Nat.le_of_ble_eq_true rfl, Nat.le_of_ble_eq_true rfl⟩) (k_pre hk hK hN hP hD [] (by decide) rfl trivial) rfl rfl hl.1 rfl (lv_room (Nat.le_of_ble_eq_true rfl)) dX0_copy_1 ⟨Nat.le_of_ble_eq_true rfl, Nat.le_of_ble_eq_true rfl⟩) hP hD hS hA [] [0, 1, 2, 3] rfl rfl (by decide) (by decide) (fun r_1 u_2 H locs w_3 hP hD hxw_3 hzw_3 hqw_3 hS => ?_)
  obtain rfl : r_1 = bI (p_in (nI j).toInt64 0 5) := w_3
  refine lv_if_eq (tgt := 14) hx hb dX0_copy_4 (by decide) (fun c_4 => absurd c_4 (by rw [in_5 hj]; decide)) (fun c_4 => ?_)
  refine lv_iload_n hx hb dX0_copy_7 rfl (lv_at hl 3 rfl) ?_
  refine k_calli (wr := [(xo, oX xs xu xd xr xf), (xs, rA ca 3 6 sa), (rw1, rwE ca 1 n1 f1), (rw2, rwE ca 0 n2 f2)]) (va_runS (As := [.int (nI k)]) (rest := []) ⟨hx, hb, hml, hown, hts⟩ (ct_X0_isSheet hk l D ca H.size (nI k)) (va_cwS 1 hts (lw_S q127 q128 q19 q129) rfl rfl rfl (by decide +kernel) ⟨Nat.le_of_ble_eq_true rfl, Nat.le_of_ble_eq_true rfl⟩) (k_pre hk hK hN hP hD [] (by decide) rfl trivial) rfl rfl hl.1 rfl (lv_room (Nat.le_of_ble_eq_true rfl)) dX0_copy_8 ⟨Nat.le_of_ble_eq_true rfl, Nat.le_of_ble_eq_true rfl⟩) hP hD hS hA [] [0, 1, 2, 3] rfl rfl (by decide) (by decide) (fun r_5 u_6 H locs w_7 hP hD hxw_7 hzw_7 hqw_7 hS => ?_)
  obtain rfl : r_5 = bI (p_in (nI k).toInt64 0 5) := w_7
  refine lv_if_ne (tgt := 16) hx hb dX0_copy_11 (by decide) (fun c_8 => ?_) (fun c_8 => absurd c_8 (by rw [in_5 hj2]; decide))
  refine lv_aload_n hx hb dX0_copy_16 rfl (lv_at hl 0 rfl) ?_
  refine va_get (D := D) (ci := 0) (v := .ref xs) (C := RX0) (T := TX0) (N := 5) hx hb hts in_X0 hown hK hP 0 rfl rfl 0 (by decide) (hts _ q293) (fun _ h9 => h9) rfl dX0_copy_17 ?_
  refine lv_iload_n hx hb dX0_copy_20 rfl (lv_at hl 1 rfl) ?_
  refine va_aldq hx hb hK hP 1 3 rfl rfl (vin_nI (a := j) rfl (by omega) (by decide)) dX0_copy_21 ?_
  refine W.eq (g2 := F0 m 22 ls [.ref rw1]) (by rw [nI_clamp (show j < 2 ^ 31 by omega), hs]; rfl) ?_
  refine lv_aload_n hx hb dX0_copy_22 rfl (lv_at hl 0 rfl) ?_
  refine va_get (D := D) (ci := 0) (v := .ref xs) (C := RX0) (T := TX0) (N := 5) hx hb hts in_X0 hown hK hP 0 rfl rfl 0 (by decide) (hts _ q293) (fun _ h9 => h9) rfl dX0_copy_23 ?_
  refine lv_iload_n hx hb dX0_copy_26 rfl (lv_at hl 3 rfl) ?_
  refine va_aldq hx hb hK hP 1 3 rfl rfl (vin_nI (a := k) rfl (by omega) (by decide)) dX0_copy_27 ?_
  refine W.eq (g2 := F0 m 28 ls [.ref rw2, .ref rw1]) (by rw [nI_clamp (show k < 2 ^ 31 by omega), ht]; rfl) ?_
  refine k_calli (wr := [(xo, oX xs xu xd xr xf), (xs, rA ca 3 6 sa)]) (va_runS (As := [.ref rw1, .ref rw2]) (rest := []) ⟨hx, hb, hml, hown, hts⟩ (ct_X0_areUnlike_10 l D ca H.size rw1 n1 rw2 n2 f1 f2) (va_cwS 2 hts (lw_S q206 q207 q19 q208) rfl rfl rfl (by decide +kernel) ⟨Nat.le_of_ble_eq_true rfl, Nat.le_of_ble_eq_true rfl⟩) (k_pre hk hK hN hP hD [2, 3] (by decide) rfl trivial) rfl rfl hl.1 rfl (lv_room (Nat.le_of_ble_eq_true rfl)) dX0_copy_28 ⟨Nat.le_of_ble_eq_true rfl, Nat.le_of_ble_eq_true rfl⟩) hP hD hS hA [2, 3] [0, 1] rfl rfl (by decide) (by decide) (fun r_9 u_10 H locs w_11 hP hD hxw_11 hzw_11 hqw_11 hS => ?_)
  have hP : va_P D vwCl [(xo, oX xs xu xd xr xf), (xs, rA ca 3 6 sa), (rw1, rwE ca 1 n1 f1), (rw2, rwE ca 0 n2 f2)] H := hP
  have hD : va_D A [(xo, oX xs xu xd xr xf), (xs, rA ca 3 6 sa), (rw1, rwE ca 1 n1 f1), (rw2, rwE ca 0 n2 f2)] := hD
  obtain rfl : r_9 = bI true := w_11
  refine lv_if_eq (tgt := 37) hx hb dX0_copy_31 (by decide) (fun c_12 => absurd c_12 (by decide)) (fun c_12 => ?_)
  refine lv_bipush (v := (-14)) hx hb dX0_copy_34 (by decide) ?_
  refine vx_ret ?_
  exact k_iret () hx hb hr hlocks (rfl) hP hD trivial hS (Nat.le_of_ble_eq_true rfl) (Nat.le_of_ble_eq_true rfl) dX0_copy_36
set_option maxHeartbeats 4000000 in
set_option maxRecDepth 100000 in
theorem ct_X0_copy_U12 (l : Launch) (hl0 : l.stackTraces = false) (D : va_G) (ca : Nat → ClassId) (zH : Nat) (xo xs xu xd xr xf : Nat) (sa : Nat → Option Nat) (j k rw1 rw2 n1 n2 : Nat) (f1 f2 : AL) (i0 j0 z0 : Int32) (hj : j < 6) (hj2 : k < 6) (hs : sa j = some rw1) (ht : sa k = some rw2) : vx_Met l yX0_copy (wsH_ yX0_copy cX0_copy 7 (some .int) [((37 : Nat), (58 : Nat), (59 : Nat), (37 : Nat)), ((37 : Nat), (58 : Nat), (64 : Nat), (55 : Nat))]) ({ frames := 2, cells := 0, slots := 0, locals := 45 }) (va_Pc [.ref xo, .int (nI j), .int i0, .int (nI k), .int j0, .int z0] (prX NW D ca [(xo, oX xs xu xd xr xf), (xs, rA ca 3 6 sa), (rw1, rwE ca 1 n1 f1), (rw2, rwE ca 2 n2 f2)] zH (fun _ => True))) (qI D (fun (r : Int32) (u : Unit) => r = -14) (fun u => [(xo, oX xs xu xd xr xf), (xs, rA ca 3 6 sa), (rw1, rwE ca 1 n1 f1), (rw2, rwE ca 2 n2 f2)]) (fun u H => True) (va_A [(xo, oX xs xu xd xr xf), (xs, rA ca 3 6 sa), (rw1, rwE ca 1 n1 f1), (rw2, rwE ca 2 n2 f2)] zH)) noX 0 0 (va_A [(xo, oX xs xu xd xr xf), (xs, rA ca 3 6 sa), (rw1, rwE ca 1 n1 f1), (rw2, rwE ca 2 n2 f2)] zH) := by
  have hk := NW_ok
  refine k_ofH (Qc := qI D (fun (r : Int32) (u : Unit) => r = -14) (fun u => [(xo, oX xs xu xd xr xf), (xs, rA ca 3 6 sa), (rw1, rwE ca 1 n1 f1), (rw2, rwE ca 2 n2 f2)]) (fun u H => True)) (by decide) (Nat.le_of_ble_eq_true rfl) ?_
  intro p e s m below meth c ls A H hH hx hb hr hts hown hlocks hnm hml hsz hP hD hK hN hA hAn hS hro hl hX hZ htb
  have hl : lv_has ls 7 [(0, .ref xo), (1, .int (nI j)), (2, .int i0), (3, .int (nI k)), (4, .int j0), (5, .int z0)] := hl
  refine lv_iload_n hx hb dX0_copy_0 rfl (lv_at hl 1 rfl) ?_
  refine k_calli (wr := [(xo, oX xs xu xd xr xf), (xs, rA ca 3 6 sa), (rw1, rwE ca 1 n1 f1), (rw2, rwE ca 2 n2 f2)]) (va_runS (As := [.int (nI j)]) (rest := []) ⟨hx, hb, hml, hown, hts⟩ (ct_X0_isSheet hk l D ca H.size (nI j)) (va_cwS 1 hts (lw_S q127 q128 q19 q129) rfl rfl rfl (by decide +kernel) ⟨Nat.le_of_ble_eq_true rfl, Nat.le_of_ble_eq_true rfl⟩) (k_pre hk hK hN hP hD [] (by decide) rfl trivial) rfl rfl hl.1 rfl (lv_room (Nat.le_of_ble_eq_true rfl)) dX0_copy_1 ⟨Nat.le_of_ble_eq_true rfl, Nat.le_of_ble_eq_true rfl⟩) hP hD hS hA [] [0, 1, 2, 3] rfl rfl (by decide) (by decide) (fun r_1 u_2 H locs w_3 hP hD hxw_3 hzw_3 hqw_3 hS => ?_)
  obtain rfl : r_1 = bI (p_in (nI j).toInt64 0 5) := w_3
  refine lv_if_eq (tgt := 14) hx hb dX0_copy_4 (by decide) (fun c_4 => absurd c_4 (by rw [in_5 hj]; decide)) (fun c_4 => ?_)
  refine lv_iload_n hx hb dX0_copy_7 rfl (lv_at hl 3 rfl) ?_
  refine k_calli (wr := [(xo, oX xs xu xd xr xf), (xs, rA ca 3 6 sa), (rw1, rwE ca 1 n1 f1), (rw2, rwE ca 2 n2 f2)]) (va_runS (As := [.int (nI k)]) (rest := []) ⟨hx, hb, hml, hown, hts⟩ (ct_X0_isSheet hk l D ca H.size (nI k)) (va_cwS 1 hts (lw_S q127 q128 q19 q129) rfl rfl rfl (by decide +kernel) ⟨Nat.le_of_ble_eq_true rfl, Nat.le_of_ble_eq_true rfl⟩) (k_pre hk hK hN hP hD [] (by decide) rfl trivial) rfl rfl hl.1 rfl (lv_room (Nat.le_of_ble_eq_true rfl)) dX0_copy_8 ⟨Nat.le_of_ble_eq_true rfl, Nat.le_of_ble_eq_true rfl⟩) hP hD hS hA [] [0, 1, 2, 3] rfl rfl (by decide) (by decide) (fun r_5 u_6 H locs w_7 hP hD hxw_7 hzw_7 hqw_7 hS => ?_)
  obtain rfl : r_5 = bI (p_in (nI k).toInt64 0 5) := w_7
  refine lv_if_ne (tgt := 16) hx hb dX0_copy_11 (by decide) (fun c_8 => ?_) (fun c_8 => absurd c_8 (by rw [in_5 hj2]; decide))
  refine lv_aload_n hx hb dX0_copy_16 rfl (lv_at hl 0 rfl) ?_
  refine va_get (D := D) (ci := 0) (v := .ref xs) (C := RX0) (T := TX0) (N := 5) hx hb hts in_X0 hown hK hP 0 rfl rfl 0 (by decide) (hts _ q293) (fun _ h9 => h9) rfl dX0_copy_17 ?_
  refine lv_iload_n hx hb dX0_copy_20 rfl (lv_at hl 1 rfl) ?_
  refine va_aldq hx hb hK hP 1 3 rfl rfl (vin_nI (a := j) rfl (by omega) (by decide)) dX0_copy_21 ?_
  refine W.eq (g2 := F0 m 22 ls [.ref rw1]) (by rw [nI_clamp (show j < 2 ^ 31 by omega), hs]; rfl) ?_
  refine lv_aload_n hx hb dX0_copy_22 rfl (lv_at hl 0 rfl) ?_
  refine va_get (D := D) (ci := 0) (v := .ref xs) (C := RX0) (T := TX0) (N := 5) hx hb hts in_X0 hown hK hP 0 rfl rfl 0 (by decide) (hts _ q293) (fun _ h9 => h9) rfl dX0_copy_23 ?_
  refine lv_iload_n hx hb dX0_copy_26 rfl (lv_at hl 3 rfl) ?_
  refine va_aldq hx hb hK hP 1 3 rfl rfl (vin_nI (a := k) rfl (by omega) (by decide)) dX0_copy_27 ?_
  refine W.eq (g2 := F0 m 28 ls [.ref rw2, .ref rw1]) (by rw [nI_clamp (show k < 2 ^ 31 by omega), ht]; rfl) ?_
  refine k_calli (wr := [(xo, oX xs xu xd xr xf), (xs, rA ca 3 6 sa)]) (va_runS (As := [.ref rw1, .ref rw2]) (rest := []) ⟨hx, hb, hml, hown, hts⟩ (ct_X0_areUnlike_12 l D ca H.size rw1 n1 rw2 n2 f1 f2) (va_cwS 2 hts (lw_S q206 q207 q19 q208) rfl rfl rfl (by decide +kernel) ⟨Nat.le_of_ble_eq_true rfl, Nat.le_of_ble_eq_true rfl⟩) (k_pre hk hK hN hP hD [2, 3] (by decide) rfl trivial) rfl rfl hl.1 rfl (lv_room (Nat.le_of_ble_eq_true rfl)) dX0_copy_28 ⟨Nat.le_of_ble_eq_true rfl, Nat.le_of_ble_eq_true rfl⟩) hP hD hS hA [2, 3] [0, 1] rfl rfl (by decide) (by decide) (fun r_9 u_10 H locs w_11 hP hD hxw_11 hzw_11 hqw_11 hS => ?_)
  have hP : va_P D vwCl [(xo, oX xs xu xd xr xf), (xs, rA ca 3 6 sa), (rw1, rwE ca 1 n1 f1), (rw2, rwE ca 2 n2 f2)] H := hP
  have hD : va_D A [(xo, oX xs xu xd xr xf), (xs, rA ca 3 6 sa), (rw1, rwE ca 1 n1 f1), (rw2, rwE ca 2 n2 f2)] := hD
  obtain rfl : r_9 = bI true := w_11
  refine lv_if_eq (tgt := 37) hx hb dX0_copy_31 (by decide) (fun c_12 => absurd c_12 (by decide)) (fun c_12 => ?_)
  refine lv_bipush (v := (-14)) hx hb dX0_copy_34 (by decide) ?_
  refine vx_ret ?_
  exact k_iret () hx hb hr hlocks (rfl) hP hD trivial hS (Nat.le_of_ble_eq_true rfl) (Nat.le_of_ble_eq_true rfl) dX0_copy_36
set_option maxHeartbeats 4000000 in
set_option maxRecDepth 100000 in
theorem ct_X0_copy_U20 (l : Launch) (hl0 : l.stackTraces = false) (D : va_G) (ca : Nat → ClassId) (zH : Nat) (xo xs xu xd xr xf : Nat) (sa : Nat → Option Nat) (j k rw1 rw2 n1 n2 : Nat) (f1 f2 : AL) (i0 j0 z0 : Int32) (hj : j < 6) (hj2 : k < 6) (hs : sa j = some rw1) (ht : sa k = some rw2) : vx_Met l yX0_copy (wsH_ yX0_copy cX0_copy 7 (some .int) [((37 : Nat), (58 : Nat), (59 : Nat), (37 : Nat)), ((37 : Nat), (58 : Nat), (64 : Nat), (55 : Nat))]) ({ frames := 2, cells := 0, slots := 0, locals := 45 }) (va_Pc [.ref xo, .int (nI j), .int i0, .int (nI k), .int j0, .int z0] (prX NW D ca [(xo, oX xs xu xd xr xf), (xs, rA ca 3 6 sa), (rw1, rwE ca 2 n1 f1), (rw2, rwE ca 0 n2 f2)] zH (fun _ => True))) (qI D (fun (r : Int32) (u : Unit) => r = -14) (fun u => [(xo, oX xs xu xd xr xf), (xs, rA ca 3 6 sa), (rw1, rwE ca 2 n1 f1), (rw2, rwE ca 0 n2 f2)]) (fun u H => True) (va_A [(xo, oX xs xu xd xr xf), (xs, rA ca 3 6 sa), (rw1, rwE ca 2 n1 f1), (rw2, rwE ca 0 n2 f2)] zH)) noX 0 0 (va_A [(xo, oX xs xu xd xr xf), (xs, rA ca 3 6 sa), (rw1, rwE ca 2 n1 f1), (rw2, rwE ca 0 n2 f2)] zH) := by
  have hk := NW_ok
  refine k_ofH (Qc := qI D (fun (r : Int32) (u : Unit) => r = -14) (fun u => [(xo, oX xs xu xd xr xf), (xs, rA ca 3 6 sa), (rw1, rwE ca 2 n1 f1), (rw2, rwE ca 0 n2 f2)]) (fun u H => True)) (by decide) (Nat.le_of_ble_eq_true rfl) ?_
  intro p e s m below meth c ls A H hH hx hb hr hts hown hlocks hnm hml hsz hP hD hK hN hA hAn hS hro hl hX hZ htb
  have hl : lv_has ls 7 [(0, .ref xo), (1, .int (nI j)), (2, .int i0), (3, .int (nI k)), (4, .int j0), (5, .int z0)] := hl
  refine lv_iload_n hx hb dX0_copy_0 rfl (lv_at hl 1 rfl) ?_
  refine k_calli (wr := [(xo, oX xs xu xd xr xf), (xs, rA ca 3 6 sa), (rw1, rwE ca 2 n1 f1), (rw2, rwE ca 0 n2 f2)]) (va_runS (As := [.int (nI j)]) (rest := []) ⟨hx, hb, hml, hown, hts⟩ (ct_X0_isSheet hk l D ca H.size (nI j)) (va_cwS 1 hts (lw_S q127 q128 q19 q129) rfl rfl rfl (by decide +kernel) ⟨Nat.le_of_ble_eq_true rfl, Nat.le_of_ble_eq_true rfl⟩) (k_pre hk hK hN hP hD [] (by decide) rfl trivial) rfl rfl hl.1 rfl (lv_room (Nat.le_of_ble_eq_true rfl)) dX0_copy_1 ⟨Nat.le_of_ble_eq_true rfl, Nat.le_of_ble_eq_true rfl⟩) hP hD hS hA [] [0, 1, 2, 3] rfl rfl (by decide) (by decide) (fun r_1 u_2 H locs w_3 hP hD hxw_3 hzw_3 hqw_3 hS => ?_)
  obtain rfl : r_1 = bI (p_in (nI j).toInt64 0 5) := w_3
  refine lv_if_eq (tgt := 14) hx hb dX0_copy_4 (by decide) (fun c_4 => absurd c_4 (by rw [in_5 hj]; decide)) (fun c_4 => ?_)
  refine lv_iload_n hx hb dX0_copy_7 rfl (lv_at hl 3 rfl) ?_
  refine k_calli (wr := [(xo, oX xs xu xd xr xf), (xs, rA ca 3 6 sa), (rw1, rwE ca 2 n1 f1), (rw2, rwE ca 0 n2 f2)]) (va_runS (As := [.int (nI k)]) (rest := []) ⟨hx, hb, hml, hown, hts⟩ (ct_X0_isSheet hk l D ca H.size (nI k)) (va_cwS 1 hts (lw_S q127 q128 q19 q129) rfl rfl rfl (by decide +kernel) ⟨Nat.le_of_ble_eq_true rfl, Nat.le_of_ble_eq_true rfl⟩) (k_pre hk hK hN hP hD [] (by decide) rfl trivial) rfl rfl hl.1 rfl (lv_room (Nat.le_of_ble_eq_true rfl)) dX0_copy_8 ⟨Nat.le_of_ble_eq_true rfl, Nat.le_of_ble_eq_true rfl⟩) hP hD hS hA [] [0, 1, 2, 3] rfl rfl (by decide) (by decide) (fun r_5 u_6 H locs w_7 hP hD hxw_7 hzw_7 hqw_7 hS => ?_)
  obtain rfl : r_5 = bI (p_in (nI k).toInt64 0 5) := w_7
  refine lv_if_ne (tgt := 16) hx hb dX0_copy_11 (by decide) (fun c_8 => ?_) (fun c_8 => absurd c_8 (by rw [in_5 hj2]; decide))
  refine lv_aload_n hx hb dX0_copy_16 rfl (lv_at hl 0 rfl) ?_
  refine va_get (D := D) (ci := 0) (v := .ref xs) (C := RX0) (T := TX0) (N := 5) hx hb hts in_X0 hown hK hP 0 rfl rfl 0 (by decide) (hts _ q293) (fun _ h9 => h9) rfl dX0_copy_17 ?_
  refine lv_iload_n hx hb dX0_copy_20 rfl (lv_at hl 1 rfl) ?_
  refine va_aldq hx hb hK hP 1 3 rfl rfl (vin_nI (a := j) rfl (by omega) (by decide)) dX0_copy_21 ?_
  refine W.eq (g2 := F0 m 22 ls [.ref rw1]) (by rw [nI_clamp (show j < 2 ^ 31 by omega), hs]; rfl) ?_
  refine lv_aload_n hx hb dX0_copy_22 rfl (lv_at hl 0 rfl) ?_
  refine va_get (D := D) (ci := 0) (v := .ref xs) (C := RX0) (T := TX0) (N := 5) hx hb hts in_X0 hown hK hP 0 rfl rfl 0 (by decide) (hts _ q293) (fun _ h9 => h9) rfl dX0_copy_23 ?_
  refine lv_iload_n hx hb dX0_copy_26 rfl (lv_at hl 3 rfl) ?_
  refine va_aldq hx hb hK hP 1 3 rfl rfl (vin_nI (a := k) rfl (by omega) (by decide)) dX0_copy_27 ?_
  refine W.eq (g2 := F0 m 28 ls [.ref rw2, .ref rw1]) (by rw [nI_clamp (show k < 2 ^ 31 by omega), ht]; rfl) ?_
  refine k_calli (wr := [(xo, oX xs xu xd xr xf), (xs, rA ca 3 6 sa)]) (va_runS (As := [.ref rw1, .ref rw2]) (rest := []) ⟨hx, hb, hml, hown, hts⟩ (ct_X0_areUnlike_20 l D ca H.size rw1 n1 rw2 n2 f1 f2) (va_cwS 2 hts (lw_S q206 q207 q19 q208) rfl rfl rfl (by decide +kernel) ⟨Nat.le_of_ble_eq_true rfl, Nat.le_of_ble_eq_true rfl⟩) (k_pre hk hK hN hP hD [2, 3] (by decide) rfl trivial) rfl rfl hl.1 rfl (lv_room (Nat.le_of_ble_eq_true rfl)) dX0_copy_28 ⟨Nat.le_of_ble_eq_true rfl, Nat.le_of_ble_eq_true rfl⟩) hP hD hS hA [2, 3] [0, 1] rfl rfl (by decide) (by decide) (fun r_9 u_10 H locs w_11 hP hD hxw_11 hzw_11 hqw_11 hS => ?_)
  have hP : va_P D vwCl [(xo, oX xs xu xd xr xf), (xs, rA ca 3 6 sa), (rw1, rwE ca 2 n1 f1), (rw2, rwE ca 0 n2 f2)] H := hP
  have hD : va_D A [(xo, oX xs xu xd xr xf), (xs, rA ca 3 6 sa), (rw1, rwE ca 2 n1 f1), (rw2, rwE ca 0 n2 f2)] := hD
  obtain rfl : r_9 = bI true := w_11
  refine lv_if_eq (tgt := 37) hx hb dX0_copy_31 (by decide) (fun c_12 => absurd c_12 (by decide)) (fun c_12 => ?_)
  refine lv_bipush (v := (-14)) hx hb dX0_copy_34 (by decide) ?_
  refine vx_ret ?_
  exact k_iret () hx hb hr hlocks (rfl) hP hD trivial hS (Nat.le_of_ble_eq_true rfl) (Nat.le_of_ble_eq_true rfl) dX0_copy_36
set_option maxHeartbeats 4000000 in
set_option maxRecDepth 100000 in
theorem ct_X0_copy_U21 (l : Launch) (hl0 : l.stackTraces = false) (D : va_G) (ca : Nat → ClassId) (zH : Nat) (xo xs xu xd xr xf : Nat) (sa : Nat → Option Nat) (j k rw1 rw2 n1 n2 : Nat) (f1 f2 : AL) (i0 j0 z0 : Int32) (hj : j < 6) (hj2 : k < 6) (hs : sa j = some rw1) (ht : sa k = some rw2) : vx_Met l yX0_copy (wsH_ yX0_copy cX0_copy 7 (some .int) [((37 : Nat), (58 : Nat), (59 : Nat), (37 : Nat)), ((37 : Nat), (58 : Nat), (64 : Nat), (55 : Nat))]) ({ frames := 2, cells := 0, slots := 0, locals := 45 }) (va_Pc [.ref xo, .int (nI j), .int i0, .int (nI k), .int j0, .int z0] (prX NW D ca [(xo, oX xs xu xd xr xf), (xs, rA ca 3 6 sa), (rw1, rwE ca 2 n1 f1), (rw2, rwE ca 1 n2 f2)] zH (fun _ => True))) (qI D (fun (r : Int32) (u : Unit) => r = -14) (fun u => [(xo, oX xs xu xd xr xf), (xs, rA ca 3 6 sa), (rw1, rwE ca 2 n1 f1), (rw2, rwE ca 1 n2 f2)]) (fun u H => True) (va_A [(xo, oX xs xu xd xr xf), (xs, rA ca 3 6 sa), (rw1, rwE ca 2 n1 f1), (rw2, rwE ca 1 n2 f2)] zH)) noX 0 0 (va_A [(xo, oX xs xu xd xr xf), (xs, rA ca 3 6 sa), (rw1, rwE ca 2 n1 f1), (rw2, rwE ca 1 n2 f2)] zH) := by
  have hk := NW_ok
  refine k_ofH (Qc := qI D (fun (r : Int32) (u : Unit) => r = -14) (fun u => [(xo, oX xs xu xd xr xf), (xs, rA ca 3 6 sa), (rw1, rwE ca 2 n1 f1), (rw2, rwE ca 1 n2 f2)]) (fun u H => True)) (by decide) (Nat.le_of_ble_eq_true rfl) ?_
  intro p e s m below meth c ls A H hH hx hb hr hts hown hlocks hnm hml hsz hP hD hK hN hA hAn hS hro hl hX hZ htb
  have hl : lv_has ls 7 [(0, .ref xo), (1, .int (nI j)), (2, .int i0), (3, .int (nI k)), (4, .int j0), (5, .int z0)] := hl
  refine lv_iload_n hx hb dX0_copy_0 rfl (lv_at hl 1 rfl) ?_
  refine k_calli (wr := [(xo, oX xs xu xd xr xf), (xs, rA ca 3 6 sa), (rw1, rwE ca 2 n1 f1), (rw2, rwE ca 1 n2 f2)]) (va_runS (As := [.int (nI j)]) (rest := []) ⟨hx, hb, hml, hown, hts⟩ (ct_X0_isSheet hk l D ca H.size (nI j)) (va_cwS 1 hts (lw_S q127 q128 q19 q129) rfl rfl rfl (by decide +kernel) ⟨Nat.le_of_ble_eq_true rfl, Nat.le_of_ble_eq_true rfl⟩) (k_pre hk hK hN hP hD [] (by decide) rfl trivial) rfl rfl hl.1 rfl (lv_room (Nat.le_of_ble_eq_true rfl)) dX0_copy_1 ⟨Nat.le_of_ble_eq_true rfl, Nat.le_of_ble_eq_true rfl⟩) hP hD hS hA [] [0, 1, 2, 3] rfl rfl (by decide) (by decide) (fun r_1 u_2 H locs w_3 hP hD hxw_3 hzw_3 hqw_3 hS => ?_)
  obtain rfl : r_1 = bI (p_in (nI j).toInt64 0 5) := w_3
  refine lv_if_eq (tgt := 14) hx hb dX0_copy_4 (by decide) (fun c_4 => absurd c_4 (by rw [in_5 hj]; decide)) (fun c_4 => ?_)
  refine lv_iload_n hx hb dX0_copy_7 rfl (lv_at hl 3 rfl) ?_
  refine k_calli (wr := [(xo, oX xs xu xd xr xf), (xs, rA ca 3 6 sa), (rw1, rwE ca 2 n1 f1), (rw2, rwE ca 1 n2 f2)]) (va_runS (As := [.int (nI k)]) (rest := []) ⟨hx, hb, hml, hown, hts⟩ (ct_X0_isSheet hk l D ca H.size (nI k)) (va_cwS 1 hts (lw_S q127 q128 q19 q129) rfl rfl rfl (by decide +kernel) ⟨Nat.le_of_ble_eq_true rfl, Nat.le_of_ble_eq_true rfl⟩) (k_pre hk hK hN hP hD [] (by decide) rfl trivial) rfl rfl hl.1 rfl (lv_room (Nat.le_of_ble_eq_true rfl)) dX0_copy_8 ⟨Nat.le_of_ble_eq_true rfl, Nat.le_of_ble_eq_true rfl⟩) hP hD hS hA [] [0, 1, 2, 3] rfl rfl (by decide) (by decide) (fun r_5 u_6 H locs w_7 hP hD hxw_7 hzw_7 hqw_7 hS => ?_)
  obtain rfl : r_5 = bI (p_in (nI k).toInt64 0 5) := w_7
  refine lv_if_ne (tgt := 16) hx hb dX0_copy_11 (by decide) (fun c_8 => ?_) (fun c_8 => absurd c_8 (by rw [in_5 hj2]; decide))
  refine lv_aload_n hx hb dX0_copy_16 rfl (lv_at hl 0 rfl) ?_
  refine va_get (D := D) (ci := 0) (v := .ref xs) (C := RX0) (T := TX0) (N := 5) hx hb hts in_X0 hown hK hP 0 rfl rfl 0 (by decide) (hts _ q293) (fun _ h9 => h9) rfl dX0_copy_17 ?_
  refine lv_iload_n hx hb dX0_copy_20 rfl (lv_at hl 1 rfl) ?_
  refine va_aldq hx hb hK hP 1 3 rfl rfl (vin_nI (a := j) rfl (by omega) (by decide)) dX0_copy_21 ?_
  refine W.eq (g2 := F0 m 22 ls [.ref rw1]) (by rw [nI_clamp (show j < 2 ^ 31 by omega), hs]; rfl) ?_
  refine lv_aload_n hx hb dX0_copy_22 rfl (lv_at hl 0 rfl) ?_
  refine va_get (D := D) (ci := 0) (v := .ref xs) (C := RX0) (T := TX0) (N := 5) hx hb hts in_X0 hown hK hP 0 rfl rfl 0 (by decide) (hts _ q293) (fun _ h9 => h9) rfl dX0_copy_23 ?_
  refine lv_iload_n hx hb dX0_copy_26 rfl (lv_at hl 3 rfl) ?_
  refine va_aldq hx hb hK hP 1 3 rfl rfl (vin_nI (a := k) rfl (by omega) (by decide)) dX0_copy_27 ?_
  refine W.eq (g2 := F0 m 28 ls [.ref rw2, .ref rw1]) (by rw [nI_clamp (show k < 2 ^ 31 by omega), ht]; rfl) ?_
  refine k_calli (wr := [(xo, oX xs xu xd xr xf), (xs, rA ca 3 6 sa)]) (va_runS (As := [.ref rw1, .ref rw2]) (rest := []) ⟨hx, hb, hml, hown, hts⟩ (ct_X0_areUnlike_21 l D ca H.size rw1 n1 rw2 n2 f1 f2) (va_cwS 2 hts (lw_S q206 q207 q19 q208) rfl rfl rfl (by decide +kernel) ⟨Nat.le_of_ble_eq_true rfl, Nat.le_of_ble_eq_true rfl⟩) (k_pre hk hK hN hP hD [2, 3] (by decide) rfl trivial) rfl rfl hl.1 rfl (lv_room (Nat.le_of_ble_eq_true rfl)) dX0_copy_28 ⟨Nat.le_of_ble_eq_true rfl, Nat.le_of_ble_eq_true rfl⟩) hP hD hS hA [2, 3] [0, 1] rfl rfl (by decide) (by decide) (fun r_9 u_10 H locs w_11 hP hD hxw_11 hzw_11 hqw_11 hS => ?_)
  have hP : va_P D vwCl [(xo, oX xs xu xd xr xf), (xs, rA ca 3 6 sa), (rw1, rwE ca 2 n1 f1), (rw2, rwE ca 1 n2 f2)] H := hP
  have hD : va_D A [(xo, oX xs xu xd xr xf), (xs, rA ca 3 6 sa), (rw1, rwE ca 2 n1 f1), (rw2, rwE ca 1 n2 f2)] := hD
  obtain rfl : r_9 = bI true := w_11
  refine lv_if_eq (tgt := 37) hx hb dX0_copy_31 (by decide) (fun c_12 => absurd c_12 (by decide)) (fun c_12 => ?_)
  refine lv_bipush (v := (-14)) hx hb dX0_copy_34 (by decide) ?_
  refine vx_ret ?_
  exact k_iret () hx hb hr hlocks (rfl) hP hD trivial hS (Nat.le_of_ble_eq_true rfl) (Nat.le_of_ble_eq_true rfl) dX0_copy_36
set_option maxHeartbeats 4000000 in
set_option maxRecDepth 100000 in
theorem ct_X0_copy_S0 (l : Launch) (hl0 : l.stackTraces = false) (D : va_G) (ca : Nat → ClassId) (zH : Nat) (xo xs xu xd xr xf : Nat) (sa : Nat → Option Nat) (j k rw1 n1 : Nat) (f1 : AL) (i0 j0 z0 : Int32) (hj : j < 6) (hj2 : k < 6) (hs : sa j = some rw1) (ht : sa k = some rw1) (hn1 : n1 ≤ 16) (hcut : ∀ i, i < n1 → ck 0 (f1 i) = f1 i) : vx_Met l yX0_copy (wsH_ yX0_copy cX0_copy 7 (some .int) [((37 : Nat), (58 : Nat), (59 : Nat), (37 : Nat)), ((37 : Nat), (58 : Nat), (64 : Nat), (55 : Nat))]) ({ frames := 12, cells := 3, slots := 410, locals := 10400 }) (va_Pc [.ref xo, .int (nI j), .int i0, .int (nI k), .int j0, .int z0] (prX NW D ca [(xo, oX xs xu xd xr xf), (xs, rA ca 3 6 sa), (rw1, rwE ca 0 n1 f1)] zH (fun _ => True))) (qI D (fun (r : Int32) (u : AL) => (r, u) = p_cp n1 n1 f1 f1 i0 j0 z0) (fun u => [(xo, oX xs xu xd xr xf), (xs, rA ca 3 6 sa), (rw1, rwE ca 0 n1 u)]) (fun u H => True) (va_A [(xo, oX xs xu xd xr xf), (xs, rA ca 3 6 sa), (rw1, rwE ca 0 n1 f1)] zH)) noX 3 410 (va_A [(xo, oX xs xu xd xr xf), (xs, rA ca 3 6 sa), (rw1, rwE ca 0 n1 f1)] zH) := by
  have hk := NW_ok
  refine k_ofH (Qc := qI D (fun (r : Int32) (u : AL) => (r, u) = p_cp n1 n1 f1 f1 i0 j0 z0) (fun u => [(xo, oX xs xu xd xr xf), (xs, rA ca 3 6 sa), (rw1, rwE ca 0 n1 u)]) (fun u H => True)) (by decide) (Nat.le_of_ble_eq_true rfl) ?_
  intro p e s m below meth c ls A H hH hx hb hr hts hown hlocks hnm hml hsz hP hD hK hN hA hAn hS hro hl hX hZ htb
  have hl : lv_has ls 7 [(0, .ref xo), (1, .int (nI j)), (2, .int i0), (3, .int (nI k)), (4, .int j0), (5, .int z0)] := hl
  refine lv_iload_n hx hb dX0_copy_0 rfl (lv_at hl 1 rfl) ?_
  refine k_calli (wr := [(xo, oX xs xu xd xr xf), (xs, rA ca 3 6 sa), (rw1, rwE ca 0 n1 f1)]) (va_runS (As := [.int (nI j)]) (rest := []) ⟨hx, hb, hml, hown, hts⟩ (ct_X0_isSheet hk l D ca H.size (nI j)) (va_cwS 1 hts (lw_S q127 q128 q19 q129) rfl rfl rfl (by decide +kernel) ⟨Nat.le_of_ble_eq_true rfl, Nat.le_of_ble_eq_true rfl⟩) (k_pre hk hK hN hP hD [] (by decide) rfl trivial) rfl rfl hl.1 rfl (lv_room (Nat.le_of_ble_eq_true rfl)) dX0_copy_1 ⟨Nat.le_of_ble_eq_true rfl, Nat.le_of_ble_eq_true rfl⟩) hP hD hS hA [] [0, 1, 2] rfl rfl (by decide) (by decide) (fun r_1 u_2 H locs w_3 hP hD hxw_3 hzw_3 hqw_3 hS => ?_)
  obtain rfl : r_1 = bI (p_in (nI j).toInt64 0 5) := w_3
  refine lv_if_eq (tgt := 14) hx hb dX0_copy_4 (by decide) (fun c_4 => absurd c_4 (by rw [in_5 hj]; decide)) (fun c_4 => ?_)
  refine lv_iload_n hx hb dX0_copy_7 rfl (lv_at hl 3 rfl) ?_
  refine k_calli (wr := [(xo, oX xs xu xd xr xf), (xs, rA ca 3 6 sa), (rw1, rwE ca 0 n1 f1)]) (va_runS (As := [.int (nI k)]) (rest := []) ⟨hx, hb, hml, hown, hts⟩ (ct_X0_isSheet hk l D ca H.size (nI k)) (va_cwS 1 hts (lw_S q127 q128 q19 q129) rfl rfl rfl (by decide +kernel) ⟨Nat.le_of_ble_eq_true rfl, Nat.le_of_ble_eq_true rfl⟩) (k_pre hk hK hN hP hD [] (by decide) rfl trivial) rfl rfl hl.1 rfl (lv_room (Nat.le_of_ble_eq_true rfl)) dX0_copy_8 ⟨Nat.le_of_ble_eq_true rfl, Nat.le_of_ble_eq_true rfl⟩) hP hD hS hA [] [0, 1, 2] rfl rfl (by decide) (by decide) (fun r_5 u_6 H locs w_7 hP hD hxw_7 hzw_7 hqw_7 hS => ?_)
  obtain rfl : r_5 = bI (p_in (nI k).toInt64 0 5) := w_7
  refine lv_if_ne (tgt := 16) hx hb dX0_copy_11 (by decide) (fun c_8 => ?_) (fun c_8 => absurd c_8 (by rw [in_5 hj2]; decide))
  refine lv_aload_n hx hb dX0_copy_16 rfl (lv_at hl 0 rfl) ?_
  refine va_get (D := D) (ci := 0) (v := .ref xs) (C := RX0) (T := TX0) (N := 5) hx hb hts in_X0 hown hK hP 0 rfl rfl 0 (by decide) (hts _ q293) (fun _ h9 => h9) rfl dX0_copy_17 ?_
  refine lv_iload_n hx hb dX0_copy_20 rfl (lv_at hl 1 rfl) ?_
  refine va_aldq hx hb hK hP 1 3 rfl rfl (vin_nI (a := j) rfl (by omega) (by decide)) dX0_copy_21 ?_
  refine W.eq (g2 := F0 m 22 ls [.ref rw1]) (by rw [nI_clamp (show j < 2 ^ 31 by omega), hs]; rfl) ?_
  refine lv_aload_n hx hb dX0_copy_22 rfl (lv_at hl 0 rfl) ?_
  refine va_get (D := D) (ci := 0) (v := .ref xs) (C := RX0) (T := TX0) (N := 5) hx hb hts in_X0 hown hK hP 0 rfl rfl 0 (by decide) (hts _ q293) (fun _ h9 => h9) rfl dX0_copy_23 ?_
  refine lv_iload_n hx hb dX0_copy_26 rfl (lv_at hl 3 rfl) ?_
  refine va_aldq hx hb hK hP 1 3 rfl rfl (vin_nI (a := k) rfl (by omega) (by decide)) dX0_copy_27 ?_
  refine W.eq (g2 := F0 m 28 ls [.ref rw1, .ref rw1]) (by rw [nI_clamp (show k < 2 ^ 31 by omega), ht]; rfl) ?_
  refine k_calli (wr := [(xo, oX xs xu xd xr xf), (xs, rA ca 3 6 sa)]) (va_runS (As := [.ref rw1, .ref rw1]) (rest := []) ⟨hx, hb, hml, hown, hts⟩ (ct_X0_areUnlike_S0 l D ca H.size rw1 n1 f1) (va_cwS 2 hts (lw_S q206 q207 q19 q208) rfl rfl rfl (by decide +kernel) ⟨Nat.le_of_ble_eq_true rfl, Nat.le_of_ble_eq_true rfl⟩) (k_pre hk hK hN hP hD [2] (by decide) rfl trivial) rfl rfl hl.1 rfl (lv_room (Nat.le_of_ble_eq_true rfl)) dX0_copy_28 ⟨Nat.le_of_ble_eq_true rfl, Nat.le_of_ble_eq_true rfl⟩) hP hD hS hA [2] [0, 1] rfl rfl (by decide) (by decide) (fun r_9 u_10 H locs w_11 hP hD hxw_11 hzw_11 hqw_11 hS => ?_)
  have hP : va_P D vwCl [(xo, oX xs xu xd xr xf), (xs, rA ca 3 6 sa), (rw1, rwE ca 0 n1 f1)] H := hP
  have hD : va_D A [(xo, oX xs xu xd xr xf), (xs, rA ca 3 6 sa), (rw1, rwE ca 0 n1 f1)] := hD
  obtain rfl : r_9 = bI false := w_11
  refine lv_if_eq (tgt := 37) hx hb dX0_copy_31 (by decide) (fun c_12 => ?_) (fun c_12 => absurd rfl c_12)
  refine lv_aload_n hx hb dX0_copy_37 rfl (lv_at hl 0 rfl) ?_
  refine va_get (D := D) (ci := 0) (v := .ref xs) (C := RX0) (T := TX0) (N := 5) hx hb hts in_X0 hown hK hP 0 rfl rfl 0 (by decide) (hts _ q293) (fun _ h9 => h9) rfl dX0_copy_38 ?_
  refine lv_iload_n hx hb dX0_copy_41 rfl (lv_at hl 1 rfl) ?_
  refine va_aldq hx hb hK hP 1 3 rfl rfl (vin_nI (a := j) rfl (by omega) (by decide)) dX0_copy_42 ?_
  refine W.eq (g2 := F0 m 43 ls [.ref rw1]) (by rw [nI_clamp (show j < 2 ^ 31 by omega), hs]; rfl) ?_
  refine lv_iload_n hx hb dX0_copy_43 rfl (lv_at hl 2 rfl) ?_
  refine lv_aload_n hx hb dX0_copy_44 rfl (lv_at hl 0 rfl) ?_
  refine va_get (D := D) (ci := 0) (v := .ref xs) (C := RX0) (T := TX0) (N := 5) hx hb hts in_X0 hown hK hP 0 rfl rfl 0 (by decide) (hts _ q293) (fun _ h9 => h9) rfl dX0_copy_45 ?_
  refine lv_iload_n hx hb dX0_copy_48 rfl (lv_at hl 3 rfl) ?_
  refine va_aldq hx hb hK hP 1 3 rfl rfl (vin_nI (a := k) rfl (by omega) (by decide)) dX0_copy_49 ?_
  refine W.eq (g2 := F0 m 50 ls [.ref rw1, .int i0, .ref rw1]) (by rw [nI_clamp (show k < 2 ^ 31 by omega), ht]; rfl) ?_
  refine lv_iload hx hb dX0_copy_50 (lv_at hl 4 rfl) ?_
  refine lv_iload hx hb dX0_copy_52 (lv_at hl 5 rfl) ?_
  rcases cp_cases .byte n1 n1 f1 f1 i0 j0 z0 with ⟨g1, g2, g3, g4, g5, g6⟩ | ⟨⟨what, hw⟩, g6⟩
  · refine va_copyi (ty := .byte) hx hb (hml.trans hl.1.symm) hown (hts _ q212) (hts _ q214) (hts _ q213) (hts _ q33) hK hP hD hS 2 2 0 0 rfl rfl rfl rfl rfl g1 g2 g3 g4 g5 (fun i hi => fits_8 (hcut _ (by omega))) (by decide) (Nat.le_of_ble_eq_true rfl) dX0_copy_54 (fun H locs hP hD hS => ?_)
    rw [cp_32] at hP hD
    have hP : va_P D vwCl [(xo, oX xs xu xd xr xf), (xs, rA ca 3 6 sa), (rw1, rwE ca 0 n1 (va_cpy f1 f1 i0.toNatClampNeg j0.toNatClampNeg z0.toNatClampNeg))] H := hP
    have hD : va_D A [(xo, oX xs xu xd xr xf), (xs, rA ca 3 6 sa), (rw1, rwE ca 0 n1 (va_cpy f1 f1 i0.toNatClampNeg j0.toNatClampNeg z0.toNatClampNeg))] := hD
    refine lv_iconst (v := 0) hx hb dX0_copy_57 (by decide) ?_
    refine vx_ret ?_
    exact k_iret (va_cpy f1 f1 i0.toNatClampNeg j0.toNatClampNeg z0.toNatClampNeg) hx hb hr hlocks (g6.symm) hP hD trivial hS (Nat.le_of_ble_eq_true rfl) (Nat.le_of_ble_eq_true rfl) dX0_copy_58
  · refine nt_cpO (ty := .byte) hx hb (hml.trans hl.1.symm) hown (hts _ q212) (hts _ q214) (hts _ q213) (hts _ q33) hK hP 2 2 0 rfl rfl rfl hw (by decide) (Nat.le_of_ble_eq_true rfl) dX0_copy_54 (nt_noteM (cls := aioN) (names := aioU) (nb := 400) hx hl0 (by decide +kernel) (by decide +kernel) (by decide +kernel) (by decide +kernel) (nx_of nx_A hts hX) nx_oA hZ.1 hZ.2 hS (by rw [hml]; exact hl.1) (nt_text (nt_what (by omega) (by omega) hw)).1 (nt_text (nt_what (by omega) (by omega) hw)).2 (by decide) (Nat.le_of_ble_eq_true rfl) (Nat.le_of_ble_eq_true rfl) (by decide) (Nat.le_of_ble_eq_true rfl) (Nat.le_of_ble_eq_true rfl)) (fun H9 q9 ce hz h9 hce hcv hcl => ?_)
    have hS := vs_same hS hz h9
    have hPz := vp_same hP (h9)
    clear hP
    have hP := hPz
    clear hPz
    obtain ⟨H, rfl⟩ : ∃ z, z = H9 := ⟨_, rfl⟩
    have hP : va_P D vwCl [(xo, oX xs xu xd xr xf), (xs, rA ca 3 6 sa), (rw1, rwE ca 0 n1 f1)] H := hP
    have hD : va_D A [(xo, oX xs xu xd xr xf), (xs, rA ca 3 6 sa), (rw1, rwE ca 0 n1 f1)] := hD
    refine vx_catch (E := "java/lang/ArrayIndexOutOfBoundsException") (name := "java/lang/IndexOutOfBoundsException") hown [(⟨37, 58, 59, 37⟩ : ExceptionTableEntry)] (⟨37, 58, 64, 55⟩ : ExceptionTableEntry) [] (by rw [htb]; rfl) (List.forall_mem_cons.mpr ⟨Or.inr ⟨by decide, "java/lang/NullPointerException", hts _ q145, (hN.2.2.2.2.1 _ (List.mem_of_getElem? (i := 4) rfl))⟩, (fun z hz => absurd hz List.not_mem_nil)⟩) (by decide) (by decide) (hts _ q205) (va_Nw.use rfl (hN.2.2.2.1 _ (List.mem_of_getElem? (i := 8) rfl))) hce hcv hcl ?_
    refine lv_astore (lv' := [(6, .ref q9), (0, .ref xo), (1, .int (nI j)), (2, .int i0), (3, .int (nI k)), (4, .int j0), (5, .int z0)]) hx hb dX0_copy_64 hl (by decide) rfl (fun ls hl => ?_)
    refine lv_bipush (v := (-12)) hx hb dX0_copy_66 (by decide) ?_
    refine vx_ret ?_
    exact k_iret f1 hx hb hr hlocks (g6.symm) hP hD trivial hS (Nat.le_of_ble_eq_true rfl) (Nat.le_of_ble_eq_true rfl) dX0_copy_68
set_option maxHeartbeats 4000000 in
set_option maxRecDepth 100000 in
theorem ct_X0_copy_D0 (l : Launch) (hl0 : l.stackTraces = false) (D : va_G) (ca : Nat → ClassId) (zH : Nat) (xo xs xu xd xr xf : Nat) (sa : Nat → Option Nat) (j k rw1 n1 rw2 n2 : Nat) (f1 f2 : AL) (i0 j0 z0 : Int32) (hj : j < 6) (hj2 : k < 6) (hs : sa j = some rw1) (ht : sa k = some rw2) (hn1 : n1 ≤ 16) (hn2 : n2 ≤ 16) (hcut : ∀ i, i < n1 → ck 0 (f1 i) = f1 i) : vx_Met l yX0_copy (wsH_ yX0_copy cX0_copy 7 (some .int) [((37 : Nat), (58 : Nat), (59 : Nat), (37 : Nat)), ((37 : Nat), (58 : Nat), (64 : Nat), (55 : Nat))]) ({ frames := 12, cells := 3, slots := 410, locals := 10400 }) (va_Pc [.ref xo, .int (nI j), .int i0, .int (nI k), .int j0, .int z0] (prX NW D ca [(xo, oX xs xu xd xr xf), (xs, rA ca 3 6 sa), (rw1, rwE ca 0 n1 f1), (rw2, rwE ca 0 n2 f2)] zH (fun _ => True))) (qI D (fun (r : Int32) (u : AL) => (r, u) = p_cp n1 n2 f1 f2 i0 j0 z0) (fun u => [(xo, oX xs xu xd xr xf), (xs, rA ca 3 6 sa), (rw1, rwE ca 0 n1 f1), (rw2, rwE ca 0 n2 u)]) (fun u H => True) (va_A [(xo, oX xs xu xd xr xf), (xs, rA ca 3 6 sa), (rw1, rwE ca 0 n1 f1), (rw2, rwE ca 0 n2 f2)] zH)) noX 3 410 (va_A [(xo, oX xs xu xd xr xf), (xs, rA ca 3 6 sa), (rw1, rwE ca 0 n1 f1), (rw2, rwE ca 0 n2 f2)] zH) := by
  have hk := NW_ok
  refine k_ofH (Qc := qI D (fun (r : Int32) (u : AL) => (r, u) = p_cp n1 n2 f1 f2 i0 j0 z0) (fun u => [(xo, oX xs xu xd xr xf), (xs, rA ca 3 6 sa), (rw1, rwE ca 0 n1 f1), (rw2, rwE ca 0 n2 u)]) (fun u H => True)) (by decide) (Nat.le_of_ble_eq_true rfl) ?_
  intro p e s m below meth c ls A H hH hx hb hr hts hown hlocks hnm hml hsz hP hD hK hN hA hAn hS hro hl hX hZ htb
  have hl : lv_has ls 7 [(0, .ref xo), (1, .int (nI j)), (2, .int i0), (3, .int (nI k)), (4, .int j0), (5, .int z0)] := hl
  refine lv_iload_n hx hb dX0_copy_0 rfl (lv_at hl 1 rfl) ?_
  refine k_calli (wr := [(xo, oX xs xu xd xr xf), (xs, rA ca 3 6 sa), (rw1, rwE ca 0 n1 f1), (rw2, rwE ca 0 n2 f2)]) (va_runS (As := [.int (nI j)]) (rest := []) ⟨hx, hb, hml, hown, hts⟩ (ct_X0_isSheet hk l D ca H.size (nI j)) (va_cwS 1 hts (lw_S q127 q128 q19 q129) rfl rfl rfl (by decide +kernel) ⟨Nat.le_of_ble_eq_true rfl, Nat.le_of_ble_eq_true rfl⟩) (k_pre hk hK hN hP hD [] (by decide) rfl trivial) rfl rfl hl.1 rfl (lv_room (Nat.le_of_ble_eq_true rfl)) dX0_copy_1 ⟨Nat.le_of_ble_eq_true rfl, Nat.le_of_ble_eq_true rfl⟩) hP hD hS hA [] [0, 1, 2, 3] rfl rfl (by decide) (by decide) (fun r_1 u_2 H locs w_3 hP hD hxw_3 hzw_3 hqw_3 hS => ?_)
  obtain rfl : r_1 = bI (p_in (nI j).toInt64 0 5) := w_3
  refine lv_if_eq (tgt := 14) hx hb dX0_copy_4 (by decide) (fun c_4 => absurd c_4 (by rw [in_5 hj]; decide)) (fun c_4 => ?_)
  refine lv_iload_n hx hb dX0_copy_7 rfl (lv_at hl 3 rfl) ?_
  refine k_calli (wr := [(xo, oX xs xu xd xr xf), (xs, rA ca 3 6 sa), (rw1, rwE ca 0 n1 f1), (rw2, rwE ca 0 n2 f2)]) (va_runS (As := [.int (nI k)]) (rest := []) ⟨hx, hb, hml, hown, hts⟩ (ct_X0_isSheet hk l D ca H.size (nI k)) (va_cwS 1 hts (lw_S q127 q128 q19 q129) rfl rfl rfl (by decide +kernel) ⟨Nat.le_of_ble_eq_true rfl, Nat.le_of_ble_eq_true rfl⟩) (k_pre hk hK hN hP hD [] (by decide) rfl trivial) rfl rfl hl.1 rfl (lv_room (Nat.le_of_ble_eq_true rfl)) dX0_copy_8 ⟨Nat.le_of_ble_eq_true rfl, Nat.le_of_ble_eq_true rfl⟩) hP hD hS hA [] [0, 1, 2, 3] rfl rfl (by decide) (by decide) (fun r_5 u_6 H locs w_7 hP hD hxw_7 hzw_7 hqw_7 hS => ?_)
  obtain rfl : r_5 = bI (p_in (nI k).toInt64 0 5) := w_7
  refine lv_if_ne (tgt := 16) hx hb dX0_copy_11 (by decide) (fun c_8 => ?_) (fun c_8 => absurd c_8 (by rw [in_5 hj2]; decide))
  refine lv_aload_n hx hb dX0_copy_16 rfl (lv_at hl 0 rfl) ?_
  refine va_get (D := D) (ci := 0) (v := .ref xs) (C := RX0) (T := TX0) (N := 5) hx hb hts in_X0 hown hK hP 0 rfl rfl 0 (by decide) (hts _ q293) (fun _ h9 => h9) rfl dX0_copy_17 ?_
  refine lv_iload_n hx hb dX0_copy_20 rfl (lv_at hl 1 rfl) ?_
  refine va_aldq hx hb hK hP 1 3 rfl rfl (vin_nI (a := j) rfl (by omega) (by decide)) dX0_copy_21 ?_
  refine W.eq (g2 := F0 m 22 ls [.ref rw1]) (by rw [nI_clamp (show j < 2 ^ 31 by omega), hs]; rfl) ?_
  refine lv_aload_n hx hb dX0_copy_22 rfl (lv_at hl 0 rfl) ?_
  refine va_get (D := D) (ci := 0) (v := .ref xs) (C := RX0) (T := TX0) (N := 5) hx hb hts in_X0 hown hK hP 0 rfl rfl 0 (by decide) (hts _ q293) (fun _ h9 => h9) rfl dX0_copy_23 ?_
  refine lv_iload_n hx hb dX0_copy_26 rfl (lv_at hl 3 rfl) ?_
  refine va_aldq hx hb hK hP 1 3 rfl rfl (vin_nI (a := k) rfl (by omega) (by decide)) dX0_copy_27 ?_
  refine W.eq (g2 := F0 m 28 ls [.ref rw2, .ref rw1]) (by rw [nI_clamp (show k < 2 ^ 31 by omega), ht]; rfl) ?_
  refine k_calli (wr := [(xo, oX xs xu xd xr xf), (xs, rA ca 3 6 sa)]) (va_runS (As := [.ref rw1, .ref rw2]) (rest := []) ⟨hx, hb, hml, hown, hts⟩ (ct_X0_areUnlike_00 l D ca H.size rw1 n1 rw2 n2 f1 f2) (va_cwS 2 hts (lw_S q206 q207 q19 q208) rfl rfl rfl (by decide +kernel) ⟨Nat.le_of_ble_eq_true rfl, Nat.le_of_ble_eq_true rfl⟩) (k_pre hk hK hN hP hD [2, 3] (by decide) rfl trivial) rfl rfl hl.1 rfl (lv_room (Nat.le_of_ble_eq_true rfl)) dX0_copy_28 ⟨Nat.le_of_ble_eq_true rfl, Nat.le_of_ble_eq_true rfl⟩) hP hD hS hA [2, 3] [0, 1] rfl rfl (by decide) (by decide) (fun r_9 u_10 H locs w_11 hP hD hxw_11 hzw_11 hqw_11 hS => ?_)
  have hP : va_P D vwCl [(xo, oX xs xu xd xr xf), (xs, rA ca 3 6 sa), (rw1, rwE ca 0 n1 f1), (rw2, rwE ca 0 n2 f2)] H := hP
  have hD : va_D A [(xo, oX xs xu xd xr xf), (xs, rA ca 3 6 sa), (rw1, rwE ca 0 n1 f1), (rw2, rwE ca 0 n2 f2)] := hD
  obtain rfl : r_9 = bI false := w_11
  refine lv_if_eq (tgt := 37) hx hb dX0_copy_31 (by decide) (fun c_12 => ?_) (fun c_12 => absurd rfl c_12)
  refine lv_aload_n hx hb dX0_copy_37 rfl (lv_at hl 0 rfl) ?_
  refine va_get (D := D) (ci := 0) (v := .ref xs) (C := RX0) (T := TX0) (N := 5) hx hb hts in_X0 hown hK hP 0 rfl rfl 0 (by decide) (hts _ q293) (fun _ h9 => h9) rfl dX0_copy_38 ?_
  refine lv_iload_n hx hb dX0_copy_41 rfl (lv_at hl 1 rfl) ?_
  refine va_aldq hx hb hK hP 1 3 rfl rfl (vin_nI (a := j) rfl (by omega) (by decide)) dX0_copy_42 ?_
  refine W.eq (g2 := F0 m 43 ls [.ref rw1]) (by rw [nI_clamp (show j < 2 ^ 31 by omega), hs]; rfl) ?_
  refine lv_iload_n hx hb dX0_copy_43 rfl (lv_at hl 2 rfl) ?_
  refine lv_aload_n hx hb dX0_copy_44 rfl (lv_at hl 0 rfl) ?_
  refine va_get (D := D) (ci := 0) (v := .ref xs) (C := RX0) (T := TX0) (N := 5) hx hb hts in_X0 hown hK hP 0 rfl rfl 0 (by decide) (hts _ q293) (fun _ h9 => h9) rfl dX0_copy_45 ?_
  refine lv_iload_n hx hb dX0_copy_48 rfl (lv_at hl 3 rfl) ?_
  refine va_aldq hx hb hK hP 1 3 rfl rfl (vin_nI (a := k) rfl (by omega) (by decide)) dX0_copy_49 ?_
  refine W.eq (g2 := F0 m 50 ls [.ref rw2, .int i0, .ref rw1]) (by rw [nI_clamp (show k < 2 ^ 31 by omega), ht]; rfl) ?_
  refine lv_iload hx hb dX0_copy_50 (lv_at hl 4 rfl) ?_
  refine lv_iload hx hb dX0_copy_52 (lv_at hl 5 rfl) ?_
  rcases cp_cases .byte n1 n2 f1 f2 i0 j0 z0 with ⟨g1, g2, g3, g4, g5, g6⟩ | ⟨⟨what, hw⟩, g6⟩
  · refine va_copyi (ty := .byte) hx hb (hml.trans hl.1.symm) hown (hts _ q212) (hts _ q214) (hts _ q213) (hts _ q33) hK hP hD hS 2 3 0 0 rfl rfl rfl rfl rfl g1 g2 g3 g4 g5 (fun i hi => fits_8 (hcut _ (by omega))) (by decide) (Nat.le_of_ble_eq_true rfl) dX0_copy_54 (fun H locs hP hD hS => ?_)
    rw [cp_32] at hP hD
    have hP : va_P D vwCl [(xo, oX xs xu xd xr xf), (xs, rA ca 3 6 sa), (rw1, rwE ca 0 n1 f1), (rw2, rwE ca 0 n2 (va_cpy f1 f2 i0.toNatClampNeg j0.toNatClampNeg z0.toNatClampNeg))] H := hP
    have hD : va_D A [(xo, oX xs xu xd xr xf), (xs, rA ca 3 6 sa), (rw1, rwE ca 0 n1 f1), (rw2, rwE ca 0 n2 (va_cpy f1 f2 i0.toNatClampNeg j0.toNatClampNeg z0.toNatClampNeg))] := hD
    refine lv_iconst (v := 0) hx hb dX0_copy_57 (by decide) ?_
    refine vx_ret ?_
    exact k_iret (va_cpy f1 f2 i0.toNatClampNeg j0.toNatClampNeg z0.toNatClampNeg) hx hb hr hlocks (g6.symm) hP hD trivial hS (Nat.le_of_ble_eq_true rfl) (Nat.le_of_ble_eq_true rfl) dX0_copy_58
  · refine nt_cpO (ty := .byte) hx hb (hml.trans hl.1.symm) hown (hts _ q212) (hts _ q214) (hts _ q213) (hts _ q33) hK hP 2 3 0 rfl rfl rfl hw (by decide) (Nat.le_of_ble_eq_true rfl) dX0_copy_54 (nt_noteM (cls := aioN) (names := aioU) (nb := 400) hx hl0 (by decide +kernel) (by decide +kernel) (by decide +kernel) (by decide +kernel) (nx_of nx_A hts hX) nx_oA hZ.1 hZ.2 hS (by rw [hml]; exact hl.1) (nt_text (nt_what (by omega) (by omega) hw)).1 (nt_text (nt_what (by omega) (by omega) hw)).2 (by decide) (Nat.le_of_ble_eq_true rfl) (Nat.le_of_ble_eq_true rfl) (by decide) (Nat.le_of_ble_eq_true rfl) (Nat.le_of_ble_eq_true rfl)) (fun H9 q9 ce hz h9 hce hcv hcl => ?_)
    have hS := vs_same hS hz h9
    have hPz := vp_same hP (h9)
    clear hP
    have hP := hPz
    clear hPz
    obtain ⟨H, rfl⟩ : ∃ z, z = H9 := ⟨_, rfl⟩
    have hP : va_P D vwCl [(xo, oX xs xu xd xr xf), (xs, rA ca 3 6 sa), (rw1, rwE ca 0 n1 f1), (rw2, rwE ca 0 n2 f2)] H := hP
    have hD : va_D A [(xo, oX xs xu xd xr xf), (xs, rA ca 3 6 sa), (rw1, rwE ca 0 n1 f1), (rw2, rwE ca 0 n2 f2)] := hD
    refine vx_catch (E := "java/lang/ArrayIndexOutOfBoundsException") (name := "java/lang/IndexOutOfBoundsException") hown [(⟨37, 58, 59, 37⟩ : ExceptionTableEntry)] (⟨37, 58, 64, 55⟩ : ExceptionTableEntry) [] (by rw [htb]; rfl) (List.forall_mem_cons.mpr ⟨Or.inr ⟨by decide, "java/lang/NullPointerException", hts _ q145, (hN.2.2.2.2.1 _ (List.mem_of_getElem? (i := 4) rfl))⟩, (fun z hz => absurd hz List.not_mem_nil)⟩) (by decide) (by decide) (hts _ q205) (va_Nw.use rfl (hN.2.2.2.1 _ (List.mem_of_getElem? (i := 8) rfl))) hce hcv hcl ?_
    refine lv_astore (lv' := [(6, .ref q9), (0, .ref xo), (1, .int (nI j)), (2, .int i0), (3, .int (nI k)), (4, .int j0), (5, .int z0)]) hx hb dX0_copy_64 hl (by decide) rfl (fun ls hl => ?_)
    refine lv_bipush (v := (-12)) hx hb dX0_copy_66 (by decide) ?_
    refine vx_ret ?_
    exact k_iret f2 hx hb hr hlocks (g6.symm) hP hD trivial hS (Nat.le_of_ble_eq_true rfl) (Nat.le_of_ble_eq_true rfl) dX0_copy_68
set_option maxHeartbeats 4000000 in
set_option maxRecDepth 100000 in
theorem ct_X0_copy_S1 (l : Launch) (hl0 : l.stackTraces = false) (D : va_G) (ca : Nat → ClassId) (zH : Nat) (xo xs xu xd xr xf : Nat) (sa : Nat → Option Nat) (j k rw1 n1 : Nat) (f1 : AL) (i0 j0 z0 : Int32) (hj : j < 6) (hj2 : k < 6) (hs : sa j = some rw1) (ht : sa k = some rw1) (hn1 : n1 ≤ 16) (hcut : ∀ i, i < n1 → ck 1 (f1 i) = f1 i) : vx_Met l yX0_copy (wsH_ yX0_copy cX0_copy 7 (some .int) [((37 : Nat), (58 : Nat), (59 : Nat), (37 : Nat)), ((37 : Nat), (58 : Nat), (64 : Nat), (55 : Nat))]) ({ frames := 12, cells := 3, slots := 410, locals := 10400 }) (va_Pc [.ref xo, .int (nI j), .int i0, .int (nI k), .int j0, .int z0] (prX NW D ca [(xo, oX xs xu xd xr xf), (xs, rA ca 3 6 sa), (rw1, rwE ca 1 n1 f1)] zH (fun _ => True))) (qI D (fun (r : Int32) (u : AL) => (r, u) = p_cp n1 n1 f1 f1 i0 j0 z0) (fun u => [(xo, oX xs xu xd xr xf), (xs, rA ca 3 6 sa), (rw1, rwE ca 1 n1 u)]) (fun u H => True) (va_A [(xo, oX xs xu xd xr xf), (xs, rA ca 3 6 sa), (rw1, rwE ca 1 n1 f1)] zH)) noX 3 410 (va_A [(xo, oX xs xu xd xr xf), (xs, rA ca 3 6 sa), (rw1, rwE ca 1 n1 f1)] zH) := by
  have hk := NW_ok
  refine k_ofH (Qc := qI D (fun (r : Int32) (u : AL) => (r, u) = p_cp n1 n1 f1 f1 i0 j0 z0) (fun u => [(xo, oX xs xu xd xr xf), (xs, rA ca 3 6 sa), (rw1, rwE ca 1 n1 u)]) (fun u H => True)) (by decide) (Nat.le_of_ble_eq_true rfl) ?_
  intro p e s m below meth c ls A H hH hx hb hr hts hown hlocks hnm hml hsz hP hD hK hN hA hAn hS hro hl hX hZ htb
  have hl : lv_has ls 7 [(0, .ref xo), (1, .int (nI j)), (2, .int i0), (3, .int (nI k)), (4, .int j0), (5, .int z0)] := hl
  refine lv_iload_n hx hb dX0_copy_0 rfl (lv_at hl 1 rfl) ?_
  refine k_calli (wr := [(xo, oX xs xu xd xr xf), (xs, rA ca 3 6 sa), (rw1, rwE ca 1 n1 f1)]) (va_runS (As := [.int (nI j)]) (rest := []) ⟨hx, hb, hml, hown, hts⟩ (ct_X0_isSheet hk l D ca H.size (nI j)) (va_cwS 1 hts (lw_S q127 q128 q19 q129) rfl rfl rfl (by decide +kernel) ⟨Nat.le_of_ble_eq_true rfl, Nat.le_of_ble_eq_true rfl⟩) (k_pre hk hK hN hP hD [] (by decide) rfl trivial) rfl rfl hl.1 rfl (lv_room (Nat.le_of_ble_eq_true rfl)) dX0_copy_1 ⟨Nat.le_of_ble_eq_true rfl, Nat.le_of_ble_eq_true rfl⟩) hP hD hS hA [] [0, 1, 2] rfl rfl (by decide) (by decide) (fun r_1 u_2 H locs w_3 hP hD hxw_3 hzw_3 hqw_3 hS => ?_)
  obtain rfl : r_1 = bI (p_in (nI j).toInt64 0 5) := w_3
  refine lv_if_eq (tgt := 14) hx hb dX0_copy_4 (by decide) (fun c_4 => absurd c_4 (by rw [in_5 hj]; decide)) (fun c_4 => ?_)
  refine lv_iload_n hx hb dX0_copy_7 rfl (lv_at hl 3 rfl) ?_
  refine k_calli (wr := [(xo, oX xs xu xd xr xf), (xs, rA ca 3 6 sa), (rw1, rwE ca 1 n1 f1)]) (va_runS (As := [.int (nI k)]) (rest := []) ⟨hx, hb, hml, hown, hts⟩ (ct_X0_isSheet hk l D ca H.size (nI k)) (va_cwS 1 hts (lw_S q127 q128 q19 q129) rfl rfl rfl (by decide +kernel) ⟨Nat.le_of_ble_eq_true rfl, Nat.le_of_ble_eq_true rfl⟩) (k_pre hk hK hN hP hD [] (by decide) rfl trivial) rfl rfl hl.1 rfl (lv_room (Nat.le_of_ble_eq_true rfl)) dX0_copy_8 ⟨Nat.le_of_ble_eq_true rfl, Nat.le_of_ble_eq_true rfl⟩) hP hD hS hA [] [0, 1, 2] rfl rfl (by decide) (by decide) (fun r_5 u_6 H locs w_7 hP hD hxw_7 hzw_7 hqw_7 hS => ?_)
  obtain rfl : r_5 = bI (p_in (nI k).toInt64 0 5) := w_7
  refine lv_if_ne (tgt := 16) hx hb dX0_copy_11 (by decide) (fun c_8 => ?_) (fun c_8 => absurd c_8 (by rw [in_5 hj2]; decide))
  refine lv_aload_n hx hb dX0_copy_16 rfl (lv_at hl 0 rfl) ?_
  refine va_get (D := D) (ci := 0) (v := .ref xs) (C := RX0) (T := TX0) (N := 5) hx hb hts in_X0 hown hK hP 0 rfl rfl 0 (by decide) (hts _ q293) (fun _ h9 => h9) rfl dX0_copy_17 ?_
  refine lv_iload_n hx hb dX0_copy_20 rfl (lv_at hl 1 rfl) ?_
  refine va_aldq hx hb hK hP 1 3 rfl rfl (vin_nI (a := j) rfl (by omega) (by decide)) dX0_copy_21 ?_
  refine W.eq (g2 := F0 m 22 ls [.ref rw1]) (by rw [nI_clamp (show j < 2 ^ 31 by omega), hs]; rfl) ?_
  refine lv_aload_n hx hb dX0_copy_22 rfl (lv_at hl 0 rfl) ?_
  refine va_get (D := D) (ci := 0) (v := .ref xs) (C := RX0) (T := TX0) (N := 5) hx hb hts in_X0 hown hK hP 0 rfl rfl 0 (by decide) (hts _ q293) (fun _ h9 => h9) rfl dX0_copy_23 ?_
  refine lv_iload_n hx hb dX0_copy_26 rfl (lv_at hl 3 rfl) ?_
  refine va_aldq hx hb hK hP 1 3 rfl rfl (vin_nI (a := k) rfl (by omega) (by decide)) dX0_copy_27 ?_
  refine W.eq (g2 := F0 m 28 ls [.ref rw1, .ref rw1]) (by rw [nI_clamp (show k < 2 ^ 31 by omega), ht]; rfl) ?_
  refine k_calli (wr := [(xo, oX xs xu xd xr xf), (xs, rA ca 3 6 sa)]) (va_runS (As := [.ref rw1, .ref rw1]) (rest := []) ⟨hx, hb, hml, hown, hts⟩ (ct_X0_areUnlike_S1 l D ca H.size rw1 n1 f1) (va_cwS 2 hts (lw_S q206 q207 q19 q208) rfl rfl rfl (by decide +kernel) ⟨Nat.le_of_ble_eq_true rfl, Nat.le_of_ble_eq_true rfl⟩) (k_pre hk hK hN hP hD [2] (by decide) rfl trivial) rfl rfl hl.1 rfl (lv_room (Nat.le_of_ble_eq_true rfl)) dX0_copy_28 ⟨Nat.le_of_ble_eq_true rfl, Nat.le_of_ble_eq_true rfl⟩) hP hD hS hA [2] [0, 1] rfl rfl (by decide) (by decide) (fun r_9 u_10 H locs w_11 hP hD hxw_11 hzw_11 hqw_11 hS => ?_)
  have hP : va_P D vwCl [(xo, oX xs xu xd xr xf), (xs, rA ca 3 6 sa), (rw1, rwE ca 1 n1 f1)] H := hP
  have hD : va_D A [(xo, oX xs xu xd xr xf), (xs, rA ca 3 6 sa), (rw1, rwE ca 1 n1 f1)] := hD
  obtain rfl : r_9 = bI false := w_11
  refine lv_if_eq (tgt := 37) hx hb dX0_copy_31 (by decide) (fun c_12 => ?_) (fun c_12 => absurd rfl c_12)
  refine lv_aload_n hx hb dX0_copy_37 rfl (lv_at hl 0 rfl) ?_
  refine va_get (D := D) (ci := 0) (v := .ref xs) (C := RX0) (T := TX0) (N := 5) hx hb hts in_X0 hown hK hP 0 rfl rfl 0 (by decide) (hts _ q293) (fun _ h9 => h9) rfl dX0_copy_38 ?_
  refine lv_iload_n hx hb dX0_copy_41 rfl (lv_at hl 1 rfl) ?_
  refine va_aldq hx hb hK hP 1 3 rfl rfl (vin_nI (a := j) rfl (by omega) (by decide)) dX0_copy_42 ?_
  refine W.eq (g2 := F0 m 43 ls [.ref rw1]) (by rw [nI_clamp (show j < 2 ^ 31 by omega), hs]; rfl) ?_
  refine lv_iload_n hx hb dX0_copy_43 rfl (lv_at hl 2 rfl) ?_
  refine lv_aload_n hx hb dX0_copy_44 rfl (lv_at hl 0 rfl) ?_
  refine va_get (D := D) (ci := 0) (v := .ref xs) (C := RX0) (T := TX0) (N := 5) hx hb hts in_X0 hown hK hP 0 rfl rfl 0 (by decide) (hts _ q293) (fun _ h9 => h9) rfl dX0_copy_45 ?_
  refine lv_iload_n hx hb dX0_copy_48 rfl (lv_at hl 3 rfl) ?_
  refine va_aldq hx hb hK hP 1 3 rfl rfl (vin_nI (a := k) rfl (by omega) (by decide)) dX0_copy_49 ?_
  refine W.eq (g2 := F0 m 50 ls [.ref rw1, .int i0, .ref rw1]) (by rw [nI_clamp (show k < 2 ^ 31 by omega), ht]; rfl) ?_
  refine lv_iload hx hb dX0_copy_50 (lv_at hl 4 rfl) ?_
  refine lv_iload hx hb dX0_copy_52 (lv_at hl 5 rfl) ?_
  rcases cp_cases .int n1 n1 f1 f1 i0 j0 z0 with ⟨g1, g2, g3, g4, g5, g6⟩ | ⟨⟨what, hw⟩, g6⟩
  · refine va_copyi (ty := .int) hx hb (hml.trans hl.1.symm) hown (hts _ q212) (hts _ q214) (hts _ q213) (hts _ q33) hK hP hD hS 2 2 1 1 rfl rfl rfl rfl rfl g1 g2 g3 g4 g5 (fun i hi => rfl) (by decide) (Nat.le_of_ble_eq_true rfl) dX0_copy_54 (fun H locs hP hD hS => ?_)
    rw [cp_32] at hP hD
    have hP : va_P D vwCl [(xo, oX xs xu xd xr xf), (xs, rA ca 3 6 sa), (rw1, rwE ca 1 n1 (va_cpy f1 f1 i0.toNatClampNeg j0.toNatClampNeg z0.toNatClampNeg))] H := hP
    have hD : va_D A [(xo, oX xs xu xd xr xf), (xs, rA ca 3 6 sa), (rw1, rwE ca 1 n1 (va_cpy f1 f1 i0.toNatClampNeg j0.toNatClampNeg z0.toNatClampNeg))] := hD
    refine lv_iconst (v := 0) hx hb dX0_copy_57 (by decide) ?_
    refine vx_ret ?_
    exact k_iret (va_cpy f1 f1 i0.toNatClampNeg j0.toNatClampNeg z0.toNatClampNeg) hx hb hr hlocks (g6.symm) hP hD trivial hS (Nat.le_of_ble_eq_true rfl) (Nat.le_of_ble_eq_true rfl) dX0_copy_58
  · refine nt_cpO (ty := .int) hx hb (hml.trans hl.1.symm) hown (hts _ q212) (hts _ q214) (hts _ q213) (hts _ q33) hK hP 2 2 1 rfl rfl rfl hw (by decide) (Nat.le_of_ble_eq_true rfl) dX0_copy_54 (nt_noteM (cls := aioN) (names := aioU) (nb := 400) hx hl0 (by decide +kernel) (by decide +kernel) (by decide +kernel) (by decide +kernel) (nx_of nx_A hts hX) nx_oA hZ.1 hZ.2 hS (by rw [hml]; exact hl.1) (nt_text (nt_what (by omega) (by omega) hw)).1 (nt_text (nt_what (by omega) (by omega) hw)).2 (by decide) (Nat.le_of_ble_eq_true rfl) (Nat.le_of_ble_eq_true rfl) (by decide) (Nat.le_of_ble_eq_true rfl) (Nat.le_of_ble_eq_true rfl)) (fun H9 q9 ce hz h9 hce hcv hcl => ?_)
    have hS := vs_same hS hz h9
    have hPz := vp_same hP (h9)
    clear hP
    have hP := hPz
    clear hPz
    obtain ⟨H, rfl⟩ : ∃ z, z = H9 := ⟨_, rfl⟩
    have hP : va_P D vwCl [(xo, oX xs xu xd xr xf), (xs, rA ca 3 6 sa), (rw1, rwE ca 1 n1 f1)] H := hP
    have hD : va_D A [(xo, oX xs xu xd xr xf), (xs, rA ca 3 6 sa), (rw1, rwE ca 1 n1 f1)] := hD
    refine vx_catch (E := "java/lang/ArrayIndexOutOfBoundsException") (name := "java/lang/IndexOutOfBoundsException") hown [(⟨37, 58, 59, 37⟩ : ExceptionTableEntry)] (⟨37, 58, 64, 55⟩ : ExceptionTableEntry) [] (by rw [htb]; rfl) (List.forall_mem_cons.mpr ⟨Or.inr ⟨by decide, "java/lang/NullPointerException", hts _ q145, (hN.2.2.2.2.1 _ (List.mem_of_getElem? (i := 4) rfl))⟩, (fun z hz => absurd hz List.not_mem_nil)⟩) (by decide) (by decide) (hts _ q205) (va_Nw.use rfl (hN.2.2.2.1 _ (List.mem_of_getElem? (i := 8) rfl))) hce hcv hcl ?_
    refine lv_astore (lv' := [(6, .ref q9), (0, .ref xo), (1, .int (nI j)), (2, .int i0), (3, .int (nI k)), (4, .int j0), (5, .int z0)]) hx hb dX0_copy_64 hl (by decide) rfl (fun ls hl => ?_)
    refine lv_bipush (v := (-12)) hx hb dX0_copy_66 (by decide) ?_
    refine vx_ret ?_
    exact k_iret f1 hx hb hr hlocks (g6.symm) hP hD trivial hS (Nat.le_of_ble_eq_true rfl) (Nat.le_of_ble_eq_true rfl) dX0_copy_68
set_option maxHeartbeats 4000000 in
set_option maxRecDepth 100000 in
theorem ct_X0_copy_D1 (l : Launch) (hl0 : l.stackTraces = false) (D : va_G) (ca : Nat → ClassId) (zH : Nat) (xo xs xu xd xr xf : Nat) (sa : Nat → Option Nat) (j k rw1 n1 rw2 n2 : Nat) (f1 f2 : AL) (i0 j0 z0 : Int32) (hj : j < 6) (hj2 : k < 6) (hs : sa j = some rw1) (ht : sa k = some rw2) (hn1 : n1 ≤ 16) (hn2 : n2 ≤ 16) (hcut : ∀ i, i < n1 → ck 1 (f1 i) = f1 i) : vx_Met l yX0_copy (wsH_ yX0_copy cX0_copy 7 (some .int) [((37 : Nat), (58 : Nat), (59 : Nat), (37 : Nat)), ((37 : Nat), (58 : Nat), (64 : Nat), (55 : Nat))]) ({ frames := 12, cells := 3, slots := 410, locals := 10400 }) (va_Pc [.ref xo, .int (nI j), .int i0, .int (nI k), .int j0, .int z0] (prX NW D ca [(xo, oX xs xu xd xr xf), (xs, rA ca 3 6 sa), (rw1, rwE ca 1 n1 f1), (rw2, rwE ca 1 n2 f2)] zH (fun _ => True))) (qI D (fun (r : Int32) (u : AL) => (r, u) = p_cp n1 n2 f1 f2 i0 j0 z0) (fun u => [(xo, oX xs xu xd xr xf), (xs, rA ca 3 6 sa), (rw1, rwE ca 1 n1 f1), (rw2, rwE ca 1 n2 u)]) (fun u H => True) (va_A [(xo, oX xs xu xd xr xf), (xs, rA ca 3 6 sa), (rw1, rwE ca 1 n1 f1), (rw2, rwE ca 1 n2 f2)] zH)) noX 3 410 (va_A [(xo, oX xs xu xd xr xf), (xs, rA ca 3 6 sa), (rw1, rwE ca 1 n1 f1), (rw2, rwE ca 1 n2 f2)] zH) := by
  have hk := NW_ok
  refine k_ofH (Qc := qI D (fun (r : Int32) (u : AL) => (r, u) = p_cp n1 n2 f1 f2 i0 j0 z0) (fun u => [(xo, oX xs xu xd xr xf), (xs, rA ca 3 6 sa), (rw1, rwE ca 1 n1 f1), (rw2, rwE ca 1 n2 u)]) (fun u H => True)) (by decide) (Nat.le_of_ble_eq_true rfl) ?_
  intro p e s m below meth c ls A H hH hx hb hr hts hown hlocks hnm hml hsz hP hD hK hN hA hAn hS hro hl hX hZ htb
  have hl : lv_has ls 7 [(0, .ref xo), (1, .int (nI j)), (2, .int i0), (3, .int (nI k)), (4, .int j0), (5, .int z0)] := hl
  refine lv_iload_n hx hb dX0_copy_0 rfl (lv_at hl 1 rfl) ?_
  refine k_calli (wr := [(xo, oX xs xu xd xr xf), (xs, rA ca 3 6 sa), (rw1, rwE ca 1 n1 f1), (rw2, rwE ca 1 n2 f2)]) (va_runS (As := [.int (nI j)]) (rest := []) ⟨hx, hb, hml, hown, hts⟩ (ct_X0_isSheet hk l D ca H.size (nI j)) (va_cwS 1 hts (lw_S q127 q128 q19 q129) rfl rfl rfl (by decide +kernel) ⟨Nat.le_of_ble_eq_true rfl, Nat.le_of_ble_eq_true rfl⟩) (k_pre hk hK hN hP hD [] (by decide) rfl trivial) rfl rfl hl.1 rfl (lv_room (Nat.le_of_ble_eq_true rfl)) dX0_copy_1 ⟨Nat.le_of_ble_eq_true rfl, Nat.le_of_ble_eq_true rfl⟩) hP hD hS hA [] [0, 1, 2, 3] rfl rfl (by decide) (by decide) (fun r_1 u_2 H locs w_3 hP hD hxw_3 hzw_3 hqw_3 hS => ?_)
  obtain rfl : r_1 = bI (p_in (nI j).toInt64 0 5) := w_3
  refine lv_if_eq (tgt := 14) hx hb dX0_copy_4 (by decide) (fun c_4 => absurd c_4 (by rw [in_5 hj]; decide)) (fun c_4 => ?_)
  refine lv_iload_n hx hb dX0_copy_7 rfl (lv_at hl 3 rfl) ?_
  refine k_calli (wr := [(xo, oX xs xu xd xr xf), (xs, rA ca 3 6 sa), (rw1, rwE ca 1 n1 f1), (rw2, rwE ca 1 n2 f2)]) (va_runS (As := [.int (nI k)]) (rest := []) ⟨hx, hb, hml, hown, hts⟩ (ct_X0_isSheet hk l D ca H.size (nI k)) (va_cwS 1 hts (lw_S q127 q128 q19 q129) rfl rfl rfl (by decide +kernel) ⟨Nat.le_of_ble_eq_true rfl, Nat.le_of_ble_eq_true rfl⟩) (k_pre hk hK hN hP hD [] (by decide) rfl trivial) rfl rfl hl.1 rfl (lv_room (Nat.le_of_ble_eq_true rfl)) dX0_copy_8 ⟨Nat.le_of_ble_eq_true rfl, Nat.le_of_ble_eq_true rfl⟩) hP hD hS hA [] [0, 1, 2, 3] rfl rfl (by decide) (by decide) (fun r_5 u_6 H locs w_7 hP hD hxw_7 hzw_7 hqw_7 hS => ?_)
  obtain rfl : r_5 = bI (p_in (nI k).toInt64 0 5) := w_7
  refine lv_if_ne (tgt := 16) hx hb dX0_copy_11 (by decide) (fun c_8 => ?_) (fun c_8 => absurd c_8 (by rw [in_5 hj2]; decide))
  refine lv_aload_n hx hb dX0_copy_16 rfl (lv_at hl 0 rfl) ?_
  refine va_get (D := D) (ci := 0) (v := .ref xs) (C := RX0) (T := TX0) (N := 5) hx hb hts in_X0 hown hK hP 0 rfl rfl 0 (by decide) (hts _ q293) (fun _ h9 => h9) rfl dX0_copy_17 ?_
  refine lv_iload_n hx hb dX0_copy_20 rfl (lv_at hl 1 rfl) ?_
  refine va_aldq hx hb hK hP 1 3 rfl rfl (vin_nI (a := j) rfl (by omega) (by decide)) dX0_copy_21 ?_
  refine W.eq (g2 := F0 m 22 ls [.ref rw1]) (by rw [nI_clamp (show j < 2 ^ 31 by omega), hs]; rfl) ?_
  refine lv_aload_n hx hb dX0_copy_22 rfl (lv_at hl 0 rfl) ?_
  refine va_get (D := D) (ci := 0) (v := .ref xs) (C := RX0) (T := TX0) (N := 5) hx hb hts in_X0 hown hK hP 0 rfl rfl 0 (by decide) (hts _ q293) (fun _ h9 => h9) rfl dX0_copy_23 ?_
  refine lv_iload_n hx hb dX0_copy_26 rfl (lv_at hl 3 rfl) ?_
  refine va_aldq hx hb hK hP 1 3 rfl rfl (vin_nI (a := k) rfl (by omega) (by decide)) dX0_copy_27 ?_
  refine W.eq (g2 := F0 m 28 ls [.ref rw2, .ref rw1]) (by rw [nI_clamp (show k < 2 ^ 31 by omega), ht]; rfl) ?_
  refine k_calli (wr := [(xo, oX xs xu xd xr xf), (xs, rA ca 3 6 sa)]) (va_runS (As := [.ref rw1, .ref rw2]) (rest := []) ⟨hx, hb, hml, hown, hts⟩ (ct_X0_areUnlike_11 l D ca H.size rw1 n1 rw2 n2 f1 f2) (va_cwS 2 hts (lw_S q206 q207 q19 q208) rfl rfl rfl (by decide +kernel) ⟨Nat.le_of_ble_eq_true rfl, Nat.le_of_ble_eq_true rfl⟩) (k_pre hk hK hN hP hD [2, 3] (by decide) rfl trivial) rfl rfl hl.1 rfl (lv_room (Nat.le_of_ble_eq_true rfl)) dX0_copy_28 ⟨Nat.le_of_ble_eq_true rfl, Nat.le_of_ble_eq_true rfl⟩) hP hD hS hA [2, 3] [0, 1] rfl rfl (by decide) (by decide) (fun r_9 u_10 H locs w_11 hP hD hxw_11 hzw_11 hqw_11 hS => ?_)
  have hP : va_P D vwCl [(xo, oX xs xu xd xr xf), (xs, rA ca 3 6 sa), (rw1, rwE ca 1 n1 f1), (rw2, rwE ca 1 n2 f2)] H := hP
  have hD : va_D A [(xo, oX xs xu xd xr xf), (xs, rA ca 3 6 sa), (rw1, rwE ca 1 n1 f1), (rw2, rwE ca 1 n2 f2)] := hD
  obtain rfl : r_9 = bI false := w_11
  refine lv_if_eq (tgt := 37) hx hb dX0_copy_31 (by decide) (fun c_12 => ?_) (fun c_12 => absurd rfl c_12)
  refine lv_aload_n hx hb dX0_copy_37 rfl (lv_at hl 0 rfl) ?_
  refine va_get (D := D) (ci := 0) (v := .ref xs) (C := RX0) (T := TX0) (N := 5) hx hb hts in_X0 hown hK hP 0 rfl rfl 0 (by decide) (hts _ q293) (fun _ h9 => h9) rfl dX0_copy_38 ?_
  refine lv_iload_n hx hb dX0_copy_41 rfl (lv_at hl 1 rfl) ?_
  refine va_aldq hx hb hK hP 1 3 rfl rfl (vin_nI (a := j) rfl (by omega) (by decide)) dX0_copy_42 ?_
  refine W.eq (g2 := F0 m 43 ls [.ref rw1]) (by rw [nI_clamp (show j < 2 ^ 31 by omega), hs]; rfl) ?_
  refine lv_iload_n hx hb dX0_copy_43 rfl (lv_at hl 2 rfl) ?_
  refine lv_aload_n hx hb dX0_copy_44 rfl (lv_at hl 0 rfl) ?_
  refine va_get (D := D) (ci := 0) (v := .ref xs) (C := RX0) (T := TX0) (N := 5) hx hb hts in_X0 hown hK hP 0 rfl rfl 0 (by decide) (hts _ q293) (fun _ h9 => h9) rfl dX0_copy_45 ?_
  refine lv_iload_n hx hb dX0_copy_48 rfl (lv_at hl 3 rfl) ?_
  refine va_aldq hx hb hK hP 1 3 rfl rfl (vin_nI (a := k) rfl (by omega) (by decide)) dX0_copy_49 ?_
  refine W.eq (g2 := F0 m 50 ls [.ref rw2, .int i0, .ref rw1]) (by rw [nI_clamp (show k < 2 ^ 31 by omega), ht]; rfl) ?_
  refine lv_iload hx hb dX0_copy_50 (lv_at hl 4 rfl) ?_
  refine lv_iload hx hb dX0_copy_52 (lv_at hl 5 rfl) ?_
  rcases cp_cases .int n1 n2 f1 f2 i0 j0 z0 with ⟨g1, g2, g3, g4, g5, g6⟩ | ⟨⟨what, hw⟩, g6⟩
  · refine va_copyi (ty := .int) hx hb (hml.trans hl.1.symm) hown (hts _ q212) (hts _ q214) (hts _ q213) (hts _ q33) hK hP hD hS 2 3 1 1 rfl rfl rfl rfl rfl g1 g2 g3 g4 g5 (fun i hi => rfl) (by decide) (Nat.le_of_ble_eq_true rfl) dX0_copy_54 (fun H locs hP hD hS => ?_)
    rw [cp_32] at hP hD
    have hP : va_P D vwCl [(xo, oX xs xu xd xr xf), (xs, rA ca 3 6 sa), (rw1, rwE ca 1 n1 f1), (rw2, rwE ca 1 n2 (va_cpy f1 f2 i0.toNatClampNeg j0.toNatClampNeg z0.toNatClampNeg))] H := hP
    have hD : va_D A [(xo, oX xs xu xd xr xf), (xs, rA ca 3 6 sa), (rw1, rwE ca 1 n1 f1), (rw2, rwE ca 1 n2 (va_cpy f1 f2 i0.toNatClampNeg j0.toNatClampNeg z0.toNatClampNeg))] := hD
    refine lv_iconst (v := 0) hx hb dX0_copy_57 (by decide) ?_
    refine vx_ret ?_
    exact k_iret (va_cpy f1 f2 i0.toNatClampNeg j0.toNatClampNeg z0.toNatClampNeg) hx hb hr hlocks (g6.symm) hP hD trivial hS (Nat.le_of_ble_eq_true rfl) (Nat.le_of_ble_eq_true rfl) dX0_copy_58
  · refine nt_cpO (ty := .int) hx hb (hml.trans hl.1.symm) hown (hts _ q212) (hts _ q214) (hts _ q213) (hts _ q33) hK hP 2 3 1 rfl rfl rfl hw (by decide) (Nat.le_of_ble_eq_true rfl) dX0_copy_54 (nt_noteM (cls := aioN) (names := aioU) (nb := 400) hx hl0 (by decide +kernel) (by decide +kernel) (by decide +kernel) (by decide +kernel) (nx_of nx_A hts hX) nx_oA hZ.1 hZ.2 hS (by rw [hml]; exact hl.1) (nt_text (nt_what (by omega) (by omega) hw)).1 (nt_text (nt_what (by omega) (by omega) hw)).2 (by decide) (Nat.le_of_ble_eq_true rfl) (Nat.le_of_ble_eq_true rfl) (by decide) (Nat.le_of_ble_eq_true rfl) (Nat.le_of_ble_eq_true rfl)) (fun H9 q9 ce hz h9 hce hcv hcl => ?_)
    have hS := vs_same hS hz h9
    have hPz := vp_same hP (h9)
    clear hP
    have hP := hPz
    clear hPz
    obtain ⟨H, rfl⟩ : ∃ z, z = H9 := ⟨_, rfl⟩
    have hP : va_P D vwCl [(xo, oX xs xu xd xr xf), (xs, rA ca 3 6 sa), (rw1, rwE ca 1 n1 f1), (rw2, rwE ca 1 n2 f2)] H := hP
    have hD : va_D A [(xo, oX xs xu xd xr xf), (xs, rA ca 3 6 sa), (rw1, rwE ca 1 n1 f1), (rw2, rwE ca 1 n2 f2)] := hD
    refine vx_catch (E := "java/lang/ArrayIndexOutOfBoundsException") (name := "java/lang/IndexOutOfBoundsException") hown [(⟨37, 58, 59, 37⟩ : ExceptionTableEntry)] (⟨37, 58, 64, 55⟩ : ExceptionTableEntry) [] (by rw [htb]; rfl) (List.forall_mem_cons.mpr ⟨Or.inr ⟨by decide, "java/lang/NullPointerException", hts _ q145, (hN.2.2.2.2.1 _ (List.mem_of_getElem? (i := 4) rfl))⟩, (fun z hz => absurd hz List.not_mem_nil)⟩) (by decide) (by decide) (hts _ q205) (va_Nw.use rfl (hN.2.2.2.1 _ (List.mem_of_getElem? (i := 8) rfl))) hce hcv hcl ?_
    refine lv_astore (lv' := [(6, .ref q9), (0, .ref xo), (1, .int (nI j)), (2, .int i0), (3, .int (nI k)), (4, .int j0), (5, .int z0)]) hx hb dX0_copy_64 hl (by decide) rfl (fun ls hl => ?_)
    refine lv_bipush (v := (-12)) hx hb dX0_copy_66 (by decide) ?_
    refine vx_ret ?_
    exact k_iret f2 hx hb hr hlocks (g6.symm) hP hD trivial hS (Nat.le_of_ble_eq_true rfl) (Nat.le_of_ble_eq_true rfl) dX0_copy_68
set_option maxHeartbeats 4000000 in
set_option maxRecDepth 100000 in
theorem ct_X0_copy_S2 (l : Launch) (hl0 : l.stackTraces = false) (D : va_G) (ca : Nat → ClassId) (zH : Nat) (xo xs xu xd xr xf : Nat) (sa : Nat → Option Nat) (j k rw1 n1 : Nat) (f1 : AL) (i0 j0 z0 : Int32) (hj : j < 6) (hj2 : k < 6) (hs : sa j = some rw1) (ht : sa k = some rw1) (hn1 : n1 ≤ 16) (hcut : ∀ i, i < n1 → ck 2 (f1 i) = f1 i) : vx_Met l yX0_copy (wsH_ yX0_copy cX0_copy 7 (some .int) [((37 : Nat), (58 : Nat), (59 : Nat), (37 : Nat)), ((37 : Nat), (58 : Nat), (64 : Nat), (55 : Nat))]) ({ frames := 12, cells := 3, slots := 410, locals := 10400 }) (va_Pc [.ref xo, .int (nI j), .int i0, .int (nI k), .int j0, .int z0] (prX NW D ca [(xo, oX xs xu xd xr xf), (xs, rA ca 3 6 sa), (rw1, rwE ca 2 n1 f1)] zH (fun _ => True))) (qI D (fun (r : Int32) (u : AL) => (r, u) = p_cp n1 n1 f1 f1 i0 j0 z0) (fun u => [(xo, oX xs xu xd xr xf), (xs, rA ca 3 6 sa), (rw1, rwE ca 2 n1 u)]) (fun u H => True) (va_A [(xo, oX xs xu xd xr xf), (xs, rA ca 3 6 sa), (rw1, rwE ca 2 n1 f1)] zH)) noX 3 410 (va_A [(xo, oX xs xu xd xr xf), (xs, rA ca 3 6 sa), (rw1, rwE ca 2 n1 f1)] zH) := by
  have hk := NW_ok
  refine k_ofH (Qc := qI D (fun (r : Int32) (u : AL) => (r, u) = p_cp n1 n1 f1 f1 i0 j0 z0) (fun u => [(xo, oX xs xu xd xr xf), (xs, rA ca 3 6 sa), (rw1, rwE ca 2 n1 u)]) (fun u H => True)) (by decide) (Nat.le_of_ble_eq_true rfl) ?_
  intro p e s m below meth c ls A H hH hx hb hr hts hown hlocks hnm hml hsz hP hD hK hN hA hAn hS hro hl hX hZ htb
  have hl : lv_has ls 7 [(0, .ref xo), (1, .int (nI j)), (2, .int i0), (3, .int (nI k)), (4, .int j0), (5, .int z0)] := hl
  refine lv_iload_n hx hb dX0_copy_0 rfl (lv_at hl 1 rfl) ?_
  refine k_calli (wr := [(xo, oX xs xu xd xr xf), (xs, rA ca 3 6 sa), (rw1, rwE ca 2 n1 f1)]) (va_runS (As := [.int (nI j)]) (rest := []) ⟨hx, hb, hml, hown, hts⟩ (ct_X0_isSheet hk l D ca H.size (nI j)) (va_cwS 1 hts (lw_S q127 q128 q19 q129) rfl rfl rfl (by decide +kernel) ⟨Nat.le_of_ble_eq_true rfl, Nat.le_of_ble_eq_true rfl⟩) (k_pre hk hK hN hP hD [] (by decide) rfl trivial) rfl rfl hl.1 rfl (lv_room (Nat.le_of_ble_eq_true rfl)) dX0_copy_1 ⟨Nat.le_of_ble_eq_true rfl, Nat.le_of_ble_eq_true rfl⟩) hP hD hS hA [] [0, 1, 2] rfl rfl (by decide) (by decide) (fun r_1 u_2 H locs w_3 hP hD hxw_3 hzw_3 hqw_3 hS => ?_)
  obtain rfl : r_1 = bI (p_in (nI j).toInt64 0 5) := w_3
  refine lv_if_eq (tgt := 14) hx hb dX0_copy_4 (by decide) (fun c_4 => absurd c_4 (by rw [in_5 hj]; decide)) (fun c_4 => ?_)
  refine lv_iload_n hx hb dX0_copy_7 rfl (lv_at hl 3 rfl) ?_
  refine k_calli (wr := [(xo, oX xs xu xd xr xf), (xs, rA ca 3 6 sa), (rw1, rwE ca 2 n1 f1)]) (va_runS (As := [.int (nI k)]) (rest := []) ⟨hx, hb, hml, hown, hts⟩ (ct_X0_isSheet hk l D ca H.size (nI k)) (va_cwS 1 hts (lw_S q127 q128 q19 q129) rfl rfl rfl (by decide +kernel) ⟨Nat.le_of_ble_eq_true rfl, Nat.le_of_ble_eq_true rfl⟩) (k_pre hk hK hN hP hD [] (by decide) rfl trivial) rfl rfl hl.1 rfl (lv_room (Nat.le_of_ble_eq_true rfl)) dX0_copy_8 ⟨Nat.le_of_ble_eq_true rfl, Nat.le_of_ble_eq_true rfl⟩) hP hD hS hA [] [0, 1, 2] rfl rfl (by decide) (by decide) (fun r_5 u_6 H locs w_7 hP hD hxw_7 hzw_7 hqw_7 hS => ?_)
  obtain rfl : r_5 = bI (p_in (nI k).toInt64 0 5) := w_7
  refine lv_if_ne (tgt := 16) hx hb dX0_copy_11 (by decide) (fun c_8 => ?_) (fun c_8 => absurd c_8 (by rw [in_5 hj2]; decide))
  refine lv_aload_n hx hb dX0_copy_16 rfl (lv_at hl 0 rfl) ?_
  refine va_get (D := D) (ci := 0) (v := .ref xs) (C := RX0) (T := TX0) (N := 5) hx hb hts in_X0 hown hK hP 0 rfl rfl 0 (by decide) (hts _ q293) (fun _ h9 => h9) rfl dX0_copy_17 ?_
  refine lv_iload_n hx hb dX0_copy_20 rfl (lv_at hl 1 rfl) ?_
  refine va_aldq hx hb hK hP 1 3 rfl rfl (vin_nI (a := j) rfl (by omega) (by decide)) dX0_copy_21 ?_
  refine W.eq (g2 := F0 m 22 ls [.ref rw1]) (by rw [nI_clamp (show j < 2 ^ 31 by omega), hs]; rfl) ?_
  refine lv_aload_n hx hb dX0_copy_22 rfl (lv_at hl 0 rfl) ?_
  refine va_get (D := D) (ci := 0) (v := .ref xs) (C := RX0) (T := TX0) (N := 5) hx hb hts in_X0 hown hK hP 0 rfl rfl 0 (by decide) (hts _ q293) (fun _ h9 => h9) rfl dX0_copy_23 ?_
  refine lv_iload_n hx hb dX0_copy_26 rfl (lv_at hl 3 rfl) ?_
  refine va_aldq hx hb hK hP 1 3 rfl rfl (vin_nI (a := k) rfl (by omega) (by decide)) dX0_copy_27 ?_
  refine W.eq (g2 := F0 m 28 ls [.ref rw1, .ref rw1]) (by rw [nI_clamp (show k < 2 ^ 31 by omega), ht]; rfl) ?_
  refine k_calli (wr := [(xo, oX xs xu xd xr xf), (xs, rA ca 3 6 sa)]) (va_runS (As := [.ref rw1, .ref rw1]) (rest := []) ⟨hx, hb, hml, hown, hts⟩ (ct_X0_areUnlike_S2 l D ca H.size rw1 n1 f1) (va_cwS 2 hts (lw_S q206 q207 q19 q208) rfl rfl rfl (by decide +kernel) ⟨Nat.le_of_ble_eq_true rfl, Nat.le_of_ble_eq_true rfl⟩) (k_pre hk hK hN hP hD [2] (by decide) rfl trivial) rfl rfl hl.1 rfl (lv_room (Nat.le_of_ble_eq_true rfl)) dX0_copy_28 ⟨Nat.le_of_ble_eq_true rfl, Nat.le_of_ble_eq_true rfl⟩) hP hD hS hA [2] [0, 1] rfl rfl (by decide) (by decide) (fun r_9 u_10 H locs w_11 hP hD hxw_11 hzw_11 hqw_11 hS => ?_)
  have hP : va_P D vwCl [(xo, oX xs xu xd xr xf), (xs, rA ca 3 6 sa), (rw1, rwE ca 2 n1 f1)] H := hP
  have hD : va_D A [(xo, oX xs xu xd xr xf), (xs, rA ca 3 6 sa), (rw1, rwE ca 2 n1 f1)] := hD
  obtain rfl : r_9 = bI false := w_11
  refine lv_if_eq (tgt := 37) hx hb dX0_copy_31 (by decide) (fun c_12 => ?_) (fun c_12 => absurd rfl c_12)
  refine lv_aload_n hx hb dX0_copy_37 rfl (lv_at hl 0 rfl) ?_
  refine va_get (D := D) (ci := 0) (v := .ref xs) (C := RX0) (T := TX0) (N := 5) hx hb hts in_X0 hown hK hP 0 rfl rfl 0 (by decide) (hts _ q293) (fun _ h9 => h9) rfl dX0_copy_38 ?_
  refine lv_iload_n hx hb dX0_copy_41 rfl (lv_at hl 1 rfl) ?_
  refine va_aldq hx hb hK hP 1 3 rfl rfl (vin_nI (a := j) rfl (by omega) (by decide)) dX0_copy_42 ?_
  refine W.eq (g2 := F0 m 43 ls [.ref rw1]) (by rw [nI_clamp (show j < 2 ^ 31 by omega), hs]; rfl) ?_
  refine lv_iload_n hx hb dX0_copy_43 rfl (lv_at hl 2 rfl) ?_
  refine lv_aload_n hx hb dX0_copy_44 rfl (lv_at hl 0 rfl) ?_
  refine va_get (D := D) (ci := 0) (v := .ref xs) (C := RX0) (T := TX0) (N := 5) hx hb hts in_X0 hown hK hP 0 rfl rfl 0 (by decide) (hts _ q293) (fun _ h9 => h9) rfl dX0_copy_45 ?_
  refine lv_iload_n hx hb dX0_copy_48 rfl (lv_at hl 3 rfl) ?_
  refine va_aldq hx hb hK hP 1 3 rfl rfl (vin_nI (a := k) rfl (by omega) (by decide)) dX0_copy_49 ?_
  refine W.eq (g2 := F0 m 50 ls [.ref rw1, .int i0, .ref rw1]) (by rw [nI_clamp (show k < 2 ^ 31 by omega), ht]; rfl) ?_
  refine lv_iload hx hb dX0_copy_50 (lv_at hl 4 rfl) ?_
  refine lv_iload hx hb dX0_copy_52 (lv_at hl 5 rfl) ?_
  rcases cp_cases .long n1 n1 f1 f1 i0 j0 z0 with ⟨g1, g2, g3, g4, g5, g6⟩ | ⟨⟨what, hw⟩, g6⟩
  · refine va_copyl (ty := .long) hx hb (hml.trans hl.1.symm) hown (hts _ q212) (hts _ q214) (hts _ q213) (hts _ q33) hK hP hD hS 2 2 2 2 rfl rfl rfl rfl rfl g1 g2 g3 g4 g5 (fun i hi => rfl) (by decide) (Nat.le_of_ble_eq_true rfl) dX0_copy_54 (fun H locs hP hD hS => ?_)
    have hP : va_P D vwCl [(xo, oX xs xu xd xr xf), (xs, rA ca 3 6 sa), (rw1, rwE ca 2 n1 (va_cpy f1 f1 i0.toNatClampNeg j0.toNatClampNeg z0.toNatClampNeg))] H := hP
    have hD : va_D A [(xo, oX xs xu xd xr xf), (xs, rA ca 3 6 sa), (rw1, rwE ca 2 n1 (va_cpy f1 f1 i0.toNatClampNeg j0.toNatClampNeg z0.toNatClampNeg))] := hD
    refine lv_iconst (v := 0) hx hb dX0_copy_57 (by decide) ?_
    refine vx_ret ?_
    exact k_iret (va_cpy f1 f1 i0.toNatClampNeg j0.toNatClampNeg z0.toNatClampNeg) hx hb hr hlocks (g6.symm) hP hD trivial hS (Nat.le_of_ble_eq_true rfl) (Nat.le_of_ble_eq_true rfl) dX0_copy_58
  · refine nt_cpO (ty := .long) hx hb (hml.trans hl.1.symm) hown (hts _ q212) (hts _ q214) (hts _ q213) (hts _ q33) hK hP 2 2 2 rfl rfl rfl hw (by decide) (Nat.le_of_ble_eq_true rfl) dX0_copy_54 (nt_noteM (cls := aioN) (names := aioU) (nb := 400) hx hl0 (by decide +kernel) (by decide +kernel) (by decide +kernel) (by decide +kernel) (nx_of nx_A hts hX) nx_oA hZ.1 hZ.2 hS (by rw [hml]; exact hl.1) (nt_text (nt_what (by omega) (by omega) hw)).1 (nt_text (nt_what (by omega) (by omega) hw)).2 (by decide) (Nat.le_of_ble_eq_true rfl) (Nat.le_of_ble_eq_true rfl) (by decide) (Nat.le_of_ble_eq_true rfl) (Nat.le_of_ble_eq_true rfl)) (fun H9 q9 ce hz h9 hce hcv hcl => ?_)
    have hS := vs_same hS hz h9
    have hPz := vp_same hP (h9)
    clear hP
    have hP := hPz
    clear hPz
    obtain ⟨H, rfl⟩ : ∃ z, z = H9 := ⟨_, rfl⟩
    have hP : va_P D vwCl [(xo, oX xs xu xd xr xf), (xs, rA ca 3 6 sa), (rw1, rwE ca 2 n1 f1)] H := hP
    have hD : va_D A [(xo, oX xs xu xd xr xf), (xs, rA ca 3 6 sa), (rw1, rwE ca 2 n1 f1)] := hD
    refine vx_catch (E := "java/lang/ArrayIndexOutOfBoundsException") (name := "java/lang/IndexOutOfBoundsException") hown [(⟨37, 58, 59, 37⟩ : ExceptionTableEntry)] (⟨37, 58, 64, 55⟩ : ExceptionTableEntry) [] (by rw [htb]; rfl) (List.forall_mem_cons.mpr ⟨Or.inr ⟨by decide, "java/lang/NullPointerException", hts _ q145, (hN.2.2.2.2.1 _ (List.mem_of_getElem? (i := 4) rfl))⟩, (fun z hz => absurd hz List.not_mem_nil)⟩) (by decide) (by decide) (hts _ q205) (va_Nw.use rfl (hN.2.2.2.1 _ (List.mem_of_getElem? (i := 8) rfl))) hce hcv hcl ?_
    refine lv_astore (lv' := [(6, .ref q9), (0, .ref xo), (1, .int (nI j)), (2, .int i0), (3, .int (nI k)), (4, .int j0), (5, .int z0)]) hx hb dX0_copy_64 hl (by decide) rfl (fun ls hl => ?_)
    refine lv_bipush (v := (-12)) hx hb dX0_copy_66 (by decide) ?_
    refine vx_ret ?_
    exact k_iret f1 hx hb hr hlocks (g6.symm) hP hD trivial hS (Nat.le_of_ble_eq_true rfl) (Nat.le_of_ble_eq_true rfl) dX0_copy_68
set_option maxHeartbeats 4000000 in
set_option maxRecDepth 100000 in
theorem ct_X0_copy_D2 (l : Launch) (hl0 : l.stackTraces = false) (D : va_G) (ca : Nat → ClassId) (zH : Nat) (xo xs xu xd xr xf : Nat) (sa : Nat → Option Nat) (j k rw1 n1 rw2 n2 : Nat) (f1 f2 : AL) (i0 j0 z0 : Int32) (hj : j < 6) (hj2 : k < 6) (hs : sa j = some rw1) (ht : sa k = some rw2) (hn1 : n1 ≤ 16) (hn2 : n2 ≤ 16) (hcut : ∀ i, i < n1 → ck 2 (f1 i) = f1 i) : vx_Met l yX0_copy (wsH_ yX0_copy cX0_copy 7 (some .int) [((37 : Nat), (58 : Nat), (59 : Nat), (37 : Nat)), ((37 : Nat), (58 : Nat), (64 : Nat), (55 : Nat))]) ({ frames := 12, cells := 3, slots := 410, locals := 10400 }) (va_Pc [.ref xo, .int (nI j), .int i0, .int (nI k), .int j0, .int z0] (prX NW D ca [(xo, oX xs xu xd xr xf), (xs, rA ca 3 6 sa), (rw1, rwE ca 2 n1 f1), (rw2, rwE ca 2 n2 f2)] zH (fun _ => True))) (qI D (fun (r : Int32) (u : AL) => (r, u) = p_cp n1 n2 f1 f2 i0 j0 z0) (fun u => [(xo, oX xs xu xd xr xf), (xs, rA ca 3 6 sa), (rw1, rwE ca 2 n1 f1), (rw2, rwE ca 2 n2 u)]) (fun u H => True) (va_A [(xo, oX xs xu xd xr xf), (xs, rA ca 3 6 sa), (rw1, rwE ca 2 n1 f1), (rw2, rwE ca 2 n2 f2)] zH)) noX 3 410 (va_A [(xo, oX xs xu xd xr xf), (xs, rA ca 3 6 sa), (rw1, rwE ca 2 n1 f1), (rw2, rwE ca 2 n2 f2)] zH) := by
  have hk := NW_ok
  refine k_ofH (Qc := qI D (fun (r : Int32) (u : AL) => (r, u) = p_cp n1 n2 f1 f2 i0 j0 z0) (fun u => [(xo, oX xs xu xd xr xf), (xs, rA ca 3 6 sa), (rw1, rwE ca 2 n1 f1), (rw2, rwE ca 2 n2 u)]) (fun u H => True)) (by decide) (Nat.le_of_ble_eq_true rfl) ?_
  intro p e s m below meth c ls A H hH hx hb hr hts hown hlocks hnm hml hsz hP hD hK hN hA hAn hS hro hl hX hZ htb
  have hl : lv_has ls 7 [(0, .ref xo), (1, .int (nI j)), (2, .int i0), (3, .int (nI k)), (4, .int j0), (5, .int z0)] := hl
  refine lv_iload_n hx hb dX0_copy_0 rfl (lv_at hl 1 rfl) ?_
  refine k_calli (wr := [(xo, oX xs xu xd xr xf), (xs, rA ca 3 6 sa), (rw1, rwE ca 2 n1 f1), (rw2, rwE ca 2 n2 f2)]) (va_runS (As := [.int (nI j)]) (rest := []) ⟨hx, hb, hml, hown, hts⟩ (ct_X0_isSheet hk l D ca H.size (nI j)) (va_cwS 1 hts (lw_S q127 q128 q19 q129) rfl rfl rfl (by decide +kernel) ⟨Nat.le_of_ble_eq_true rfl, Nat.le_of_ble_eq_true rfl⟩) (k_pre hk hK hN hP hD [] (by decide) rfl trivial) rfl rfl hl.1 rfl (lv_room (Nat.le_of_ble_eq_true rfl)) dX0_copy_1 ⟨Nat.le_of_ble_eq_true rfl, Nat.le_of_ble_eq_true rfl⟩) hP hD hS hA [] [0, 1, 2, 3] rfl rfl (by decide) (by decide) (fun r_1 u_2 H locs w_3 hP hD hxw_3 hzw_3 hqw_3 hS => ?_)
  obtain rfl : r_1 = bI (p_in (nI j).toInt64 0 5) := w_3
  refine lv_if_eq (tgt := 14) hx hb dX0_copy_4 (by decide) (fun c_4 => absurd c_4 (by rw [in_5 hj]; decide)) (fun c_4 => ?_)
  refine lv_iload_n hx hb dX0_copy_7 rfl (lv_at hl 3 rfl) ?_
  refine k_calli (wr := [(xo, oX xs xu xd xr xf), (xs, rA ca 3 6 sa), (rw1, rwE ca 2 n1 f1), (rw2, rwE ca 2 n2 f2)]) (va_runS (As := [.int (nI k)]) (rest := []) ⟨hx, hb, hml, hown, hts⟩ (ct_X0_isSheet hk l D ca H.size (nI k)) (va_cwS 1 hts (lw_S q127 q128 q19 q129) rfl rfl rfl (by decide +kernel) ⟨Nat.le_of_ble_eq_true rfl, Nat.le_of_ble_eq_true rfl⟩) (k_pre hk hK hN hP hD [] (by decide) rfl trivial) rfl rfl hl.1 rfl (lv_room (Nat.le_of_ble_eq_true rfl)) dX0_copy_8 ⟨Nat.le_of_ble_eq_true rfl, Nat.le_of_ble_eq_true rfl⟩) hP hD hS hA [] [0, 1, 2, 3] rfl rfl (by decide) (by decide) (fun r_5 u_6 H locs w_7 hP hD hxw_7 hzw_7 hqw_7 hS => ?_)
  obtain rfl : r_5 = bI (p_in (nI k).toInt64 0 5) := w_7
  refine lv_if_ne (tgt := 16) hx hb dX0_copy_11 (by decide) (fun c_8 => ?_) (fun c_8 => absurd c_8 (by rw [in_5 hj2]; decide))
  refine lv_aload_n hx hb dX0_copy_16 rfl (lv_at hl 0 rfl) ?_
  refine va_get (D := D) (ci := 0) (v := .ref xs) (C := RX0) (T := TX0) (N := 5) hx hb hts in_X0 hown hK hP 0 rfl rfl 0 (by decide) (hts _ q293) (fun _ h9 => h9) rfl dX0_copy_17 ?_
  refine lv_iload_n hx hb dX0_copy_20 rfl (lv_at hl 1 rfl) ?_
  refine va_aldq hx hb hK hP 1 3 rfl rfl (vin_nI (a := j) rfl (by omega) (by decide)) dX0_copy_21 ?_
  refine W.eq (g2 := F0 m 22 ls [.ref rw1]) (by rw [nI_clamp (show j < 2 ^ 31 by omega), hs]; rfl) ?_
  refine lv_aload_n hx hb dX0_copy_22 rfl (lv_at hl 0 rfl) ?_
  refine va_get (D := D) (ci := 0) (v := .ref xs) (C := RX0) (T := TX0) (N := 5) hx hb hts in_X0 hown hK hP 0 rfl rfl 0 (by decide) (hts _ q293) (fun _ h9 => h9) rfl dX0_copy_23 ?_
  refine lv_iload_n hx hb dX0_copy_26 rfl (lv_at hl 3 rfl) ?_
  refine va_aldq hx hb hK hP 1 3 rfl rfl (vin_nI (a := k) rfl (by omega) (by decide)) dX0_copy_27 ?_
  refine W.eq (g2 := F0 m 28 ls [.ref rw2, .ref rw1]) (by rw [nI_clamp (show k < 2 ^ 31 by omega), ht]; rfl) ?_
  refine k_calli (wr := [(xo, oX xs xu xd xr xf), (xs, rA ca 3 6 sa)]) (va_runS (As := [.ref rw1, .ref rw2]) (rest := []) ⟨hx, hb, hml, hown, hts⟩ (ct_X0_areUnlike_22 l D ca H.size rw1 n1 rw2 n2 f1 f2) (va_cwS 2 hts (lw_S q206 q207 q19 q208) rfl rfl rfl (by decide +kernel) ⟨Nat.le_of_ble_eq_true rfl, Nat.le_of_ble_eq_true rfl⟩) (k_pre hk hK hN hP hD [2, 3] (by decide) rfl trivial) rfl rfl hl.1 rfl (lv_room (Nat.le_of_ble_eq_true rfl)) dX0_copy_28 ⟨Nat.le_of_ble_eq_true rfl, Nat.le_of_ble_eq_true rfl⟩) hP hD hS hA [2, 3] [0, 1] rfl rfl (by decide) (by decide) (fun r_9 u_10 H locs w_11 hP hD hxw_11 hzw_11 hqw_11 hS => ?_)
  have hP : va_P D vwCl [(xo, oX xs xu xd xr xf), (xs, rA ca 3 6 sa), (rw1, rwE ca 2 n1 f1), (rw2, rwE ca 2 n2 f2)] H := hP
  have hD : va_D A [(xo, oX xs xu xd xr xf), (xs, rA ca 3 6 sa), (rw1, rwE ca 2 n1 f1), (rw2, rwE ca 2 n2 f2)] := hD
  obtain rfl : r_9 = bI false := w_11
  refine lv_if_eq (tgt := 37) hx hb dX0_copy_31 (by decide) (fun c_12 => ?_) (fun c_12 => absurd rfl c_12)
  refine lv_aload_n hx hb dX0_copy_37 rfl (lv_at hl 0 rfl) ?_
  refine va_get (D := D) (ci := 0) (v := .ref xs) (C := RX0) (T := TX0) (N := 5) hx hb hts in_X0 hown hK hP 0 rfl rfl 0 (by decide) (hts _ q293) (fun _ h9 => h9) rfl dX0_copy_38 ?_
  refine lv_iload_n hx hb dX0_copy_41 rfl (lv_at hl 1 rfl) ?_
  refine va_aldq hx hb hK hP 1 3 rfl rfl (vin_nI (a := j) rfl (by omega) (by decide)) dX0_copy_42 ?_
  refine W.eq (g2 := F0 m 43 ls [.ref rw1]) (by rw [nI_clamp (show j < 2 ^ 31 by omega), hs]; rfl) ?_
  refine lv_iload_n hx hb dX0_copy_43 rfl (lv_at hl 2 rfl) ?_
  refine lv_aload_n hx hb dX0_copy_44 rfl (lv_at hl 0 rfl) ?_
  refine va_get (D := D) (ci := 0) (v := .ref xs) (C := RX0) (T := TX0) (N := 5) hx hb hts in_X0 hown hK hP 0 rfl rfl 0 (by decide) (hts _ q293) (fun _ h9 => h9) rfl dX0_copy_45 ?_
  refine lv_iload_n hx hb dX0_copy_48 rfl (lv_at hl 3 rfl) ?_
  refine va_aldq hx hb hK hP 1 3 rfl rfl (vin_nI (a := k) rfl (by omega) (by decide)) dX0_copy_49 ?_
  refine W.eq (g2 := F0 m 50 ls [.ref rw2, .int i0, .ref rw1]) (by rw [nI_clamp (show k < 2 ^ 31 by omega), ht]; rfl) ?_
  refine lv_iload hx hb dX0_copy_50 (lv_at hl 4 rfl) ?_
  refine lv_iload hx hb dX0_copy_52 (lv_at hl 5 rfl) ?_
  rcases cp_cases .long n1 n2 f1 f2 i0 j0 z0 with ⟨g1, g2, g3, g4, g5, g6⟩ | ⟨⟨what, hw⟩, g6⟩
  · refine va_copyl (ty := .long) hx hb (hml.trans hl.1.symm) hown (hts _ q212) (hts _ q214) (hts _ q213) (hts _ q33) hK hP hD hS 2 3 2 2 rfl rfl rfl rfl rfl g1 g2 g3 g4 g5 (fun i hi => rfl) (by decide) (Nat.le_of_ble_eq_true rfl) dX0_copy_54 (fun H locs hP hD hS => ?_)
    have hP : va_P D vwCl [(xo, oX xs xu xd xr xf), (xs, rA ca 3 6 sa), (rw1, rwE ca 2 n1 f1), (rw2, rwE ca 2 n2 (va_cpy f1 f2 i0.toNatClampNeg j0.toNatClampNeg z0.toNatClampNeg))] H := hP
    have hD : va_D A [(xo, oX xs xu xd xr xf), (xs, rA ca 3 6 sa), (rw1, rwE ca 2 n1 f1), (rw2, rwE ca 2 n2 (va_cpy f1 f2 i0.toNatClampNeg j0.toNatClampNeg z0.toNatClampNeg))] := hD
    refine lv_iconst (v := 0) hx hb dX0_copy_57 (by decide) ?_
    refine vx_ret ?_
    exact k_iret (va_cpy f1 f2 i0.toNatClampNeg j0.toNatClampNeg z0.toNatClampNeg) hx hb hr hlocks (g6.symm) hP hD trivial hS (Nat.le_of_ble_eq_true rfl) (Nat.le_of_ble_eq_true rfl) dX0_copy_58
  · refine nt_cpO (ty := .long) hx hb (hml.trans hl.1.symm) hown (hts _ q212) (hts _ q214) (hts _ q213) (hts _ q33) hK hP 2 3 2 rfl rfl rfl hw (by decide) (Nat.le_of_ble_eq_true rfl) dX0_copy_54 (nt_noteM (cls := aioN) (names := aioU) (nb := 400) hx hl0 (by decide +kernel) (by decide +kernel) (by decide +kernel) (by decide +kernel) (nx_of nx_A hts hX) nx_oA hZ.1 hZ.2 hS (by rw [hml]; exact hl.1) (nt_text (nt_what (by omega) (by omega) hw)).1 (nt_text (nt_what (by omega) (by omega) hw)).2 (by decide) (Nat.le_of_ble_eq_true rfl) (Nat.le_of_ble_eq_true rfl) (by decide) (Nat.le_of_ble_eq_true rfl) (Nat.le_of_ble_eq_true rfl)) (fun H9 q9 ce hz h9 hce hcv hcl => ?_)
    have hS := vs_same hS hz h9
    have hPz := vp_same hP (h9)
    clear hP
    have hP := hPz
    clear hPz
    obtain ⟨H, rfl⟩ : ∃ z, z = H9 := ⟨_, rfl⟩
    have hP : va_P D vwCl [(xo, oX xs xu xd xr xf), (xs, rA ca 3 6 sa), (rw1, rwE ca 2 n1 f1), (rw2, rwE ca 2 n2 f2)] H := hP
    have hD : va_D A [(xo, oX xs xu xd xr xf), (xs, rA ca 3 6 sa), (rw1, rwE ca 2 n1 f1), (rw2, rwE ca 2 n2 f2)] := hD
    refine vx_catch (E := "java/lang/ArrayIndexOutOfBoundsException") (name := "java/lang/IndexOutOfBoundsException") hown [(⟨37, 58, 59, 37⟩ : ExceptionTableEntry)] (⟨37, 58, 64, 55⟩ : ExceptionTableEntry) [] (by rw [htb]; rfl) (List.forall_mem_cons.mpr ⟨Or.inr ⟨by decide, "java/lang/NullPointerException", hts _ q145, (hN.2.2.2.2.1 _ (List.mem_of_getElem? (i := 4) rfl))⟩, (fun z hz => absurd hz List.not_mem_nil)⟩) (by decide) (by decide) (hts _ q205) (va_Nw.use rfl (hN.2.2.2.1 _ (List.mem_of_getElem? (i := 8) rfl))) hce hcv hcl ?_
    refine lv_astore (lv' := [(6, .ref q9), (0, .ref xo), (1, .int (nI j)), (2, .int i0), (3, .int (nI k)), (4, .int j0), (5, .int z0)]) hx hb dX0_copy_64 hl (by decide) rfl (fun ls hl => ?_)
    refine lv_bipush (v := (-12)) hx hb dX0_copy_66 (by decide) ?_
    refine vx_ret ?_
    exact k_iret f2 hx hb hr hlocks (g6.symm) hP hD trivial hS (Nat.le_of_ble_eq_true rfl) (Nat.le_of_ble_eq_true rfl) dX0_copy_68
