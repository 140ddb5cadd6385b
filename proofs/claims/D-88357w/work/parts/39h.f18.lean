theorem sub4_le {a n : Nat} (hn : n ≤ 16) (ha : a < 2 ^ 31) : nI a ≤ nI n - 4 ↔ a + 4 ≤ n := by
  rw [Int32.le_iff_toInt_le, nI_toInt ha, show (nI n - 4).toInt = (n : Int) - 4 from pk_sub_toInt (a := n) (b := 4) (by omega) (by decide)]
  omega
def u4 (f : AL) (a k : Nat) (q : Q4) : AL := vp_updL (vp_updL (vp_updL (vp_updL f a (ck k q.1)) (a + 1) (ck k q.2.1)) (a + 2) (ck k q.2.2.1)) (a + 3) (ck k q.2.2.2)
/-- a number into four places of a row -/
def p_write (n : Nat) (f : AL) (k : Nat) (q : Q4) (i : Int32) : Int32 × AL := if i < 0 ∨ n < i.toNatClampNeg + 4 then (-12, f) else (0, u4 f i.toNatClampNeg k q)
theorem p_write_n {n : Nat} {f : AL} {k : Nat} {q : Q4} {i : Int32} (h : i < 0 ∨ n < i.toNatClampNeg + 4) : p_write n f k q i = (-12, f) := if_pos h
theorem p_write_y {n a : Nat} {f : AL} {k : Nat} {q : Q4} (hn : n ≤ 16) (h : a + 4 ≤ n) : p_write n f k q (nI a) = (0, u4 f a k q) := by
  rw [p_write, if_neg, nI_clamp (show a < 2 ^ 31 by omega)]
  rintro (z | z)
  · exact absurd (lt_y (a := a) (b := 0) rfl rfl (by omega) (by decide) z) (Nat.not_lt_zero a)
  · rw [nI_clamp (show a < 2 ^ 31 by omega)] at z
    omega
set_option maxHeartbeats 4000000 in
set_option maxRecDepth 100000 in
theorem ct_X0_write_0 (l : Launch) (hl0 : l.stackTraces = false) (D : va_G) (ca : Nat → ClassId) (zH : Nat) (xo : Nat) (s0 r0 i0 : Int32) (h1 : p_in s0.toInt64 0 15 = false) : vx_Met l yX0_write (wsH_ yX0_write cX0_write 7 (some .int) [((24 : Nat), (49 : Nat), (87 : Nat), (37 : Nat)), ((50 : Nat), (86 : Nat), (87 : Nat), (37 : Nat))]) ({ frames := 2, cells := 0, slots := 0, locals := 45 }) (va_Pc [.ref xo, .int s0, .int r0, .int i0] (prX NW D ca [] zH (fun _ => True))) (qI D (fun (r : Int32) (u : Unit) => r = -1) (fun u => []) (fun u H => True) (va_A [] zH)) noX 0 0 (va_A [] zH) := by
  have hk := NW_ok
  refine k_ofH (Qc := qI D (fun (r : Int32) (u : Unit) => r = -1) (fun u => []) (fun u H => True)) (by decide) (Nat.le_of_ble_eq_true rfl) ?_
  intro p e s m below meth c ls A H hH hx hb hr hts hown hlocks hnm hml hsz hP hD hK hN hA hAn hS hro hl hX hZ htb
  have hl : lv_has ls 7 [(0, .ref xo), (1, .int s0), (2, .int r0), (3, .int i0)] := hl
  refine lv_iload_n hx hb dX0_write_0 rfl (lv_at hl 1 rfl) ?_
  refine k_calli (wr := []) (va_runS (As := [.int s0]) (rest := []) ⟨hx, hb, hml, hown, hts⟩ (ct_X0_isRegister hk l D ca H.size s0) (va_cwS 1 hts (lw_S q313 q314 q19 q315) rfl rfl rfl (by decide +kernel) ⟨Nat.le_of_ble_eq_true rfl, Nat.le_of_ble_eq_true rfl⟩) (k_pre hk hK hN hP hD [] (by decide) rfl trivial) rfl rfl hl.1 rfl (lv_room (Nat.le_of_ble_eq_true rfl)) dX0_write_1 ⟨Nat.le_of_ble_eq_true rfl, Nat.le_of_ble_eq_true rfl⟩) hP hD hS hA [] [] rfl rfl (by decide) (by decide) (fun r_1 u_2 H locs w_3 hP hD hxw_3 hzw_3 hqw_3 hS => ?_)
  obtain rfl : r_1 = bI (p_in s0.toInt64 0 15) := w_3
  refine lv_if_eq (tgt := 14) hx hb dX0_write_4 (by decide) (fun c_4 => ?_) (fun c_4 => absurd (by rw [h1]; rfl) c_4)
  refine lv_iconst (v := (-1)) hx hb dX0_write_14 (by decide) ?_
  refine vx_ret ?_
  exact k_iret () hx hb hr hlocks (rfl) hP hD trivial hS (Nat.le_of_ble_eq_true rfl) (Nat.le_of_ble_eq_true rfl) dX0_write_15
set_option maxHeartbeats 4000000 in
set_option maxRecDepth 100000 in
theorem ct_X0_write_1 (l : Launch) (hl0 : l.stackTraces = false) (D : va_G) (ca : Nat → ClassId) (zH : Nat) (xo js : Nat) (r0 i0 : Int32) (hjs : js < 16) (h1 : p_in r0.toInt64 0 5 = false) : vx_Met l yX0_write (wsH_ yX0_write cX0_write 7 (some .int) [((24 : Nat), (49 : Nat), (87 : Nat), (37 : Nat)), ((50 : Nat), (86 : Nat), (87 : Nat), (37 : Nat))]) ({ frames := 2, cells := 0, slots := 0, locals := 45 }) (va_Pc [.ref xo, .int (nI js), .int r0, .int i0] (prX NW D ca [] zH (fun _ => True))) (qI D (fun (r : Int32) (u : Unit) => r = -1) (fun u => []) (fun u H => True) (va_A [] zH)) noX 0 0 (va_A [] zH) := by
  have hk := NW_ok
  refine k_ofH (Qc := qI D (fun (r : Int32) (u : Unit) => r = -1) (fun u => []) (fun u H => True)) (by decide) (Nat.le_of_ble_eq_true rfl) ?_
  intro p e s m below meth c ls A H hH hx hb hr hts hown hlocks hnm hml hsz hP hD hK hN hA hAn hS hro hl hX hZ htb
  have hl : lv_has ls 7 [(0, .ref xo), (1, .int (nI js)), (2, .int r0), (3, .int i0)] := hl
  refine lv_iload_n hx hb dX0_write_0 rfl (lv_at hl 1 rfl) ?_
  refine k_calli (wr := []) (va_runS (As := [.int (nI js)]) (rest := []) ⟨hx, hb, hml, hown, hts⟩ (ct_X0_isRegister hk l D ca H.size (nI js)) (va_cwS 1 hts (lw_S q313 q314 q19 q315) rfl rfl rfl (by decide +kernel) ⟨Nat.le_of_ble_eq_true rfl, Nat.le_of_ble_eq_true rfl⟩) (k_pre hk hK hN hP hD [] (by decide) rfl trivial) rfl rfl hl.1 rfl (lv_room (Nat.le_of_ble_eq_true rfl)) dX0_write_1 ⟨Nat.le_of_ble_eq_true rfl, Nat.le_of_ble_eq_true rfl⟩) hP hD hS hA [] [] rfl rfl (by decide) (by decide) (fun r_1 u_2 H locs w_3 hP hD hxw_3 hzw_3 hqw_3 hS => ?_)
  obtain rfl : r_1 = bI (p_in (nI js).toInt64 0 15) := w_3
  refine lv_if_eq (tgt := 14) hx hb dX0_write_4 (by decide) (fun c_4 => absurd c_4 (by rw [in_15 hjs]; decide)) (fun c_4 => ?_)
  refine lv_iload_n hx hb dX0_write_7 rfl (lv_at hl 2 rfl) ?_
  refine k_calli (wr := []) (va_runS (As := [.int r0]) (rest := []) ⟨hx, hb, hml, hown, hts⟩ (ct_X0_isSheet hk l D ca H.size r0) (va_cwS 1 hts (lw_S q127 q128 q19 q129) rfl rfl rfl (by decide +kernel) ⟨Nat.le_of_ble_eq_true rfl, Nat.le_of_ble_eq_true rfl⟩) (k_pre hk hK hN hP hD [] (by decide) rfl trivial) rfl rfl hl.1 rfl (lv_room (Nat.le_of_ble_eq_true rfl)) dX0_write_8 ⟨Nat.le_of_ble_eq_true rfl, Nat.le_of_ble_eq_true rfl⟩) hP hD hS hA [] [] rfl rfl (by decide) (by decide) (fun r_5 u_6 H locs w_7 hP hD hxw_7 hzw_7 hqw_7 hS => ?_)
  obtain rfl : r_5 = bI (p_in r0.toInt64 0 5) := w_7
  refine lv_if_ne (tgt := 16) hx hb dX0_write_11 (by decide) (fun c_8 => absurd (by rw [h1]; decide) c_8) (fun c_8 => ?_)
  refine lv_iconst (v := (-1)) hx hb dX0_write_14 (by decide) ?_
  refine vx_ret ?_
  exact k_iret () hx hb hr hlocks (rfl) hP hD trivial hS (Nat.le_of_ble_eq_true rfl) (Nat.le_of_ble_eq_true rfl) dX0_write_15
set_option maxHeartbeats 4000000 in
set_option maxRecDepth 100000 in
theorem ct_X0_write_N (l : Launch) (hl0 : l.stackTraces = false) (D : va_G) (ca : Nat → ClassId) (zH : Nat) (xo xs xu xd xr xf : Nat) (sa : Nat → Option Nat) (ra : Nat → Nat) (g : AI) (js j : Nat) (i0 : Int32) (hjs : js < 16) (hj : j < 6) (hs : sa j = none) : vx_Met l yX0_write (wsH_ yX0_write cX0_write 7 (some .int) [((24 : Nat), (49 : Nat), (87 : Nat), (37 : Nat)), ((50 : Nat), (86 : Nat), (87 : Nat), (37 : Nat))]) ({ frames := 12, cells := 1, slots := 8, locals := 10400 }) (va_Pc [.ref xo, .int (nI js), .int (nI j), .int i0] (prX NW D ca [(xo, oX xs xu xd xr xf), (xs, rA ca 3 6 sa), (xr, rA ca 4 16 (fun i => some (ra i)))] zH (fun H => Rg D H ra g))) (qI D (fun (r : Int32) (u : Unit) => r = -11) (fun u => [(xo, oX xs xu xd xr xf), (xs, rA ca 3 6 sa), (xr, rA ca 4 16 (fun i => some (ra i)))]) (fun u H => True) (va_A [(xo, oX xs xu xd xr xf), (xs, rA ca 3 6 sa), (xr, rA ca 4 16 (fun i => some (ra i)))] zH)) noX 1 8 (va_A [(xo, oX xs xu xd xr xf), (xs, rA ca 3 6 sa), (xr, rA ca 4 16 (fun i => some (ra i)))] zH) := by
  have hk := NW_ok
  refine k_ofH (Qc := qI D (fun (r : Int32) (u : Unit) => r = -11) (fun u => [(xo, oX xs xu xd xr xf), (xs, rA ca 3 6 sa), (xr, rA ca 4 16 (fun i => some (ra i)))]) (fun u H => True)) (by decide) (Nat.le_of_ble_eq_true rfl) ?_
  intro p e s m below meth c ls A H hH hx hb hr hts hown hlocks hnm hml hsz hP hD hK hN hA hAn hS hro hl hX hZ htb
  have hl : lv_has ls 7 [(0, .ref xo), (1, .int (nI js)), (2, .int (nI j)), (3, .int i0)] := hl
  have hOF := k_outF hK (hH ▸ hP) (okc (oko 0 (by decide)) (okc (oka 3 (by decide)) (okc (oka 4 (by decide)) (okn)))) hAn
  have hRg := hro
  refine lv_iload_n hx hb dX0_write_0 rfl (lv_at hl 1 rfl) ?_
  refine k_calli (wr := [(xo, oX xs xu xd xr xf), (xs, rA ca 3 6 sa), (xr, rA ca 4 16 (fun i => some (ra i)))]) (va_runS (As := [.int (nI js)]) (rest := []) ⟨hx, hb, hml, hown, hts⟩ (ct_X0_isRegister hk l D ca H.size (nI js)) (va_cwS 1 hts (lw_S q313 q314 q19 q315) rfl rfl rfl (by decide +kernel) ⟨Nat.le_of_ble_eq_true rfl, Nat.le_of_ble_eq_true rfl⟩) (k_pre hk hK hN hP hD [] (by decide) rfl trivial) rfl rfl hl.1 rfl (lv_room (Nat.le_of_ble_eq_true rfl)) dX0_write_1 ⟨Nat.le_of_ble_eq_true rfl, Nat.le_of_ble_eq_true rfl⟩) hP hD hS hA [] [0, 1, 2] rfl rfl (by decide) (by decide) (fun r_1 u_2 H locs w_3 hP hD hxw_3 hzw_3 hqw_3 hS => ?_)
  obtain rfl : r_1 = bI (p_in (nI js).toInt64 0 15) := w_3
  refine lv_if_eq (tgt := 14) hx hb dX0_write_4 (by decide) (fun c_4 => absurd c_4 (by rw [in_15 hjs]; decide)) (fun c_4 => ?_)
  refine lv_iload_n hx hb dX0_write_7 rfl (lv_at hl 2 rfl) ?_
  refine k_calli (wr := [(xo, oX xs xu xd xr xf), (xs, rA ca 3 6 sa), (xr, rA ca 4 16 (fun i => some (ra i)))]) (va_runS (As := [.int (nI j)]) (rest := []) ⟨hx, hb, hml, hown, hts⟩ (ct_X0_isSheet hk l D ca H.size (nI j)) (va_cwS 1 hts (lw_S q127 q128 q19 q129) rfl rfl rfl (by decide +kernel) ⟨Nat.le_of_ble_eq_true rfl, Nat.le_of_ble_eq_true rfl⟩) (k_pre hk hK hN hP hD [] (by decide) rfl trivial) rfl rfl hl.1 rfl (lv_room (Nat.le_of_ble_eq_true rfl)) dX0_write_8 ⟨Nat.le_of_ble_eq_true rfl, Nat.le_of_ble_eq_true rfl⟩) hP hD hS hA [] [0, 1, 2] rfl rfl (by decide) (by decide) (fun r_5 u_6 H locs w_7 hP hD hxw_7 hzw_7 hqw_7 hS => ?_)
  obtain rfl : r_5 = bI (p_in (nI j).toInt64 0 5) := w_7
  refine lv_if_ne (tgt := 16) hx hb dX0_write_11 (by decide) (fun c_8 => ?_) (fun c_8 => absurd c_8 (by rw [in_5 hj]; decide))
  refine lv_aload_n hx hb dX0_write_16 rfl (lv_at hl 0 rfl) ?_
  refine va_get (D := D) (ci := 0) (v := .ref xr) (C := RX0) (T := TX0) (N := 5) hx hb hts in_X0 hown hK hP 0 rfl rfl 3 (by decide) (hts _ q296) (fun _ h9 => h9) rfl dX0_write_17 ?_
  refine lv_iload_n hx hb dX0_write_20 rfl (lv_at hl 1 rfl) ?_
  refine va_aldq hx hb hK hP 2 4 rfl rfl (vin_nI (a := js) rfl (by omega) (by omega)) dX0_write_21 ?_
  refine W.eq (g2 := F0 m 22 ls [.ref (ra js)]) (by rw [nI_clamp (show js < 2 ^ 31 by omega)]; rfl) ?_
  have hG_9 := hRg js (by omega)
  have nG_9 := hOF _ _ hG_9
  refine lv_astore (lv' := [(4, .ref (ra js)), (0, .ref xo), (1, .int (nI js)), (2, .int (nI j)), (3, .int i0)]) hx hb dX0_write_22 hl (by decide) rfl (fun ls hl => ?_)
  refine lv_aload_n hx hb dX0_write_24 rfl (lv_at hl 1 rfl) ?_
  refine va_get (D := D) (ci := 0) (v := .ref xs) (C := RX0) (T := TX0) (N := 5) hx hb hts in_X0 hown hK hP 0 rfl rfl 0 (by decide) (hts _ q293) (fun _ h9 => h9) rfl dX0_write_25 ?_
  refine lv_iload_n hx hb dX0_write_28 rfl (lv_at hl 3 rfl) ?_
  refine va_aldq hx hb hK hP 1 3 rfl rfl (vin_nI (a := j) rfl (by omega) (by decide)) dX0_write_29 ?_
  refine W.eq (g2 := F0 m 30 ls [.null]) (by rw [nI_clamp (show j < 2 ^ 31 by omega), hs]; rfl) ?_
  refine nt_lenN hx hb (hml.trans hl.1.symm) hown (hts _ q336) (hts _ q338) (hts _ q337) (hts _ q34) (by decide) (Nat.le_of_ble_eq_true rfl) dX0_write_30 (nt_noteN (nb := 8) hx hl0 (nx_of nx_N hts hX) nx_oN hZ.1 hZ.2 hS (by rw [hml]; exact hl.1) (Nat.le_of_ble_eq_true rfl) (Nat.le_of_ble_eq_true rfl) (Nat.le_of_ble_eq_true rfl) (Nat.le_of_ble_eq_true rfl)) (fun H9 q9 ce hz h9 hce hcv hcl => ?_)
  have hS := vs_same hS hz h9
  have hPz := vp_same hP (h9)
  clear hP
  have hP := hPz
  clear hPz
  obtain ⟨H, rfl⟩ : ∃ z, z = H9 := ⟨_, rfl⟩
  have hP : va_P D vwCl [(xo, oX xs xu xd xr xf), (xs, rA ca 3 6 sa), (xr, rA ca 4 16 (fun i => some (ra i)))] H := hP
  have hD : va_D A [(xo, oX xs xu xd xr xf), (xs, rA ca 3 6 sa), (xr, rA ca 4 16 (fun i => some (ra i)))] := hD
  refine vx_catch (E := "java/lang/NullPointerException") (name := "java/lang/NullPointerException") hown [] (⟨24, 49, 87, 37⟩ : ExceptionTableEntry) [(⟨50, 86, 87, 37⟩ : ExceptionTableEntry)] (by rw [htb]; rfl) (fun z hz => absurd hz List.not_mem_nil) (by decide) (by decide) (hts _ q145) (va_Nw.use rfl (hN.2.2.2.1 _ (List.mem_of_getElem? (i := 6) rfl))) hce hcv hcl ?_
  refine lv_astore (lv' := [(5, .ref q9), (4, .ref (ra js)), (0, .ref xo), (1, .int (nI js)), (2, .int (nI j)), (3, .int i0)]) hx hb dX0_write_87 hl (by decide) rfl (fun ls hl => ?_)
  refine lv_bipush (v := (-11)) hx hb dX0_write_89 (by decide) ?_
  refine vx_ret ?_
  exact k_iret () hx hb hr hlocks (rfl) hP hD trivial hS (Nat.le_of_ble_eq_true rfl) (Nat.le_of_ble_eq_true rfl) dX0_write_91
set_option maxHeartbeats 4000000 in
set_option maxRecDepth 100000 in
theorem ct_X0_write_K0 (l : Launch) (hl0 : l.stackTraces = false) (D : va_G) (ca : Nat → ClassId) (zH : Nat) (xo xs xu xd xr xf : Nat) (sa : Nat → Option Nat) (ra : Nat → Nat) (g : AI) (js j rw n : Nat) (f : AL) (i0 : Int32) (hjs : js < 16) (hj : j < 6) (hs : sa j = some rw) (hn : n ≤ 16) : vx_Met l yX0_write (wsH_ yX0_write cX0_write 7 (some .int) [((24 : Nat), (49 : Nat), (87 : Nat), (37 : Nat)), ((50 : Nat), (86 : Nat), (87 : Nat), (37 : Nat))]) ({ frames := 12, cells := 0, slots := 0, locals := 10400 }) (va_Pc [.ref xo, .int (nI js), .int (nI j), .int i0] (prX NW D ca [(xo, oX xs xu xd xr xf), (xs, rA ca 3 6 sa), (rw, rwE ca 0 n f), (xr, rA ca 4 16 (fun i => some (ra i)))] zH (fun H => Rg D H ra g))) (qI D (fun (r : Int32) (u : AL) => (r, u) = p_write n f 0 (rq g js) i0) (fun u => [(xo, oX xs xu xd xr xf), (xs, rA ca 3 6 sa), (rw, rwE ca 0 n u), (xr, rA ca 4 16 (fun i => some (ra i)))]) (fun u H => True) (va_A [(xo, oX xs xu xd xr xf), (xs, rA ca 3 6 sa), (rw, rwE ca 0 n f), (xr, rA ca 4 16 (fun i => some (ra i)))] zH)) noX 0 0 (va_A [(xo, oX xs xu xd xr xf), (xs, rA ca 3 6 sa), (rw, rwE ca 0 n f), (xr, rA ca 4 16 (fun i => some (ra i)))] zH) := by
  have hk := NW_ok
  refine k_ofH (Qc := qI D (fun (r : Int32) (u : AL) => (r, u) = p_write n f 0 (rq g js) i0) (fun u => [(xo, oX xs xu xd xr xf), (xs, rA ca 3 6 sa), (rw, rwE ca 0 n u), (xr, rA ca 4 16 (fun i => some (ra i)))]) (fun u H => True)) (by decide) (Nat.le_of_ble_eq_true rfl) ?_
  intro p e s m below meth c ls A H hH hx hb hr hts hown hlocks hnm hml hsz hP hD hK hN hA hAn hS hro hl hX hZ htb
  have hl : lv_has ls 7 [(0, .ref xo), (1, .int (nI js)), (2, .int (nI j)), (3, .int i0)] := hl
  have hOF := k_outF hK (hH ▸ hP) (okc (oko 0 (by decide)) (okc (oka 3 (by decide)) (okc okR_row (okc (oka 4 (by decide)) (okn))))) hAn
  have hRg := hro
  refine lv_iload_n hx hb dX0_write_0 rfl (lv_at hl 1 rfl) ?_
  refine k_calli (wr := [(xo, oX xs xu xd xr xf), (xs, rA ca 3 6 sa), (rw, rwE ca 0 n f), (xr, rA ca 4 16 (fun i => some (ra i)))]) (va_runS (As := [.int (nI js)]) (rest := []) ⟨hx, hb, hml, hown, hts⟩ (ct_X0_isRegister hk l D ca H.size (nI js)) (va_cwS 1 hts (lw_S q313 q314 q19 q315) rfl rfl rfl (by decide +kernel) ⟨Nat.le_of_ble_eq_true rfl, Nat.le_of_ble_eq_true rfl⟩) (k_pre hk hK hN hP hD [] (by decide) rfl trivial) rfl rfl hl.1 rfl (lv_room (Nat.le_of_ble_eq_true rfl)) dX0_write_1 ⟨Nat.le_of_ble_eq_true rfl, Nat.le_of_ble_eq_true rfl⟩) hP hD hS hA [] [0, 1, 2, 3] rfl rfl (by decide) (by decide) (fun r_1 u_2 H locs w_3 hP hD hxw_3 hzw_3 hqw_3 hS => ?_)
  obtain rfl : r_1 = bI (p_in (nI js).toInt64 0 15) := w_3
  refine lv_if_eq (tgt := 14) hx hb dX0_write_4 (by decide) (fun c_4 => absurd c_4 (by rw [in_15 hjs]; decide)) (fun c_4 => ?_)
  refine lv_iload_n hx hb dX0_write_7 rfl (lv_at hl 2 rfl) ?_
  refine k_calli (wr := [(xo, oX xs xu xd xr xf), (xs, rA ca 3 6 sa), (rw, rwE ca 0 n f), (xr, rA ca 4 16 (fun i => some (ra i)))]) (va_runS (As := [.int (nI j)]) (rest := []) ⟨hx, hb, hml, hown, hts⟩ (ct_X0_isSheet hk l D ca H.size (nI j)) (va_cwS 1 hts (lw_S q127 q128 q19 q129) rfl rfl rfl (by decide +kernel) ⟨Nat.le_of_ble_eq_true rfl, Nat.le_of_ble_eq_true rfl⟩) (k_pre hk hK hN hP hD [] (by decide) rfl trivial) rfl rfl hl.1 rfl (lv_room (Nat.le_of_ble_eq_true rfl)) dX0_write_8 ⟨Nat.le_of_ble_eq_true rfl, Nat.le_of_ble_eq_true rfl⟩) hP hD hS hA [] [0, 1, 2, 3] rfl rfl (by decide) (by decide) (fun r_5 u_6 H locs w_7 hP hD hxw_7 hzw_7 hqw_7 hS => ?_)
  obtain rfl : r_5 = bI (p_in (nI j).toInt64 0 5) := w_7
  refine lv_if_ne (tgt := 16) hx hb dX0_write_11 (by decide) (fun c_8 => ?_) (fun c_8 => absurd c_8 (by rw [in_5 hj]; decide))
  refine lv_aload_n hx hb dX0_write_16 rfl (lv_at hl 0 rfl) ?_
  refine va_get (D := D) (ci := 0) (v := .ref xr) (C := RX0) (T := TX0) (N := 5) hx hb hts in_X0 hown hK hP 0 rfl rfl 3 (by decide) (hts _ q296) (fun _ h9 => h9) rfl dX0_write_17 ?_
  refine lv_iload_n hx hb dX0_write_20 rfl (lv_at hl 1 rfl) ?_
  refine va_aldq hx hb hK hP 3 4 rfl rfl (vin_nI (a := js) rfl (by omega) (by omega)) dX0_write_21 ?_
  refine W.eq (g2 := F0 m 22 ls [.ref (ra js)]) (by rw [nI_clamp (show js < 2 ^ 31 by omega)]; rfl) ?_
  have hG_9 := hRg js (by omega)
  have nG_9 := hOF _ _ hG_9
  refine lv_astore (lv' := [(4, .ref (ra js)), (0, .ref xo), (1, .int (nI js)), (2, .int (nI j)), (3, .int i0)]) hx hb dX0_write_22 hl (by decide) rfl (fun ls hl => ?_)
  refine lv_aload_n hx hb dX0_write_24 rfl (lv_at hl 1 rfl) ?_
  refine va_get (D := D) (ci := 0) (v := .ref xs) (C := RX0) (T := TX0) (N := 5) hx hb hts in_X0 hown hK hP 0 rfl rfl 0 (by decide) (hts _ q293) (fun _ h9 => h9) rfl dX0_write_25 ?_
  refine lv_iload_n hx hb dX0_write_28 rfl (lv_at hl 3 rfl) ?_
  refine va_aldq hx hb hK hP 1 3 rfl rfl (vin_nI (a := j) rfl (by omega) (by decide)) dX0_write_29 ?_
  refine W.eq (g2 := F0 m 30 ls [.ref rw]) (by rw [nI_clamp (show j < 2 ^ 31 by omega), hs]; rfl) ?_
  refine nt_len (ty := .byte) (v := nI n) hx hb (hml.trans hl.1.symm) hown (hts _ q336) (hts _ q338) (hts _ q337) (hts _ q34) hK hP 2 0 rfl rfl rfl (by decide) (Nat.le_of_ble_eq_true rfl) dX0_write_30 ?_
  refine lv_istore (lv' := [(5, .int (nI n)), (4, .ref (ra js)), (0, .ref xo), (1, .int (nI js)), (2, .int (nI j)), (3, .int i0)]) hx hb dX0_write_33 hl (by decide) rfl (fun ls hl => ?_)
  rcases rd_cases i0 n hn with ⟨a9, rfl, ha9⟩ | hneg | ⟨a9, rfl, ha8, ha9⟩ | ⟨a9, rfl, ha8, ha9⟩
  · refine lv_iload_n hx hb dX0_write_35 rfl (lv_at hl 5 rfl) ?_
    refine lv_if_lt (tgt := 47) hx hb dX0_write_36 (by decide) (fun c_10 => absurd c_10 (fun z => absurd (lt_y (a := a9) (b := 0) rfl rfl (by omega) (by decide) z) (Nat.not_lt_zero _))) (fun c_10 => ?_)
    refine lv_iload_n hx hb dX0_write_39 rfl (lv_at hl 5 rfl) ?_
    refine lv_iload hx hb dX0_write_40 (lv_at hl 0 rfl) ?_
    refine lv_iconst (v := 4) hx hb dX0_write_42 (by decide) ?_
    refine lv_isub hx hb dX0_write_43 ?_
    refine lv_icmp_le (tgt := 50) hx hb dX0_write_44 (by decide) (fun c_11 => ?_) (fun c_11 => absurd ((sub4_le hn (by omega)).mpr ha9) c_11)
    refine lv_iconst (v := 0) hx hb dX0_write_50 (by decide) ?_
    refine lv_istore (lv' := [(6, .int 0), (5, .int (nI n)), (4, .ref (ra js)), (0, .ref xo), (1, .int (nI js)), (2, .int (nI j)), (3, .int (nI a9))]) hx hb dX0_write_51 hl (by decide) rfl (fun ls hl => ?_)
    refine lv_iload hx hb dX0_write_53 (lv_at hl 0 rfl) ?_
    refine lv_iconst (v := 4) hx hb dX0_write_55 (by decide) ?_
    refine lv_icmp_ge (tgt := 85) hx hb dX0_write_56 (by decide) (fun c_12 => absurd c_12 (by decide)) (fun c_12 => ?_)
    refine lv_aload_n hx hb dX0_write_59 rfl (lv_at hl 3 rfl) ?_
    refine va_get (D := D) (ci := 0) (v := .ref xs) (C := RX0) (T := TX0) (N := 5) hx hb hts in_X0 hown hK hP 0 rfl rfl 0 (by decide) (hts _ q293) (fun _ h9 => h9) rfl dX0_write_60 ?_
    refine lv_iload_n hx hb dX0_write_63 rfl (lv_at hl 5 rfl) ?_
    refine va_aldq hx hb hK hP 1 3 rfl rfl (vin_nI (a := j) rfl (by omega) (by decide)) dX0_write_64 ?_
    refine W.eq (g2 := F0 m 65 ls [.ref rw]) (by rw [nI_clamp (show j < 2 ^ 31 by omega), hs]; rfl) ?_
    refine lv_iload_n hx hb dX0_write_65 rfl (lv_at hl 6 rfl) ?_
    refine lv_iload hx hb dX0_write_66 (lv_at hl 0 rfl) ?_
    refine lv_iadd hx hb dX0_write_68 ?_
    refine lv_topi (fun z_13 ez_13 => ?_)
    obtain rfl : z_13 = nI a9 := ez_13.trans (eq_add0 rfl)
    refine lv_aload hx hb dX0_write_69 (lv_at hl 2 rfl) ?_
    refine lv_iload hx hb dX0_write_71 (lv_at hl 0 rfl) ?_
    refine k_calll (wr := [(xo, oX xs xu xd xr xf), (xs, rA ca 3 6 sa), (rw, rwE ca 0 n f), (xr, rA ca 4 16 (fun i => some (ra i)))]) (va_runV (As := [.int 0]) (rest := [.int (nI a9), .ref rw]) ⟨hx, hb, hml, hown, hts⟩ (ct_X1_part hk l D ca H.size (ra js) 0 (rq g js)) (cwV 1 hts (lw_V q339 q262 q813 q20 q264) rfl rfl rfl (by decide +kernel) ⟨Nat.le_of_ble_eq_true rfl, Nat.le_of_ble_eq_true rfl⟩) (k_preV hk hK hN hP hD [] (by decide) rfl (hG_9.keep hS nG_9) (hG_9.keep hS nG_9) rfl (q0 := 0) rfl) rfl rfl hl.1 rfl (lv_room (Nat.le_of_ble_eq_true rfl)) dX0_write_73 ⟨Nat.le_of_ble_eq_true rfl, Nat.le_of_ble_eq_true rfl⟩) hP hD hS hA [] [0, 1, 2, 3] rfl rfl (by decide) (by decide) (fun r_14 u_15 H locs w_16 hP hD hxw_16 hzw_16 hqw_16 hS => ?_)
    obtain rfl : r_14 = (rq g js).1 := w_16
    refine k_callv (wr := [(xo, oX xs xu xd xr xf), (xs, rA ca 3 6 sa), (xr, rA ca 4 16 (fun i => some (ra i)))]) (va_runS (As := [.ref rw, .int (nI a9), .long ((rq g js).1)]) (rest := []) ⟨hx, hb, hml, hown, hts⟩ (ct_X0_store_0 l D ca H.size rw n a9 f ((rq g js).1) hn (by omega)) (va_cwS 3 hts (lw_S q195 q196 q19 q197) rfl rfl rfl (by decide +kernel) ⟨Nat.le_of_ble_eq_true rfl, Nat.le_of_ble_eq_true rfl⟩) (k_pre hk hK hN hP hD [2] (by decide) rfl trivial) rfl rfl hl.1 rfl (lv_room (Nat.le_of_ble_eq_true rfl)) dX0_write_76 ⟨Nat.le_of_ble_eq_true rfl, Nat.le_of_ble_eq_true rfl⟩) hP hD hS hA [2] [0, 1, 3] rfl rfl (by decide) (by decide) (fun u_18 H locs w_19 hP hD hxw_19 hzw_19 hqw_19 hS => ?_)
    have hP : va_P D vwCl [(xo, oX xs xu xd xr xf), (xs, rA ca 3 6 sa), (xr, rA ca 4 16 (fun i => some (ra i))), (rw, rwE ca 0 n (vp_updL f a9 (ck 0 ((rq g js).1))))] H := hP
    have hD : va_D A [(xo, oX xs xu xd xr xf), (xs, rA ca 3 6 sa), (xr, rA ca 4 16 (fun i => some (ra i))), (rw, rwE ca 0 n (vp_updL f a9 (ck 0 ((rq g js).1))))] := hD
    refine lv_iinc (v := 1) (lv' := [(6, .int 1), (5, .int (nI n)), (4, .ref (ra js)), (0, .ref xo), (1, .int (nI js)), (2, .int (nI j)), (3, .int (nI a9))]) hx hb dX0_write_79 hl (k := 0) rfl (by decide) (by decide) rfl (fun ls hl => ?_)
    refine lv_goto (tgt := 53) hx hb dX0_write_82 (by decide) ?_
    refine lv_iload hx hb dX0_write_53 (lv_at hl 0 rfl) ?_
    refine lv_iconst (v := 4) hx hb dX0_write_55 (by decide) ?_
    refine lv_icmp_ge (tgt := 85) hx hb dX0_write_56 (by decide) (fun c_20 => absurd c_20 (by decide)) (fun c_20 => ?_)
    refine lv_aload_n hx hb dX0_write_59 rfl (lv_at hl 3 rfl) ?_
    refine va_get (D := D) (ci := 0) (v := .ref xs) (C := RX0) (T := TX0) (N := 5) hx hb hts in_X0 hown hK hP 0 rfl rfl 0 (by decide) (hts _ q293) (fun _ h9 => h9) rfl dX0_write_60 ?_
    refine lv_iload_n hx hb dX0_write_63 rfl (lv_at hl 5 rfl) ?_
    refine va_aldq hx hb hK hP 1 3 rfl rfl (vin_nI (a := j) rfl (by omega) (by decide)) dX0_write_64 ?_
    refine W.eq (g2 := F0 m 65 ls [.ref rw]) (by rw [nI_clamp (show j < 2 ^ 31 by omega), hs]; rfl) ?_
    refine lv_iload_n hx hb dX0_write_65 rfl (lv_at hl 6 rfl) ?_
    refine lv_iload hx hb dX0_write_66 (lv_at hl 0 rfl) ?_
    refine lv_iadd hx hb dX0_write_68 ?_
    refine lv_topi (fun z_21 ez_21 => ?_)
    obtain rfl : z_21 = nI (a9 + 1) := ez_21.trans (eq_add rfl rfl)
    refine lv_aload hx hb dX0_write_69 (lv_at hl 2 rfl) ?_
    refine lv_iload hx hb dX0_write_71 (lv_at hl 0 rfl) ?_
    refine k_calll (wr := [(xo, oX xs xu xd xr xf), (xs, rA ca 3 6 sa), (xr, rA ca 4 16 (fun i => some (ra i))), (rw, rwE ca 0 n (vp_updL f a9 (ck 0 ((rq g js).1))))]) (va_runV (As := [.int 1]) (rest := [.int (nI (a9 + 1)), .ref rw]) ⟨hx, hb, hml, hown, hts⟩ (ct_X1_part hk l D ca H.size (ra js) 1 (rq g js)) (cwV 1 hts (lw_V q339 q262 q813 q20 q264) rfl rfl rfl (by decide +kernel) ⟨Nat.le_of_ble_eq_true rfl, Nat.le_of_ble_eq_true rfl⟩) (k_preV hk hK hN hP hD [] (by decide) rfl (hG_9.keep hS nG_9) (hG_9.keep hS nG_9) rfl (q0 := 0) rfl) rfl rfl hl.1 rfl (lv_room (Nat.le_of_ble_eq_true rfl)) dX0_write_73 ⟨Nat.le_of_ble_eq_true rfl, Nat.le_of_ble_eq_true rfl⟩) hP hD hS hA [] [0, 1, 2, 3] rfl rfl (by decide) (by decide) (fun r_22 u_23 H locs w_24 hP hD hxw_24 hzw_24 hqw_24 hS => ?_)
    obtain rfl : r_22 = (rq g js).2.1 := w_24
    refine k_callv (wr := [(xo, oX xs xu xd xr xf), (xs, rA ca 3 6 sa), (xr, rA ca 4 16 (fun i => some (ra i)))]) (va_runS (As := [.ref rw, .int (nI (a9 + 1)), .long ((rq g js).2.1)]) (rest := []) ⟨hx, hb, hml, hown, hts⟩ (ct_X0_store_0 l D ca H.size rw n (a9 + 1) (vp_updL f a9 (ck 0 ((rq g js).1))) ((rq g js).2.1) hn (by omega)) (va_cwS 3 hts (lw_S q195 q196 q19 q197) rfl rfl rfl (by decide +kernel) ⟨Nat.le_of_ble_eq_true rfl, Nat.le_of_ble_eq_true rfl⟩) (k_pre hk hK hN hP hD [3] (by decide) rfl trivial) rfl rfl hl.1 rfl (lv_room (Nat.le_of_ble_eq_true rfl)) dX0_write_76 ⟨Nat.le_of_ble_eq_true rfl, Nat.le_of_ble_eq_true rfl⟩) hP hD hS hA [3] [0, 1, 2] rfl rfl (by decide) (by decide) (fun u_26 H locs w_27 hP hD hxw_27 hzw_27 hqw_27 hS => ?_)
    have hP : va_P D vwCl [(xo, oX xs xu xd xr xf), (xs, rA ca 3 6 sa), (xr, rA ca 4 16 (fun i => some (ra i))), (rw, rwE ca 0 n (vp_updL (vp_updL f a9 (ck 0 ((rq g js).1))) (a9 + 1) (ck 0 ((rq g js).2.1))))] H := hP
    have hD : va_D A [(xo, oX xs xu xd xr xf), (xs, rA ca 3 6 sa), (xr, rA ca 4 16 (fun i => some (ra i))), (rw, rwE ca 0 n (vp_updL (vp_updL f a9 (ck 0 ((rq g js).1))) (a9 + 1) (ck 0 ((rq g js).2.1))))] := hD
    refine lv_iinc (v := 2) (lv' := [(6, .int 2), (5, .int (nI n)), (4, .ref (ra js)), (0, .ref xo), (1, .int (nI js)), (2, .int (nI j)), (3, .int (nI a9))]) hx hb dX0_write_79 hl (k := 0) rfl (by decide) (by decide) rfl (fun ls hl => ?_)
    refine lv_goto (tgt := 53) hx hb dX0_write_82 (by decide) ?_
    refine lv_iload hx hb dX0_write_53 (lv_at hl 0 rfl) ?_
    refine lv_iconst (v := 4) hx hb dX0_write_55 (by decide) ?_
    refine lv_icmp_ge (tgt := 85) hx hb dX0_write_56 (by decide) (fun c_28 => absurd c_28 (by decide)) (fun c_28 => ?_)
    refine lv_aload_n hx hb dX0_write_59 rfl (lv_at hl 3 rfl) ?_
    refine va_get (D := D) (ci := 0) (v := .ref xs) (C := RX0) (T := TX0) (N := 5) hx hb hts in_X0 hown hK hP 0 rfl rfl 0 (by decide) (hts _ q293) (fun _ h9 => h9) rfl dX0_write_60 ?_
    refine lv_iload_n hx hb dX0_write_63 rfl (lv_at hl 5 rfl) ?_
    refine va_aldq hx hb hK hP 1 3 rfl rfl (vin_nI (a := j) rfl (by omega) (by decide)) dX0_write_64 ?_
    refine W.eq (g2 := F0 m 65 ls [.ref rw]) (by rw [nI_clamp (show j < 2 ^ 31 by omega), hs]; rfl) ?_
    refine lv_iload_n hx hb dX0_write_65 rfl (lv_at hl 6 rfl) ?_
    refine lv_iload hx hb dX0_write_66 (lv_at hl 0 rfl) ?_
    refine lv_iadd hx hb dX0_write_68 ?_
    refine lv_topi (fun z_29 ez_29 => ?_)
    obtain rfl : z_29 = nI (a9 + 2) := ez_29.trans (eq_add rfl rfl)
    refine lv_aload hx hb dX0_write_69 (lv_at hl 2 rfl) ?_
    refine lv_iload hx hb dX0_write_71 (lv_at hl 0 rfl) ?_
    refine k_calll (wr := [(xo, oX xs xu xd xr xf), (xs, rA ca 3 6 sa), (xr, rA ca 4 16 (fun i => some (ra i))), (rw, rwE ca 0 n (vp_updL (vp_updL f a9 (ck 0 ((rq g js).1))) (a9 + 1) (ck 0 ((rq g js).2.1))))]) (va_runV (As := [.int 2]) (rest := [.int (nI (a9 + 2)), .ref rw]) ⟨hx, hb, hml, hown, hts⟩ (ct_X1_part hk l D ca H.size (ra js) 2 (rq g js)) (cwV 1 hts (lw_V q339 q262 q813 q20 q264) rfl rfl rfl (by decide +kernel) ⟨Nat.le_of_ble_eq_true rfl, Nat.le_of_ble_eq_true rfl⟩) (k_preV hk hK hN hP hD [] (by decide) rfl (hG_9.keep hS nG_9) (hG_9.keep hS nG_9) rfl (q0 := 0) rfl) rfl rfl hl.1 rfl (lv_room (Nat.le_of_ble_eq_true rfl)) dX0_write_73 ⟨Nat.le_of_ble_eq_true rfl, Nat.le_of_ble_eq_true rfl⟩) hP hD hS hA [] [0, 1, 2, 3] rfl rfl (by decide) (by decide) (fun r_30 u_31 H locs w_32 hP hD hxw_32 hzw_32 hqw_32 hS => ?_)
    obtain rfl : r_30 = (rq g js).2.2.1 := w_32
    refine k_callv (wr := [(xo, oX xs xu xd xr xf), (xs, rA ca 3 6 sa), (xr, rA ca 4 16 (fun i => some (ra i)))]) (va_runS (As := [.ref rw, .int (nI (a9 + 2)), .long ((rq g js).2.2.1)]) (rest := []) ⟨hx, hb, hml, hown, hts⟩ (ct_X0_store_0 l D ca H.size rw n (a9 + 2) (vp_updL (vp_updL f a9 (ck 0 ((rq g js).1))) (a9 + 1) (ck 0 ((rq g js).2.1))) ((rq g js).2.2.1) hn (by omega)) (va_cwS 3 hts (lw_S q195 q196 q19 q197) rfl rfl rfl (by decide +kernel) ⟨Nat.le_of_ble_eq_true rfl, Nat.le_of_ble_eq_true rfl⟩) (k_pre hk hK hN hP hD [3] (by decide) rfl trivial) rfl rfl hl.1 rfl (lv_room (Nat.le_of_ble_eq_true rfl)) dX0_write_76 ⟨Nat.le_of_ble_eq_true rfl, Nat.le_of_ble_eq_true rfl⟩) hP hD hS hA [3] [0, 1, 2] rfl rfl (by decide) (by decide) (fun u_34 H locs w_35 hP hD hxw_35 hzw_35 hqw_35 hS => ?_)
    have hP : va_P D vwCl [(xo, oX xs xu xd xr xf), (xs, rA ca 3 6 sa), (xr, rA ca 4 16 (fun i => some (ra i))), (rw, rwE ca 0 n (vp_updL (vp_updL (vp_updL f a9 (ck 0 ((rq g js).1))) (a9 + 1) (ck 0 ((rq g js).2.1))) (a9 + 2) (ck 0 ((rq g js).2.2.1))))] H := hP
    have hD : va_D A [(xo, oX xs xu xd xr xf), (xs, rA ca 3 6 sa), (xr, rA ca 4 16 (fun i => some (ra i))), (rw, rwE ca 0 n (vp_updL (vp_updL (vp_updL f a9 (ck 0 ((rq g js).1))) (a9 + 1) (ck 0 ((rq g js).2.1))) (a9 + 2) (ck 0 ((rq g js).2.2.1))))] := hD
    refine lv_iinc (v := 3) (lv' := [(6, .int 3), (5, .int (nI n)), (4, .ref (ra js)), (0, .ref xo), (1, .int (nI js)), (2, .int (nI j)), (3, .int (nI a9))]) hx hb dX0_write_79 hl (k := 0) rfl (by decide) (by decide) rfl (fun ls hl => ?_)
    refine lv_goto (tgt := 53) hx hb dX0_write_82 (by decide) ?_
    refine lv_iload hx hb dX0_write_53 (lv_at hl 0 rfl) ?_
    refine lv_iconst (v := 4) hx hb dX0_write_55 (by decide) ?_
    refine lv_icmp_ge (tgt := 85) hx hb dX0_write_56 (by decide) (fun c_36 => absurd c_36 (by decide)) (fun c_36 => ?_)
    refine lv_aload_n hx hb dX0_write_59 rfl (lv_at hl 3 rfl) ?_
    refine va_get (D := D) (ci := 0) (v := .ref xs) (C := RX0) (T := TX0) (N := 5) hx hb hts in_X0 hown hK hP 0 rfl rfl 0 (by decide) (hts _ q293) (fun _ h9 => h9) rfl dX0_write_60 ?_
    refine lv_iload_n hx hb dX0_write_63 rfl (lv_at hl 5 rfl) ?_
    refine va_aldq hx hb hK hP 1 3 rfl rfl (vin_nI (a := j) rfl (by omega) (by decide)) dX0_write_64 ?_
    refine W.eq (g2 := F0 m 65 ls [.ref rw]) (by rw [nI_clamp (show j < 2 ^ 31 by omega), hs]; rfl) ?_
    refine lv_iload_n hx hb dX0_write_65 rfl (lv_at hl 6 rfl) ?_
    refine lv_iload hx hb dX0_write_66 (lv_at hl 0 rfl) ?_
    refine lv_iadd hx hb dX0_write_68 ?_
    refine lv_topi (fun z_37 ez_37 => ?_)
    obtain rfl : z_37 = nI (a9 + 3) := ez_37.trans (eq_add rfl rfl)
    refine lv_aload hx hb dX0_write_69 (lv_at hl 2 rfl) ?_
    refine lv_iload hx hb dX0_write_71 (lv_at hl 0 rfl) ?_
    refine k_calll (wr := [(xo, oX xs xu xd xr xf), (xs, rA ca 3 6 sa), (xr, rA ca 4 16 (fun i => some (ra i))), (rw, rwE ca 0 n (vp_updL (vp_updL (vp_updL f a9 (ck 0 ((rq g js).1))) (a9 + 1) (ck 0 ((rq g js).2.1))) (a9 + 2) (ck 0 ((rq g js).2.2.1))))]) (va_runV (As := [.int 3]) (rest := [.int (nI (a9 + 3)), .ref rw]) ⟨hx, hb, hml, hown, hts⟩ (ct_X1_part hk l D ca H.size (ra js) 3 (rq g js)) (cwV 1 hts (lw_V q339 q262 q813 q20 q264) rfl rfl rfl (by decide +kernel) ⟨Nat.le_of_ble_eq_true rfl, Nat.le_of_ble_eq_true rfl⟩) (k_preV hk hK hN hP hD [] (by decide) rfl (hG_9.keep hS nG_9) (hG_9.keep hS nG_9) rfl (q0 := 0) rfl) rfl rfl hl.1 rfl (lv_room (Nat.le_of_ble_eq_true rfl)) dX0_write_73 ⟨Nat.le_of_ble_eq_true rfl, Nat.le_of_ble_eq_true rfl⟩) hP hD hS hA [] [0, 1, 2, 3] rfl rfl (by decide) (by decide) (fun r_38 u_39 H locs w_40 hP hD hxw_40 hzw_40 hqw_40 hS => ?_)
    obtain rfl : r_38 = (rq g js).2.2.2 := w_40
    refine k_callv (wr := [(xo, oX xs xu xd xr xf), (xs, rA ca 3 6 sa), (xr, rA ca 4 16 (fun i => some (ra i)))]) (va_runS (As := [.ref rw, .int (nI (a9 + 3)), .long ((rq g js).2.2.2)]) (rest := []) ⟨hx, hb, hml, hown, hts⟩ (ct_X0_store_0 l D ca H.size rw n (a9 + 3) (vp_updL (vp_updL (vp_updL f a9 (ck 0 ((rq g js).1))) (a9 + 1) (ck 0 ((rq g js).2.1))) (a9 + 2) (ck 0 ((rq g js).2.2.1))) ((rq g js).2.2.2) hn (by omega)) (va_cwS 3 hts (lw_S q195 q196 q19 q197) rfl rfl rfl (by decide +kernel) ⟨Nat.le_of_ble_eq_true rfl, Nat.le_of_ble_eq_true rfl⟩) (k_pre hk hK hN hP hD [3] (by decide) rfl trivial) rfl rfl hl.1 rfl (lv_room (Nat.le_of_ble_eq_true rfl)) dX0_write_76 ⟨Nat.le_of_ble_eq_true rfl, Nat.le_of_ble_eq_true rfl⟩) hP hD hS hA [3] [0, 1, 2] rfl rfl (by decide) (by decide) (fun u_42 H locs w_43 hP hD hxw_43 hzw_43 hqw_43 hS => ?_)
    have hP : va_P D vwCl [(xo, oX xs xu xd xr xf), (xs, rA ca 3 6 sa), (xr, rA ca 4 16 (fun i => some (ra i))), (rw, rwE ca 0 n (vp_updL (vp_updL (vp_updL (vp_updL f a9 (ck 0 ((rq g js).1))) (a9 + 1) (ck 0 ((rq g js).2.1))) (a9 + 2) (ck 0 ((rq g js).2.2.1))) (a9 + 3) (ck 0 ((rq g js).2.2.2))))] H := hP
    have hD : va_D A [(xo, oX xs xu xd xr xf), (xs, rA ca 3 6 sa), (xr, rA ca 4 16 (fun i => some (ra i))), (rw, rwE ca 0 n (vp_updL (vp_updL (vp_updL (vp_updL f a9 (ck 0 ((rq g js).1))) (a9 + 1) (ck 0 ((rq g js).2.1))) (a9 + 2) (ck 0 ((rq g js).2.2.1))) (a9 + 3) (ck 0 ((rq g js).2.2.2))))] := hD
    refine lv_iinc (v := 4) (lv' := [(6, .int 4), (5, .int (nI n)), (4, .ref (ra js)), (0, .ref xo), (1, .int (nI js)), (2, .int (nI j)), (3, .int (nI a9))]) hx hb dX0_write_79 hl (k := 0) rfl (by decide) (by decide) rfl (fun ls hl => ?_)
    refine lv_goto (tgt := 53) hx hb dX0_write_82 (by decide) ?_
    refine lv_iload hx hb dX0_write_53 (lv_at hl 0 rfl) ?_
    refine lv_iconst (v := 4) hx hb dX0_write_55 (by decide) ?_
    refine lv_icmp_ge (tgt := 85) hx hb dX0_write_56 (by decide) (fun c_44 => ?_) (fun c_44 => absurd (by decide) c_44)
    refine lv_iconst (v := 0) hx hb dX0_write_85 (by decide) ?_
    refine vx_ret ?_
    exact k_iret (vp_updL (vp_updL (vp_updL (vp_updL f a9 (ck 0 ((rq g js).1))) (a9 + 1) (ck 0 ((rq g js).2.1))) (a9 + 2) (ck 0 ((rq g js).2.2.1))) (a9 + 3) (ck 0 ((rq g js).2.2.2))) hx hb hr hlocks (by rw [p_write_y hn ha9]; rfl) (hP.sub [0, 1, 3, 2] rfl) (hD.sub [0, 1, 3, 2] (by decide) rfl) trivial hS (Nat.le_of_ble_eq_true rfl) (Nat.le_of_ble_eq_true rfl) dX0_write_86
  · refine lv_iload_n hx hb dX0_write_35 rfl (lv_at hl 5 rfl) ?_
    refine lv_if_lt (tgt := 47) hx hb dX0_write_36 (by decide) (fun c_45 => ?_) (fun c_45 => absurd hneg c_45)
    refine lv_bipush (v := (-12)) hx hb dX0_write_47 (by decide) ?_
    refine vx_ret ?_
    exact k_iret f hx hb hr hlocks ((p_write_n (Or.inl hneg)).symm) hP hD trivial hS (Nat.le_of_ble_eq_true rfl) (Nat.le_of_ble_eq_true rfl) dX0_write_49
  · refine lv_iload_n hx hb dX0_write_35 rfl (lv_at hl 5 rfl) ?_
    refine lv_if_lt (tgt := 47) hx hb dX0_write_36 (by decide) (fun c_46 => absurd c_46 (fun z => absurd (lt_y (a := a9) (b := 0) rfl rfl (by omega) (by decide) z) (Nat.not_lt_zero _))) (fun c_46 => ?_)
    refine lv_iload_n hx hb dX0_write_39 rfl (lv_at hl 5 rfl) ?_
    refine lv_iload hx hb dX0_write_40 (lv_at hl 0 rfl) ?_
    refine lv_iconst (v := 4) hx hb dX0_write_42 (by decide) ?_
    refine lv_isub hx hb dX0_write_43 ?_
    refine lv_icmp_le (tgt := 50) hx hb dX0_write_44 (by decide) (fun c_47 => absurd c_47 (fun z => absurd ((sub4_le hn (by omega)).mp z) (by omega))) (fun c_47 => ?_)
    refine lv_bipush (v := (-12)) hx hb dX0_write_47 (by decide) ?_
    refine vx_ret ?_
    exact k_iret f hx hb hr hlocks ((p_write_n (Or.inr (by rw [nI_clamp (by omega)]; omega))).symm) hP hD trivial hS (Nat.le_of_ble_eq_true rfl) (Nat.le_of_ble_eq_true rfl) dX0_write_49
  · refine lv_iload_n hx hb dX0_write_35 rfl (lv_at hl 5 rfl) ?_
    refine lv_if_lt (tgt := 47) hx hb dX0_write_36 (by decide) (fun c_48 => absurd c_48 (fun z => absurd (lt_y (a := a9) (b := 0) rfl rfl (by omega) (by decide) z) (Nat.not_lt_zero _))) (fun c_48 => ?_)
    refine lv_iload_n hx hb dX0_write_39 rfl (lv_at hl 5 rfl) ?_
    refine lv_iload hx hb dX0_write_40 (lv_at hl 0 rfl) ?_
    refine lv_iconst (v := 4) hx hb dX0_write_42 (by decide) ?_
    refine lv_isub hx hb dX0_write_43 ?_
    refine lv_icmp_le (tgt := 50) hx hb dX0_write_44 (by decide) (fun c_49 => absurd c_49 (fun z => absurd ((sub4_le hn (by omega)).mp z) (by omega))) (fun c_49 => ?_)
    refine lv_bipush (v := (-12)) hx hb dX0_write_47 (by decide) ?_
    refine vx_ret ?_
    exact k_iret f hx hb hr hlocks ((p_write_n (Or.inr (by rw [nI_clamp (by omega)]; omega))).symm) hP hD trivial hS (Nat.le_of_ble_eq_true rfl) (Nat.le_of_ble_eq_true rfl) dX0_write_49
set_option maxHeartbeats 4000000 in
set_option maxRecDepth 100000 in
theorem ct_X0_write_K1 (l : Launch) (hl0 : l.stackTraces = false) (D : va_G) (ca : Nat → ClassId) (zH : Nat) (xo xs xu xd xr xf : Nat) (sa : Nat → Option Nat) (ra : Nat → Nat) (g : AI) (js j rw n : Nat) (f : AL) (i0 : Int32) (hjs : js < 16) (hj : j < 6) (hs : sa j = some rw) (hn : n ≤ 16) : vx_Met l yX0_write (wsH_ yX0_write cX0_write 7 (some .int) [((24 : Nat), (49 : Nat), (87 : Nat), (37 : Nat)), ((50 : Nat), (86 : Nat), (87 : Nat), (37 : Nat))]) ({ frames := 12, cells := 0, slots := 0, locals := 10400 }) (va_Pc [.ref xo, .int (nI js), .int (nI j), .int i0] (prX NW D ca [(xo, oX xs xu xd xr xf), (xs, rA ca 3 6 sa), (rw, rwE ca 1 n f), (xr, rA ca 4 16 (fun i => some (ra i)))] zH (fun H => Rg D H ra g))) (qI D (fun (r : Int32) (u : AL) => (r, u) = p_write n f 1 (rq g js) i0) (fun u => [(xo, oX xs xu xd xr xf), (xs, rA ca 3 6 sa), (rw, rwE ca 1 n u), (xr, rA ca 4 16 (fun i => some (ra i)))]) (fun u H => True) (va_A [(xo, oX xs xu xd xr xf), (xs, rA ca 3 6 sa), (rw, rwE ca 1 n f), (xr, rA ca 4 16 (fun i => some (ra i)))] zH)) noX 0 0 (va_A [(xo, oX xs xu xd xr xf), (xs, rA ca 3 6 sa), (rw, rwE ca 1 n f), (xr, rA ca 4 16 (fun i => some (ra i)))] zH) := by
  have hk := NW_ok
  refine k_ofH (Qc := qI D (fun (r : Int32) (u : AL) => (r, u) = p_write n f 1 (rq g js) i0) (fun u => [(xo, oX xs xu xd xr xf), (xs, rA ca 3 6 sa), (rw, rwE ca 1 n u), (xr, rA ca 4 16 (fun i => some (ra i)))]) (fun u H => True)) (by decide) (Nat.le_of_ble_eq_true rfl) ?_
  intro p e s m below meth c ls A H hH hx hb hr hts hown hlocks hnm hml hsz hP hD hK hN hA hAn hS hro hl hX hZ htb
  have hl : lv_has ls 7 [(0, .ref xo), (1, .int (nI js)), (2, .int (nI j)), (3, .int i0)] := hl
  have hOF := k_outF hK (hH ▸ hP) (okc (oko 0 (by decide)) (okc (oka 3 (by decide)) (okc okR_row (okc (oka 4 (by decide)) (okn))))) hAn
  have hRg := hro
  refine lv_iload_n hx hb dX0_write_0 rfl (lv_at hl 1 rfl) ?_
  refine k_calli (wr := [(xo, oX xs xu xd xr xf), (xs, rA ca 3 6 sa), (rw, rwE ca 1 n f), (xr, rA ca 4 16 (fun i => some (ra i)))]) (va_runS (As := [.int (nI js)]) (rest := []) ⟨hx, hb, hml, hown, hts⟩ (ct_X0_isRegister hk l D ca H.size (nI js)) (va_cwS 1 hts (lw_S q313 q314 q19 q315) rfl rfl rfl (by decide +kernel) ⟨Nat.le_of_ble_eq_true rfl, Nat.le_of_ble_eq_true rfl⟩) (k_pre hk hK hN hP hD [] (by decide) rfl trivial) rfl rfl hl.1 rfl (lv_room (Nat.le_of_ble_eq_true rfl)) dX0_write_1 ⟨Nat.le_of_ble_eq_true rfl, Nat.le_of_ble_eq_true rfl⟩) hP hD hS hA [] [0, 1, 2, 3] rfl rfl (by decide) (by decide) (fun r_1 u_2 H locs w_3 hP hD hxw_3 hzw_3 hqw_3 hS => ?_)
  obtain rfl : r_1 = bI (p_in (nI js).toInt64 0 15) := w_3
  refine lv_if_eq (tgt := 14) hx hb dX0_write_4 (by decide) (fun c_4 => absurd c_4 (by rw [in_15 hjs]; decide)) (fun c_4 => ?_)
  refine lv_iload_n hx hb dX0_write_7 rfl (lv_at hl 2 rfl) ?_
  refine k_calli (wr := [(xo, oX xs xu xd xr xf), (xs, rA ca 3 6 sa), (rw, rwE ca 1 n f), (xr, rA ca 4 16 (fun i => some (ra i)))]) (va_runS (As := [.int (nI j)]) (rest := []) ⟨hx, hb, hml, hown, hts⟩ (ct_X0_isSheet hk l D ca H.size (nI j)) (va_cwS 1 hts (lw_S q127 q128 q19 q129) rfl rfl rfl (by decide +kernel) ⟨Nat.le_of_ble_eq_true rfl, Nat.le_of_ble_eq_true rfl⟩) (k_pre hk hK hN hP hD [] (by decide) rfl trivial) rfl rfl hl.1 rfl (lv_room (Nat.le_of_ble_eq_true rfl)) dX0_write_8 ⟨Nat.le_of_ble_eq_true rfl, Nat.le_of_ble_eq_true rfl⟩) hP hD hS hA [] [0, 1, 2, 3] rfl rfl (by decide) (by decide) (fun r_5 u_6 H locs w_7 hP hD hxw_7 hzw_7 hqw_7 hS => ?_)
  obtain rfl : r_5 = bI (p_in (nI j).toInt64 0 5) := w_7
  refine lv_if_ne (tgt := 16) hx hb dX0_write_11 (by decide) (fun c_8 => ?_) (fun c_8 => absurd c_8 (by rw [in_5 hj]; decide))
  refine lv_aload_n hx hb dX0_write_16 rfl (lv_at hl 0 rfl) ?_
  refine va_get (D := D) (ci := 0) (v := .ref xr) (C := RX0) (T := TX0) (N := 5) hx hb hts in_X0 hown hK hP 0 rfl rfl 3 (by decide) (hts _ q296) (fun _ h9 => h9) rfl dX0_write_17 ?_
  refine lv_iload_n hx hb dX0_write_20 rfl (lv_at hl 1 rfl) ?_
  refine va_aldq hx hb hK hP 3 4 rfl rfl (vin_nI (a := js) rfl (by omega) (by omega)) dX0_write_21 ?_
  refine W.eq (g2 := F0 m 22 ls [.ref (ra js)]) (by rw [nI_clamp (show js < 2 ^ 31 by omega)]; rfl) ?_
  have hG_9 := hRg js (by omega)
  have nG_9 := hOF _ _ hG_9
  refine lv_astore (lv' := [(4, .ref (ra js)), (0, .ref xo), (1, .int (nI js)), (2, .int (nI j)), (3, .int i0)]) hx hb dX0_write_22 hl (by decide) rfl (fun ls hl => ?_)
  refine lv_aload_n hx hb dX0_write_24 rfl (lv_at hl 1 rfl) ?_
  refine va_get (D := D) (ci := 0) (v := .ref xs) (C := RX0) (T := TX0) (N := 5) hx hb hts in_X0 hown hK hP 0 rfl rfl 0 (by decide) (hts _ q293) (fun _ h9 => h9) rfl dX0_write_25 ?_
  refine lv_iload_n hx hb dX0_write_28 rfl (lv_at hl 3 rfl) ?_
  refine va_aldq hx hb hK hP 1 3 rfl rfl (vin_nI (a := j) rfl (by omega) (by decide)) dX0_write_29 ?_
  refine W.eq (g2 := F0 m 30 ls [.ref rw]) (by rw [nI_clamp (show j < 2 ^ 31 by omega), hs]; rfl) ?_
  refine nt_len (ty := .int) (v := nI n) hx hb (hml.trans hl.1.symm) hown (hts _ q336) (hts _ q338) (hts _ q337) (hts _ q34) hK hP 2 1 rfl rfl rfl (by decide) (Nat.le_of_ble_eq_true rfl) dX0_write_30 ?_
  refine lv_istore (lv' := [(5, .int (nI n)), (4, .ref (ra js)), (0, .ref xo), (1, .int (nI js)), (2, .int (nI j)), (3, .int i0)]) hx hb dX0_write_33 hl (by decide) rfl (fun ls hl => ?_)
  rcases rd_cases i0 n hn with ⟨a9, rfl, ha9⟩ | hneg | ⟨a9, rfl, ha8, ha9⟩ | ⟨a9, rfl, ha8, ha9⟩
  · refine lv_iload_n hx hb dX0_write_35 rfl (lv_at hl 5 rfl) ?_
    refine lv_if_lt (tgt := 47) hx hb dX0_write_36 (by decide) (fun c_10 => absurd c_10 (fun z => absurd (lt_y (a := a9) (b := 0) rfl rfl (by omega) (by decide) z) (Nat.not_lt_zero _))) (fun c_10 => ?_)
    refine lv_iload_n hx hb dX0_write_39 rfl (lv_at hl 5 rfl) ?_
    refine lv_iload hx hb dX0_write_40 (lv_at hl 0 rfl) ?_
    refine lv_iconst (v := 4) hx hb dX0_write_42 (by decide) ?_
    refine lv_isub hx hb dX0_write_43 ?_
    refine lv_icmp_le (tgt := 50) hx hb dX0_write_44 (by decide) (fun c_11 => ?_) (fun c_11 => absurd ((sub4_le hn (by omega)).mpr ha9) c_11)
    refine lv_iconst (v := 0) hx hb dX0_write_50 (by decide) ?_
    refine lv_istore (lv' := [(6, .int 0), (5, .int (nI n)), (4, .ref (ra js)), (0, .ref xo), (1, .int (nI js)), (2, .int (nI j)), (3, .int (nI a9))]) hx hb dX0_write_51 hl (by decide) rfl (fun ls hl => ?_)
    refine lv_iload hx hb dX0_write_53 (lv_at hl 0 rfl) ?_
    refine lv_iconst (v := 4) hx hb dX0_write_55 (by decide) ?_
    refine lv_icmp_ge (tgt := 85) hx hb dX0_write_56 (by decide) (fun c_12 => absurd c_12 (by decide)) (fun c_12 => ?_)
    refine lv_aload_n hx hb dX0_write_59 rfl (lv_at hl 3 rfl) ?_
    refine va_get (D := D) (ci := 0) (v := .ref xs) (C := RX0) (T := TX0) (N := 5) hx hb hts in_X0 hown hK hP 0 rfl rfl 0 (by decide) (hts _ q293) (fun _ h9 => h9) rfl dX0_write_60 ?_
    refine lv_iload_n hx hb dX0_write_63 rfl (lv_at hl 5 rfl) ?_
    refine va_aldq hx hb hK hP 1 3 rfl rfl (vin_nI (a := j) rfl (by omega) (by decide)) dX0_write_64 ?_
    refine W.eq (g2 := F0 m 65 ls [.ref rw]) (by rw [nI_clamp (show j < 2 ^ 31 by omega), hs]; rfl) ?_
    refine lv_iload_n hx hb dX0_write_65 rfl (lv_at hl 6 rfl) ?_
    refine lv_iload hx hb dX0_write_66 (lv_at hl 0 rfl) ?_
    refine lv_iadd hx hb dX0_write_68 ?_
    refine lv_topi (fun z_13 ez_13 => ?_)
    obtain rfl : z_13 = nI a9 := ez_13.trans (eq_add0 rfl)
    refine lv_aload hx hb dX0_write_69 (lv_at hl 2 rfl) ?_
    refine lv_iload hx hb dX0_write_71 (lv_at hl 0 rfl) ?_
    refine k_calll (wr := [(xo, oX xs xu xd xr xf), (xs, rA ca 3 6 sa), (rw, rwE ca 1 n f), (xr, rA ca 4 16 (fun i => some (ra i)))]) (va_runV (As := [.int 0]) (rest := [.int (nI a9), .ref rw]) ⟨hx, hb, hml, hown, hts⟩ (ct_X1_part hk l D ca H.size (ra js) 0 (rq g js)) (cwV 1 hts (lw_V q339 q262 q813 q20 q264) rfl rfl rfl (by decide +kernel) ⟨Nat.le_of_ble_eq_true rfl, Nat.le_of_ble_eq_true rfl⟩) (k_preV hk hK hN hP hD [] (by decide) rfl (hG_9.keep hS nG_9) (hG_9.keep hS nG_9) rfl (q0 := 0) rfl) rfl rfl hl.1 rfl (lv_room (Nat.le_of_ble_eq_true rfl)) dX0_write_73 ⟨Nat.le_of_ble_eq_true rfl, Nat.le_of_ble_eq_true rfl⟩) hP hD hS hA [] [0, 1, 2, 3] rfl rfl (by decide) (by decide) (fun r_14 u_15 H locs w_16 hP hD hxw_16 hzw_16 hqw_16 hS => ?_)
    obtain rfl : r_14 = (rq g js).1 := w_16
    refine k_callv (wr := [(xo, oX xs xu xd xr xf), (xs, rA ca 3 6 sa), (xr, rA ca 4 16 (fun i => some (ra i)))]) (va_runS (As := [.ref rw, .int (nI a9), .long ((rq g js).1)]) (rest := []) ⟨hx, hb, hml, hown, hts⟩ (ct_X0_store_1 l D ca H.size rw n a9 f ((rq g js).1) hn (by omega)) (va_cwS 3 hts (lw_S q195 q196 q19 q197) rfl rfl rfl (by decide +kernel) ⟨Nat.le_of_ble_eq_true rfl, Nat.le_of_ble_eq_true rfl⟩) (k_pre hk hK hN hP hD [2] (by decide) rfl trivial) rfl rfl hl.1 rfl (lv_room (Nat.le_of_ble_eq_true rfl)) dX0_write_76 ⟨Nat.le_of_ble_eq_true rfl, Nat.le_of_ble_eq_true rfl⟩) hP hD hS hA [2] [0, 1, 3] rfl rfl (by decide) (by decide) (fun u_18 H locs w_19 hP hD hxw_19 hzw_19 hqw_19 hS => ?_)
    have hP : va_P D vwCl [(xo, oX xs xu xd xr xf), (xs, rA ca 3 6 sa), (xr, rA ca 4 16 (fun i => some (ra i))), (rw, rwE ca 1 n (vp_updL f a9 (ck 1 ((rq g js).1))))] H := hP
    have hD : va_D A [(xo, oX xs xu xd xr xf), (xs, rA ca 3 6 sa), (xr, rA ca 4 16 (fun i => some (ra i))), (rw, rwE ca 1 n (vp_updL f a9 (ck 1 ((rq g js).1))))] := hD
    refine lv_iinc (v := 1) (lv' := [(6, .int 1), (5, .int (nI n)), (4, .ref (ra js)), (0, .ref xo), (1, .int (nI js)), (2, .int (nI j)), (3, .int (nI a9))]) hx hb dX0_write_79 hl (k := 0) rfl (by decide) (by decide) rfl (fun ls hl => ?_)
    refine lv_goto (tgt := 53) hx hb dX0_write_82 (by decide) ?_
    refine lv_iload hx hb dX0_write_53 (lv_at hl 0 rfl) ?_
    refine lv_iconst (v := 4) hx hb dX0_write_55 (by decide) ?_
    refine lv_icmp_ge (tgt := 85) hx hb dX0_write_56 (by decide) (fun c_20 => absurd c_20 (by decide)) (fun c_20 => ?_)
    refine lv_aload_n hx hb dX0_write_59 rfl (lv_at hl 3 rfl) ?_
    refine va_get (D := D) (ci := 0) (v := .ref xs) (C := RX0) (T := TX0) (N := 5) hx hb hts in_X0 hown hK hP 0 rfl rfl 0 (by decide) (hts _ q293) (fun _ h9 => h9) rfl dX0_write_60 ?_
    refine lv_iload_n hx hb dX0_write_63 rfl (lv_at hl 5 rfl) ?_
    refine va_aldq hx hb hK hP 1 3 rfl rfl (vin_nI (a := j) rfl (by omega) (by decide)) dX0_write_64 ?_
    refine W.eq (g2 := F0 m 65 ls [.ref rw]) (by rw [nI_clamp (show j < 2 ^ 31 by omega), hs]; rfl) ?_
    refine lv_iload_n hx hb dX0_write_65 rfl (lv_at hl 6 rfl) ?_
    refine lv_iload hx hb dX0_write_66 (lv_at hl 0 rfl) ?_
    refine lv_iadd hx hb dX0_write_68 ?_
    refine lv_topi (fun z_21 ez_21 => ?_)
    obtain rfl : z_21 = nI (a9 + 1) := ez_21.trans (eq_add rfl rfl)
    refine lv_aload hx hb dX0_write_69 (lv_at hl 2 rfl) ?_
    refine lv_iload hx hb dX0_write_71 (lv_at hl 0 rfl) ?_
    refine k_calll (wr := [(xo, oX xs xu xd xr xf), (xs, rA ca 3 6 sa), (xr, rA ca 4 16 (fun i => some (ra i))), (rw, rwE ca 1 n (vp_updL f a9 (ck 1 ((rq g js).1))))]) (va_runV (As := [.int 1]) (rest := [.int (nI (a9 + 1)), .ref rw]) ⟨hx, hb, hml, hown, hts⟩ (ct_X1_part hk l D ca H.size (ra js) 1 (rq g js)) (cwV 1 hts (lw_V q339 q262 q813 q20 q264) rfl rfl rfl (by decide +kernel) ⟨Nat.le_of_ble_eq_true rfl, Nat.le_of_ble_eq_true rfl⟩) (k_preV hk hK hN hP hD [] (by decide) rfl (hG_9.keep hS nG_9) (hG_9.keep hS nG_9) rfl (q0 := 0) rfl) rfl rfl hl.1 rfl (lv_room (Nat.le_of_ble_eq_true rfl)) dX0_write_73 ⟨Nat.le_of_ble_eq_true rfl, Nat.le_of_ble_eq_true rfl⟩) hP hD hS hA [] [0, 1, 2, 3] rfl rfl (by decide) (by decide) (fun r_22 u_23 H locs w_24 hP hD hxw_24 hzw_24 hqw_24 hS => ?_)
    obtain rfl : r_22 = (rq g js).2.1 := w_24
    refine k_callv (wr := [(xo, oX xs xu xd xr xf), (xs, rA ca 3 6 sa), (xr, rA ca 4 16 (fun i => some (ra i)))]) (va_runS (As := [.ref rw, .int (nI (a9 + 1)), .long ((rq g js).2.1)]) (rest := []) ⟨hx, hb, hml, hown, hts⟩ (ct_X0_store_1 l D ca H.size rw n (a9 + 1) (vp_updL f a9 (ck 1 ((rq g js).1))) ((rq g js).2.1) hn (by omega)) (va_cwS 3 hts (lw_S q195 q196 q19 q197) rfl rfl rfl (by decide +kernel) ⟨Nat.le_of_ble_eq_true rfl, Nat.le_of_ble_eq_true rfl⟩) (k_pre hk hK hN hP hD [3] (by decide) rfl trivial) rfl rfl hl.1 rfl (lv_room (Nat.le_of_ble_eq_true rfl)) dX0_write_76 ⟨Nat.le_of_ble_eq_true rfl, Nat.le_of_ble_eq_true rfl⟩) hP hD hS hA [3] [0, 1, 2] rfl rfl (by decide) (by decide) (fun u_26 H locs w_27 hP hD hxw_27 hzw_27 hqw_27 hS => ?_)
    have hP : va_P D vwCl [(xo, oX xs xu xd xr xf), (xs, rA ca 3 6 sa), (xr, rA ca 4 16 (fun i => some (ra i))), (rw, rwE ca 1 n (vp_updL (vp_updL f a9 (ck 1 ((rq g js).1))) (a9 + 1) (ck 1 ((rq g js).2.1))))] H := hP
    have hD : va_D A [(xo, oX xs xu xd xr xf), (xs, rA ca 3 6 sa), (xr, rA ca 4 16 (fun i => some (ra i))), (rw, rwE ca 1 n (vp_updL (vp_updL f a9 (ck 1 ((rq g js).1))) (a9 + 1) (ck 1 ((rq g js).2.1))))] := hD
    refine lv_iinc (v := 2) (lv' := [(6, .int 2), (5, .int (nI n)), (4, .ref (ra js)), (0, .ref xo), (1, .int (nI js)), (2, .int (nI j)), (3, .int (nI a9))]) hx hb dX0_write_79 hl (k := 0) rfl (by decide) (by decide) rfl (fun ls hl => ?_)
    refine lv_goto (tgt := 53) hx hb dX0_write_82 (by decide) ?_
    refine lv_iload hx hb dX0_write_53 (lv_at hl 0 rfl) ?_
    refine lv_iconst (v := 4) hx hb dX0_write_55 (by decide) ?_
    refine lv_icmp_ge (tgt := 85) hx hb dX0_write_56 (by decide) (fun c_28 => absurd c_28 (by decide)) (fun c_28 => ?_)
    refine lv_aload_n hx hb dX0_write_59 rfl (lv_at hl 3 rfl) ?_
    refine va_get (D := D) (ci := 0) (v := .ref xs) (C := RX0) (T := TX0) (N := 5) hx hb hts in_X0 hown hK hP 0 rfl rfl 0 (by decide) (hts _ q293) (fun _ h9 => h9) rfl dX0_write_60 ?_
    refine lv_iload_n hx hb dX0_write_63 rfl (lv_at hl 5 rfl) ?_
    refine va_aldq hx hb hK hP 1 3 rfl rfl (vin_nI (a := j) rfl (by omega) (by decide)) dX0_write_64 ?_
    refine W.eq (g2 := F0 m 65 ls [.ref rw]) (by rw [nI_clamp (show j < 2 ^ 31 by omega), hs]; rfl) ?_
    refine lv_iload_n hx hb dX0_write_65 rfl (lv_at hl 6 rfl) ?_
    refine lv_iload hx hb dX0_write_66 (lv_at hl 0 rfl) ?_
    refine lv_iadd hx hb dX0_write_68 ?_
    refine lv_topi (fun z_29 ez_29 => ?_)
    obtain rfl : z_29 = nI (a9 + 2) := ez_29.trans (eq_add rfl rfl)
    refine lv_aload hx hb dX0_write_69 (lv_at hl 2 rfl) ?_
    refine lv_iload hx hb dX0_write_71 (lv_at hl 0 rfl) ?_
    refine k_calll (wr := [(xo, oX xs xu xd xr xf), (xs, rA ca 3 6 sa), (xr, rA ca 4 16 (fun i => some (ra i))), (rw, rwE ca 1 n (vp_updL (vp_updL f a9 (ck 1 ((rq g js).1))) (a9 + 1) (ck 1 ((rq g js).2.1))))]) (va_runV (As := [.int 2]) (rest := [.int (nI (a9 + 2)), .ref rw]) ⟨hx, hb, hml, hown, hts⟩ (ct_X1_part hk l D ca H.size (ra js) 2 (rq g js)) (cwV 1 hts (lw_V q339 q262 q813 q20 q264) rfl rfl rfl (by decide +kernel) ⟨Nat.le_of_ble_eq_true rfl, Nat.le_of_ble_eq_true rfl⟩) (k_preV hk hK hN hP hD [] (by decide) rfl (hG_9.keep hS nG_9) (hG_9.keep hS nG_9) rfl (q0 := 0) rfl) rfl rfl hl.1 rfl (lv_room (Nat.le_of_ble_eq_true rfl)) dX0_write_73 ⟨Nat.le_of_ble_eq_true rfl, Nat.le_of_ble_eq_true rfl⟩) hP hD hS hA [] [0, 1, 2, 3] rfl rfl (by decide) (by decide) (fun r_30 u_31 H locs w_32 hP hD hxw_32 hzw_32 hqw_32 hS => ?_)
    obtain rfl : r_30 = (rq g js).2.2.1 := w_32
    refine k_callv (wr := [(xo, oX xs xu xd xr xf), (xs, rA ca 3 6 sa), (xr, rA ca 4 16 (fun i => some (ra i)))]) (va_runS (As := [.ref rw, .int (nI (a9 + 2)), .long ((rq g js).2.2.1)]) (rest := []) ⟨hx, hb, hml, hown, hts⟩ (ct_X0_store_1 l D ca H.size rw n (a9 + 2) (vp_updL (vp_updL f a9 (ck 1 ((rq g js).1))) (a9 + 1) (ck 1 ((rq g js).2.1))) ((rq g js).2.2.1) hn (by omega)) (va_cwS 3 hts (lw_S q195 q196 q19 q197) rfl rfl rfl (by decide +kernel) ⟨Nat.le_of_ble_eq_true rfl, Nat.le_of_ble_eq_true rfl⟩) (k_pre hk hK hN hP hD [3] (by decide) rfl trivial) rfl rfl hl.1 rfl (lv_room (Nat.le_of_ble_eq_true rfl)) dX0_write_76 ⟨Nat.le_of_ble_eq_true rfl, Nat.le_of_ble_eq_true rfl⟩) hP hD hS hA [3] [0, 1, 2] rfl rfl (by decide) (by decide) (fun u_34 H locs w_35 hP hD hxw_35 hzw_35 hqw_35 hS => ?_)
    have hP : va_P D vwCl [(xo, oX xs xu xd xr xf), (xs, rA ca 3 6 sa), (xr, rA ca 4 16 (fun i => some (ra i))), (rw, rwE ca 1 n (vp_updL (vp_updL (vp_updL f a9 (ck 1 ((rq g js).1))) (a9 + 1) (ck 1 ((rq g js).2.1))) (a9 + 2) (ck 1 ((rq g js).2.2.1))))] H := hP
    have hD : va_D A [(xo, oX xs xu xd xr xf), (xs, rA ca 3 6 sa), (xr, rA ca 4 16 (fun i => some (ra i))), (rw, rwE ca 1 n (vp_updL (vp_updL (vp_updL f a9 (ck 1 ((rq g js).1))) (a9 + 1) (ck 1 ((rq g js).2.1))) (a9 + 2) (ck 1 ((rq g js).2.2.1))))] := hD
    refine lv_iinc (v := 3) (lv' := [(6, .int 3), (5, .int (nI n)), (4, .ref (ra js)), (0, .ref xo), (1, .int (nI js)), (2, .int (nI j)), (3, .int (nI a9))]) hx hb dX0_write_79 hl (k := 0) rfl (by decide) (by decide) rfl (fun ls hl => ?_)
    refine lv_goto (tgt := 53) hx hb dX0_write_82 (by decide) ?_
    refine lv_iload hx hb dX0_write_53 (lv_at hl 0 rfl) ?_
    refine lv_iconst (v := 4) hx hb dX0_write_55 (by decide) ?_
    refine lv_icmp_ge (tgt := 85) hx hb dX0_write_56 (by decide) (fun c_36 => absurd c_36 (by decide)) (fun c_36 => ?_)
    refine lv_aload_n hx hb dX0_write_59 rfl (lv_at hl 3 rfl) ?_
    refine va_get (D := D) (ci := 0) (v := .ref xs) (C := RX0) (T := TX0) (N := 5) hx hb hts in_X0 hown hK hP 0 rfl rfl 0 (by decide) (hts _ q293) (fun _ h9 => h9) rfl dX0_write_60 ?_
    refine lv_iload_n hx hb dX0_write_63 rfl (lv_at hl 5 rfl) ?_
    refine va_aldq hx hb hK hP 1 3 rfl rfl (vin_nI (a := j) rfl (by omega) (by decide)) dX0_write_64 ?_
    refine W.eq (g2 := F0 m 65 ls [.ref rw]) (by rw [nI_clamp (show j < 2 ^ 31 by omega), hs]; rfl) ?_
    refine lv_iload_n hx hb dX0_write_65 rfl (lv_at hl 6 rfl) ?_
    refine lv_iload hx hb dX0_write_66 (lv_at hl 0 rfl) ?_
    refine lv_iadd hx hb dX0_write_68 ?_
    refine lv_topi (fun z_37 ez_37 => ?_)
    obtain rfl : z_37 = nI (a9 + 3) := ez_37.trans (eq_add rfl rfl)
    refine lv_aload hx hb dX0_write_69 (lv_at hl 2 rfl) ?_
    refine lv_iload hx hb dX0_write_71 (lv_at hl 0 rfl) ?_
    refine k_calll (wr := [(xo, oX xs xu xd xr xf), (xs, rA ca 3 6 sa), (xr, rA ca 4 16 (fun i => some (ra i))), (rw, rwE ca 1 n (vp_updL (vp_updL (vp_updL f a9 (ck 1 ((rq g js).1))) (a9 + 1) (ck 1 ((rq g js).2.1))) (a9 + 2) (ck 1 ((rq g js).2.2.1))))]) (va_runV (As := [.int 3]) (rest := [.int (nI (a9 + 3)), .ref rw]) ⟨hx, hb, hml, hown, hts⟩ (ct_X1_part hk l D ca H.size (ra js) 3 (rq g js)) (cwV 1 hts (lw_V q339 q262 q813 q20 q264) rfl rfl rfl (by decide +kernel) ⟨Nat.le_of_ble_eq_true rfl, Nat.le_of_ble_eq_true rfl⟩) (k_preV hk hK hN hP hD [] (by decide) rfl (hG_9.keep hS nG_9) (hG_9.keep hS nG_9) rfl (q0 := 0) rfl) rfl rfl hl.1 rfl (lv_room (Nat.le_of_ble_eq_true rfl)) dX0_write_73 ⟨Nat.le_of_ble_eq_true rfl, Nat.le_of_ble_eq_true rfl⟩) hP hD hS hA [] [0, 1, 2, 3] rfl rfl (by decide) (by decide) (fun r_38 u_39 H locs w_40 hP hD hxw_40 hzw_40 hqw_40 hS => ?_)
    obtain rfl : r_38 = (rq g js).2.2.2 := w_40
    refine k_callv (wr := [(xo, oX xs xu xd xr xf), (xs, rA ca 3 6 sa), (xr, rA ca 4 16 (fun i => some (ra i)))]) (va_runS (As := [.ref rw, .int (nI (a9 + 3)), .long ((rq g js).2.2.2)]) (rest := []) ⟨hx, hb, hml, hown, hts⟩ (ct_X0_store_1 l D ca H.size rw n (a9 + 3) (vp_updL (vp_updL (vp_updL f a9 (ck 1 ((rq g js).1))) (a9 + 1) (ck 1 ((rq g js).2.1))) (a9 + 2) (ck 1 ((rq g js).2.2.1))) ((rq g js).2.2.2) hn (by omega)) (va_cwS 3 hts (lw_S q195 q196 q19 q197) rfl rfl rfl (by decide +kernel) ⟨Nat.le_of_ble_eq_true rfl, Nat.le_of_ble_eq_true rfl⟩) (k_pre hk hK hN hP hD [3] (by decide) rfl trivial) rfl rfl hl.1 rfl (lv_room (Nat.le_of_ble_eq_true rfl)) dX0_write_76 ⟨Nat.le_of_ble_eq_true rfl, Nat.le_of_ble_eq_true rfl⟩) hP hD hS hA [3] [0, 1, 2] rfl rfl (by decide) (by decide) (fun u_42 H locs w_43 hP hD hxw_43 hzw_43 hqw_43 hS => ?_)
    have hP : va_P D vwCl [(xo, oX xs xu xd xr xf), (xs, rA ca 3 6 sa), (xr, rA ca 4 16 (fun i => some (ra i))), (rw, rwE ca 1 n (vp_updL (vp_updL (vp_updL (vp_updL f a9 (ck 1 ((rq g js).1))) (a9 + 1) (ck 1 ((rq g js).2.1))) (a9 + 2) (ck 1 ((rq g js).2.2.1))) (a9 + 3) (ck 1 ((rq g js).2.2.2))))] H := hP
    have hD : va_D A [(xo, oX xs xu xd xr xf), (xs, rA ca 3 6 sa), (xr, rA ca 4 16 (fun i => some (ra i))), (rw, rwE ca 1 n (vp_updL (vp_updL (vp_updL (vp_updL f a9 (ck 1 ((rq g js).1))) (a9 + 1) (ck 1 ((rq g js).2.1))) (a9 + 2) (ck 1 ((rq g js).2.2.1))) (a9 + 3) (ck 1 ((rq g js).2.2.2))))] := hD
    refine lv_iinc (v := 4) (lv' := [(6, .int 4), (5, .int (nI n)), (4, .ref (ra js)), (0, .ref xo), (1, .int (nI js)), (2, .int (nI j)), (3, .int (nI a9))]) hx hb dX0_write_79 hl (k := 0) rfl (by decide) (by decide) rfl (fun ls hl => ?_)
    refine lv_goto (tgt := 53) hx hb dX0_write_82 (by decide) ?_
    refine lv_iload hx hb dX0_write_53 (lv_at hl 0 rfl) ?_
    refine lv_iconst (v := 4) hx hb dX0_write_55 (by decide) ?_
    refine lv_icmp_ge (tgt := 85) hx hb dX0_write_56 (by decide) (fun c_44 => ?_) (fun c_44 => absurd (by decide) c_44)
    refine lv_iconst (v := 0) hx hb dX0_write_85 (by decide) ?_
    refine vx_ret ?_
    exact k_iret (vp_updL (vp_updL (vp_updL (vp_updL f a9 (ck 1 ((rq g js).1))) (a9 + 1) (ck 1 ((rq g js).2.1))) (a9 + 2) (ck 1 ((rq g js).2.2.1))) (a9 + 3) (ck 1 ((rq g js).2.2.2))) hx hb hr hlocks (by rw [p_write_y hn ha9]; rfl) (hP.sub [0, 1, 3, 2] rfl) (hD.sub [0, 1, 3, 2] (by decide) rfl) trivial hS (Nat.le_of_ble_eq_true rfl) (Nat.le_of_ble_eq_true rfl) dX0_write_86
  · refine lv_iload_n hx hb dX0_write_35 rfl (lv_at hl 5 rfl) ?_
    refine lv_if_lt (tgt := 47) hx hb dX0_write_36 (by decide) (fun c_45 => ?_) (fun c_45 => absurd hneg c_45)
    refine lv_bipush (v := (-12)) hx hb dX0_write_47 (by decide) ?_
    refine vx_ret ?_
    exact k_iret f hx hb hr hlocks ((p_write_n (Or.inl hneg)).symm) hP hD trivial hS (Nat.le_of_ble_eq_true rfl) (Nat.le_of_ble_eq_true rfl) dX0_write_49
  · refine lv_iload_n hx hb dX0_write_35 rfl (lv_at hl 5 rfl) ?_
    refine lv_if_lt (tgt := 47) hx hb dX0_write_36 (by decide) (fun c_46 => absurd c_46 (fun z => absurd (lt_y (a := a9) (b := 0) rfl rfl (by omega) (by decide) z) (Nat.not_lt_zero _))) (fun c_46 => ?_)
    refine lv_iload_n hx hb dX0_write_39 rfl (lv_at hl 5 rfl) ?_
    refine lv_iload hx hb dX0_write_40 (lv_at hl 0 rfl) ?_
    refine lv_iconst (v := 4) hx hb dX0_write_42 (by decide) ?_
    refine lv_isub hx hb dX0_write_43 ?_
    refine lv_icmp_le (tgt := 50) hx hb dX0_write_44 (by decide) (fun c_47 => absurd c_47 (fun z => absurd ((sub4_le hn (by omega)).mp z) (by omega))) (fun c_47 => ?_)
    refine lv_bipush (v := (-12)) hx hb dX0_write_47 (by decide) ?_
    refine vx_ret ?_
    exact k_iret f hx hb hr hlocks ((p_write_n (Or.inr (by rw [nI_clamp (by omega)]; omega))).symm) hP hD trivial hS (Nat.le_of_ble_eq_true rfl) (Nat.le_of_ble_eq_true rfl) dX0_write_49
  · refine lv_iload_n hx hb dX0_write_35 rfl (lv_at hl 5 rfl) ?_
    refine lv_if_lt (tgt := 47) hx hb dX0_write_36 (by decide) (fun c_48 => absurd c_48 (fun z => absurd (lt_y (a := a9) (b := 0) rfl rfl (by omega) (by decide) z) (Nat.not_lt_zero _))) (fun c_48 => ?_)
    refine lv_iload_n hx hb dX0_write_39 rfl (lv_at hl 5 rfl) ?_
    refine lv_iload hx hb dX0_write_40 (lv_at hl 0 rfl) ?_
    refine lv_iconst (v := 4) hx hb dX0_write_42 (by decide) ?_
    refine lv_isub hx hb dX0_write_43 ?_
    refine lv_icmp_le (tgt := 50) hx hb dX0_write_44 (by decide) (fun c_49 => absurd c_49 (fun z => absurd ((sub4_le hn (by omega)).mp z) (by omega))) (fun c_49 => ?_)
    refine lv_bipush (v := (-12)) hx hb dX0_write_47 (by decide) ?_
    refine vx_ret ?_
    exact k_iret f hx hb hr hlocks ((p_write_n (Or.inr (by rw [nI_clamp (by omega)]; omega))).symm) hP hD trivial hS (Nat.le_of_ble_eq_true rfl) (Nat.le_of_ble_eq_true rfl) dX0_write_49
set_option maxHeartbeats 4000000 in
set_option maxRecDepth 100000 in
theorem ct_X0_write_K2 (l : Launch) (hl0 : l.stackTraces = false) (D : va_G) (ca : Nat → ClassId) (zH : Nat) (xo xs xu xd xr xf : Nat) (sa : Nat → Option Nat) (ra : Nat → Nat) (g : AI) (js j rw n : Nat) (f : AL) (i0 : Int32) (hjs : js < 16) (hj : j < 6) (hs : sa j = some rw) (hn : n ≤ 16) : vx_Met l yX0_write (wsH_ yX0_write cX0_write 7 (some .int) [((24 : Nat), (49 : Nat), (87 : Nat), (37 : Nat)), ((50 : Nat), (86 : Nat), (87 : Nat), (37 : Nat))]) ({ frames := 12, cells := 0, slots := 0, locals := 10400 }) (va_Pc [.ref xo, .int (nI js), .int (nI j), .int i0] (prX NW D ca [(xo, oX xs xu xd xr xf), (xs, rA ca 3 6 sa), (rw, rwE ca 2 n f), (xr, rA ca 4 16 (fun i => some (ra i)))] zH (fun H => Rg D H ra g))) (qI D (fun (r : Int32) (u : AL) => (r, u) = p_write n f 2 (rq g js) i0) (fun u => [(xo, oX xs xu xd xr xf), (xs, rA ca 3 6 sa), (rw, rwE ca 2 n u), (xr, rA ca 4 16 (fun i => some (ra i)))]) (fun u H => True) (va_A [(xo, oX xs xu xd xr xf), (xs, rA ca 3 6 sa), (rw, rwE ca 2 n f), (xr, rA ca 4 16 (fun i => some (ra i)))] zH)) noX 0 0 (va_A [(xo, oX xs xu xd xr xf), (xs, rA ca 3 6 sa), (rw, rwE ca 2 n f), (xr, rA ca 4 16 (fun i => some (ra i)))] zH) := by
  have hk := NW_ok
  refine k_ofH (Qc := qI D (fun (r : Int32) (u : AL) => (r, u) = p_write n f 2 (rq g js) i0) (fun u => [(xo, oX xs xu xd xr xf), (xs, rA ca 3 6 sa), (rw, rwE ca 2 n u), (xr, rA ca 4 16 (fun i => some (ra i)))]) (fun u H => True)) (by decide) (Nat.le_of_ble_eq_true rfl) ?_
  intro p e s m below meth c ls A H hH hx hb hr hts hown hlocks hnm hml hsz hP hD hK hN hA hAn hS hro hl hX hZ htb
  have hl : lv_has ls 7 [(0, .ref xo), (1, .int (nI js)), (2, .int (nI j)), (3, .int i0)] := hl
  have hOF := k_outF hK (hH ▸ hP) (okc (oko 0 (by decide)) (okc (oka 3 (by decide)) (okc okR_row (okc (oka 4 (by decide)) (okn))))) hAn
  have hRg := hro
  refine lv_iload_n hx hb dX0_write_0 rfl (lv_at hl 1 rfl) ?_
  refine k_calli (wr := [(xo, oX xs xu xd xr xf), (xs, rA ca 3 6 sa), (rw, rwE ca 2 n f), (xr, rA ca 4 16 (fun i => some (ra i)))]) (va_runS (As := [.int (nI js)]) (rest := []) ⟨hx, hb, hml, hown, hts⟩ (ct_X0_isRegister hk l D ca H.size (nI js)) (va_cwS 1 hts (lw_S q313 q314 q19 q315) rfl rfl rfl (by decide +kernel) ⟨Nat.le_of_ble_eq_true rfl, Nat.le_of_ble_eq_true rfl⟩) (k_pre hk hK hN hP hD [] (by decide) rfl trivial) rfl rfl hl.1 rfl (lv_room (Nat.le_of_ble_eq_true rfl)) dX0_write_1 ⟨Nat.le_of_ble_eq_true rfl, Nat.le_of_ble_eq_true rfl⟩) hP hD hS hA [] [0, 1, 2, 3] rfl rfl (by decide) (by decide) (fun r_1 u_2 H locs w_3 hP hD hxw_3 hzw_3 hqw_3 hS => ?_)
  obtain rfl : r_1 = bI (p_in (nI js).toInt64 0 15) := w_3
  refine lv_if_eq (tgt := 14) hx hb dX0_write_4 (by decide) (fun c_4 => absurd c_4 (by rw [in_15 hjs]; decide)) (fun c_4 => ?_)
  refine lv_iload_n hx hb dX0_write_7 rfl (lv_at hl 2 rfl) ?_
  refine k_calli (wr := [(xo, oX xs xu xd xr xf), (xs, rA ca 3 6 sa), (rw, rwE ca 2 n f), (xr, rA ca 4 16 (fun i => some (ra i)))]) (va_runS (As := [.int (nI j)]) (rest := []) ⟨hx, hb, hml, hown, hts⟩ (ct_X0_isSheet hk l D ca H.size (nI j)) (va_cwS 1 hts (lw_S q127 q128 q19 q129) rfl rfl rfl (by decide +kernel) ⟨Nat.le_of_ble_eq_true rfl, Nat.le_of_ble_eq_true rfl⟩) (k_pre hk hK hN hP hD [] (by decide) rfl trivial) rfl rfl hl.1 rfl (lv_room (Nat.le_of_ble_eq_true rfl)) dX0_write_8 ⟨Nat.le_of_ble_eq_true rfl, Nat.le_of_ble_eq_true rfl⟩) hP hD hS hA [] [0, 1, 2, 3] rfl rfl (by decide) (by decide) (fun r_5 u_6 H locs w_7 hP hD hxw_7 hzw_7 hqw_7 hS => ?_)
  obtain rfl : r_5 = bI (p_in (nI j).toInt64 0 5) := w_7
  refine lv_if_ne (tgt := 16) hx hb dX0_write_11 (by decide) (fun c_8 => ?_) (fun c_8 => absurd c_8 (by rw [in_5 hj]; decide))
  refine lv_aload_n hx hb dX0_write_16 rfl (lv_at hl 0 rfl) ?_
  refine va_get (D := D) (ci := 0) (v := .ref xr) (C := RX0) (T := TX0) (N := 5) hx hb hts in_X0 hown hK hP 0 rfl rfl 3 (by decide) (hts _ q296) (fun _ h9 => h9) rfl dX0_write_17 ?_
  refine lv_iload_n hx hb dX0_write_20 rfl (lv_at hl 1 rfl) ?_
  refine va_aldq hx hb hK hP 3 4 rfl rfl (vin_nI (a := js) rfl (by omega) (by omega)) dX0_write_21 ?_
  refine W.eq (g2 := F0 m 22 ls [.ref (ra js)]) (by rw [nI_clamp (show js < 2 ^ 31 by omega)]; rfl) ?_
  have hG_9 := hRg js (by omega)
  have nG_9 := hOF _ _ hG_9
  refine lv_astore (lv' := [(4, .ref (ra js)), (0, .ref xo), (1, .int (nI js)), (2, .int (nI j)), (3, .int i0)]) hx hb dX0_write_22 hl (by decide) rfl (fun ls hl => ?_)
  refine lv_aload_n hx hb dX0_write_24 rfl (lv_at hl 1 rfl) ?_
  refine va_get (D := D) (ci := 0) (v := .ref xs) (C := RX0) (T := TX0) (N := 5) hx hb hts in_X0 hown hK hP 0 rfl rfl 0 (by decide) (hts _ q293) (fun _ h9 => h9) rfl dX0_write_25 ?_
  refine lv_iload_n hx hb dX0_write_28 rfl (lv_at hl 3 rfl) ?_
  refine va_aldq hx hb hK hP 1 3 rfl rfl (vin_nI (a := j) rfl (by omega) (by decide)) dX0_write_29 ?_
  refine W.eq (g2 := F0 m 30 ls [.ref rw]) (by rw [nI_clamp (show j < 2 ^ 31 by omega), hs]; rfl) ?_
  refine nt_len (ty := .long) (v := nI n) hx hb (hml.trans hl.1.symm) hown (hts _ q336) (hts _ q338) (hts _ q337) (hts _ q34) hK hP 2 2 rfl rfl rfl (by decide) (Nat.le_of_ble_eq_true rfl) dX0_write_30 ?_
  refine lv_istore (lv' := [(5, .int (nI n)), (4, .ref (ra js)), (0, .ref xo), (1, .int (nI js)), (2, .int (nI j)), (3, .int i0)]) hx hb dX0_write_33 hl (by decide) rfl (fun ls hl => ?_)
  rcases rd_cases i0 n hn with ⟨a9, rfl, ha9⟩ | hneg | ⟨a9, rfl, ha8, ha9⟩ | ⟨a9, rfl, ha8, ha9⟩
  · refine lv_iload_n hx hb dX0_write_35 rfl (lv_at hl 5 rfl) ?_
    refine lv_if_lt (tgt := 47) hx hb dX0_write_36 (by decide) (fun c_10 => absurd c_10 (fun z => absurd (lt_y (a := a9) (b := 0) rfl rfl (by omega) (by decide) z) (Nat.not_lt_zero _))) (fun c_10 => ?_)
    refine lv_iload_n hx hb dX0_write_39 rfl (lv_at hl 5 rfl) ?_
    refine lv_iload hx hb dX0_write_40 (lv_at hl 0 rfl) ?_
    refine lv_iconst (v := 4) hx hb dX0_write_42 (by decide) ?_
    refine lv_isub hx hb dX0_write_43 ?_
    refine lv_icmp_le (tgt := 50) hx hb dX0_write_44 (by decide) (fun c_11 => ?_) (fun c_11 => absurd ((sub4_le hn (by omega)).mpr ha9) c_11)
    refine lv_iconst (v := 0) hx hb dX0_write_50 (by decide) ?_
    refine lv_istore (lv' := [(6, .int 0), (5, .int (nI n)), (4, .ref (ra js)), (0, .ref xo), (1, .int (nI js)), (2, .int (nI j)), (3, .int (nI a9))]) hx hb dX0_write_51 hl (by decide) rfl (fun ls hl => ?_)
    refine lv_iload hx hb dX0_write_53 (lv_at hl 0 rfl) ?_
    refine lv_iconst (v := 4) hx hb dX0_write_55 (by decide) ?_
    refine lv_icmp_ge (tgt := 85) hx hb dX0_write_56 (by decide) (fun c_12 => absurd c_12 (by decide)) (fun c_12 => ?_)
    refine lv_aload_n hx hb dX0_write_59 rfl (lv_at hl 3 rfl) ?_
    refine va_get (D := D) (ci := 0) (v := .ref xs) (C := RX0) (T := TX0) (N := 5) hx hb hts in_X0 hown hK hP 0 rfl rfl 0 (by decide) (hts _ q293) (fun _ h9 => h9) rfl dX0_write_60 ?_
    refine lv_iload_n hx hb dX0_write_63 rfl (lv_at hl 5 rfl) ?_
    refine va_aldq hx hb hK hP 1 3 rfl rfl (vin_nI (a := j) rfl (by omega) (by decide)) dX0_write_64 ?_
    refine W.eq (g2 := F0 m 65 ls [.ref rw]) (by rw [nI_clamp (show j < 2 ^ 31 by omega), hs]; rfl) ?_
    refine lv_iload_n hx hb dX0_write_65 rfl (lv_at hl 6 rfl) ?_
    refine lv_iload hx hb dX0_write_66 (lv_at hl 0 rfl) ?_
    refine lv_iadd hx hb dX0_write_68 ?_
    refine lv_topi (fun z_13 ez_13 => ?_)
    obtain rfl : z_13 = nI a9 := ez_13.trans (eq_add0 rfl)
    refine lv_aload hx hb dX0_write_69 (lv_at hl 2 rfl) ?_
    refine lv_iload hx hb dX0_write_71 (lv_at hl 0 rfl) ?_
    refine k_calll (wr := [(xo, oX xs xu xd xr xf), (xs, rA ca 3 6 sa), (rw, rwE ca 2 n f), (xr, rA ca 4 16 (fun i => some (ra i)))]) (va_runV (As := [.int 0]) (rest := [.int (nI a9), .ref rw]) ⟨hx, hb, hml, hown, hts⟩ (ct_X1_part hk l D ca H.size (ra js) 0 (rq g js)) (cwV 1 hts (lw_V q339 q262 q813 q20 q264) rfl rfl rfl (by decide +kernel) ⟨Nat.le_of_ble_eq_true rfl, Nat.le_of_ble_eq_true rfl⟩) (k_preV hk hK hN hP hD [] (by decide) rfl (hG_9.keep hS nG_9) (hG_9.keep hS nG_9) rfl (q0 := 0) rfl) rfl rfl hl.1 rfl (lv_room (Nat.le_of_ble_eq_true rfl)) dX0_write_73 ⟨Nat.le_of_ble_eq_true rfl, Nat.le_of_ble_eq_true rfl⟩) hP hD hS hA [] [0, 1, 2, 3] rfl rfl (by decide) (by decide) (fun r_14 u_15 H locs w_16 hP hD hxw_16 hzw_16 hqw_16 hS => ?_)
    obtain rfl : r_14 = (rq g js).1 := w_16
    refine k_callv (wr := [(xo, oX xs xu xd xr xf), (xs, rA ca 3 6 sa), (xr, rA ca 4 16 (fun i => some (ra i)))]) (va_runS (As := [.ref rw, .int (nI a9), .long ((rq g js).1)]) (rest := []) ⟨hx, hb, hml, hown, hts⟩ (ct_X0_store_2 l D ca H.size rw n a9 f ((rq g js).1) hn (by omega)) (va_cwS 3 hts (lw_S q195 q196 q19 q197) rfl rfl rfl (by decide +kernel) ⟨Nat.le_of_ble_eq_true rfl, Nat.le_of_ble_eq_true rfl⟩) (k_pre hk hK hN hP hD [2] (by decide) rfl trivial) rfl rfl hl.1 rfl (lv_room (Nat.le_of_ble_eq_true rfl)) dX0_write_76 ⟨Nat.le_of_ble_eq_true rfl, Nat.le_of_ble_eq_true rfl⟩) hP hD hS hA [2] [0, 1, 3] rfl rfl (by decide) (by decide) (fun u_18 H locs w_19 hP hD hxw_19 hzw_19 hqw_19 hS => ?_)
    have hP : va_P D vwCl [(xo, oX xs xu xd xr xf), (xs, rA ca 3 6 sa), (xr, rA ca 4 16 (fun i => some (ra i))), (rw, rwE ca 2 n (vp_updL f a9 (ck 2 ((rq g js).1))))] H := hP
    have hD : va_D A [(xo, oX xs xu xd xr xf), (xs, rA ca 3 6 sa), (xr, rA ca 4 16 (fun i => some (ra i))), (rw, rwE ca 2 n (vp_updL f a9 (ck 2 ((rq g js).1))))] := hD
    refine lv_iinc (v := 1) (lv' := [(6, .int 1), (5, .int (nI n)), (4, .ref (ra js)), (0, .ref xo), (1, .int (nI js)), (2, .int (nI j)), (3, .int (nI a9))]) hx hb dX0_write_79 hl (k := 0) rfl (by decide) (by decide) rfl (fun ls hl => ?_)
    refine lv_goto (tgt := 53) hx hb dX0_write_82 (by decide) ?_
    refine lv_iload hx hb dX0_write_53 (lv_at hl 0 rfl) ?_
    refine lv_iconst (v := 4) hx hb dX0_write_55 (by decide) ?_
    refine lv_icmp_ge (tgt := 85) hx hb dX0_write_56 (by decide) (fun c_20 => absurd c_20 (by decide)) (fun c_20 => ?_)
    refine lv_aload_n hx hb dX0_write_59 rfl (lv_at hl 3 rfl) ?_
    refine va_get (D := D) (ci := 0) (v := .ref xs) (C := RX0) (T := TX0) (N := 5) hx hb hts in_X0 hown hK hP 0 rfl rfl 0 (by decide) (hts _ q293) (fun _ h9 => h9) rfl dX0_write_60 ?_
    refine lv_iload_n hx hb dX0_write_63 rfl (lv_at hl 5 rfl) ?_
    refine va_aldq hx hb hK hP 1 3 rfl rfl (vin_nI (a := j) rfl (by omega) (by decide)) dX0_write_64 ?_
    refine W.eq (g2 := F0 m 65 ls [.ref rw]) (by rw [nI_clamp (show j < 2 ^ 31 by omega), hs]; rfl) ?_
    refine lv_iload_n hx hb dX0_write_65 rfl (lv_at hl 6 rfl) ?_
    refine lv_iload hx hb dX0_write_66 (lv_at hl 0 rfl) ?_
    refine lv_iadd hx hb dX0_write_68 ?_
    refine lv_topi (fun z_21 ez_21 => ?_)
    obtain rfl : z_21 = nI (a9 + 1) := ez_21.trans (eq_add rfl rfl)
    refine lv_aload hx hb dX0_write_69 (lv_at hl 2 rfl) ?_
    refine lv_iload hx hb dX0_write_71 (lv_at hl 0 rfl) ?_
    refine k_calll (wr := [(xo, oX xs xu xd xr xf), (xs, rA ca 3 6 sa), (xr, rA ca 4 16 (fun i => some (ra i))), (rw, rwE ca 2 n (vp_updL f a9 (ck 2 ((rq g js).1))))]) (va_runV (As := [.int 1]) (rest := [.int (nI (a9 + 1)), .ref rw]) ⟨hx, hb, hml, hown, hts⟩ (ct_X1_part hk l D ca H.size (ra js) 1 (rq g js)) (cwV 1 hts (lw_V q339 q262 q813 q20 q264) rfl rfl rfl (by decide +kernel) ⟨Nat.le_of_ble_eq_true rfl, Nat.le_of_ble_eq_true rfl⟩) (k_preV hk hK hN hP hD [] (by decide) rfl (hG_9.keep hS nG_9) (hG_9.keep hS nG_9) rfl (q0 := 0) rfl) rfl rfl hl.1 rfl (lv_room (Nat.le_of_ble_eq_true rfl)) dX0_write_73 ⟨Nat.le_of_ble_eq_true rfl, Nat.le_of_ble_eq_true rfl⟩) hP hD hS hA [] [0, 1, 2, 3] rfl rfl (by decide) (by decide) (fun r_22 u_23 H locs w_24 hP hD hxw_24 hzw_24 hqw_24 hS => ?_)
    obtain rfl : r_22 = (rq g js).2.1 := w_24
    refine k_callv (wr := [(xo, oX xs xu xd xr xf), (xs, rA ca 3 6 sa), (xr, rA ca 4 16 (fun i => some (ra i)))]) (va_runS (As := [.ref rw, .int (nI (a9 + 1)), .long ((rq g js).2.1)]) (rest := []) ⟨hx, hb, hml, hown, hts⟩ (ct_X0_store_2 l D ca H.size rw n (a9 + 1) (vp_updL f a9 (ck 2 ((rq g js).1))) ((rq g js).2.1) hn (by omega)) (va_cwS 3 hts (lw_S q195 q196 q19 q197) rfl rfl rfl (by decide +kernel) ⟨Nat.le_of_ble_eq_true rfl, Nat.le_of_ble_eq_true rfl⟩) (k_pre hk hK hN hP hD [3] (by decide) rfl trivial) rfl rfl hl.1 rfl (lv_room (Nat.le_of_ble_eq_true rfl)) dX0_write_76 ⟨Nat.le_of_ble_eq_true rfl, Nat.le_of_ble_eq_true rfl⟩) hP hD hS hA [3] [0, 1, 2] rfl rfl (by decide) (by decide) (fun u_26 H locs w_27 hP hD hxw_27 hzw_27 hqw_27 hS => ?_)
    have hP : va_P D vwCl [(xo, oX xs xu xd xr xf), (xs, rA ca 3 6 sa), (xr, rA ca 4 16 (fun i => some (ra i))), (rw, rwE ca 2 n (vp_updL (vp_updL f a9 (ck 2 ((rq g js).1))) (a9 + 1) (ck 2 ((rq g js).2.1))))] H := hP
    have hD : va_D A [(xo, oX xs xu xd xr xf), (xs, rA ca 3 6 sa), (xr, rA ca 4 16 (fun i => some (ra i))), (rw, rwE ca 2 n (vp_updL (vp_updL f a9 (ck 2 ((rq g js).1))) (a9 + 1) (ck 2 ((rq g js).2.1))))] := hD
    refine lv_iinc (v := 2) (lv' := [(6, .int 2), (5, .int (nI n)), (4, .ref (ra js)), (0, .ref xo), (1, .int (nI js)), (2, .int (nI j)), (3, .int (nI a9))]) hx hb dX0_write_79 hl (k := 0) rfl (by decide) (by decide) rfl (fun ls hl => ?_)
    refine lv_goto (tgt := 53) hx hb dX0_write_82 (by decide) ?_
    refine lv_iload hx hb dX0_write_53 (lv_at hl 0 rfl) ?_
    refine lv_iconst (v := 4) hx hb dX0_write_55 (by decide) ?_
    refine lv_icmp_ge (tgt := 85) hx hb dX0_write_56 (by decide) (fun c_28 => absurd c_28 (by decide)) (fun c_28 => ?_)
    refine lv_aload_n hx hb dX0_write_59 rfl (lv_at hl 3 rfl) ?_
    refine va_get (D := D) (ci := 0) (v := .ref xs) (C := RX0) (T := TX0) (N := 5) hx hb hts in_X0 hown hK hP 0 rfl rfl 0 (by decide) (hts _ q293) (fun _ h9 => h9) rfl dX0_write_60 ?_
    refine lv_iload_n hx hb dX0_write_63 rfl (lv_at hl 5 rfl) ?_
    refine va_aldq hx hb hK hP 1 3 rfl rfl (vin_nI (a := j) rfl (by omega) (by decide)) dX0_write_64 ?_
    refine W.eq (g2 := F0 m 65 ls [.ref rw]) (by rw [nI_clamp (show j < 2 ^ 31 by omega), hs]; rfl) ?_
    refine lv_iload_n hx hb dX0_write_65 rfl (lv_at hl 6 rfl) ?_
    refine lv_iload hx hb dX0_write_66 (lv_at hl 0 rfl) ?_
    refine lv_iadd hx hb dX0_write_68 ?_
    refine lv_topi (fun z_29 ez_29 => ?_)
    obtain rfl : z_29 = nI (a9 + 2) := ez_29.trans (eq_add rfl rfl)
    refine lv_aload hx hb dX0_write_69 (lv_at hl 2 rfl) ?_
    refine lv_iload hx hb dX0_write_71 (lv_at hl 0 rfl) ?_
    refine k_calll (wr := [(xo, oX xs xu xd xr xf), (xs, rA ca 3 6 sa), (xr, rA ca 4 16 (fun i => some (ra i))), (rw, rwE ca 2 n (vp_updL (vp_updL f a9 (ck 2 ((rq g js).1))) (a9 + 1) (ck 2 ((rq g js).2.1))))]) (va_runV (As := [.int 2]) (rest := [.int (nI (a9 + 2)), .ref rw]) ⟨hx, hb, hml, hown, hts⟩ (ct_X1_part hk l D ca H.size (ra js) 2 (rq g js)) (cwV 1 hts (lw_V q339 q262 q813 q20 q264) rfl rfl rfl (by decide +kernel) ⟨Nat.le_of_ble_eq_true rfl, Nat.le_of_ble_eq_true rfl⟩) (k_preV hk hK hN hP hD [] (by decide) rfl (hG_9.keep hS nG_9) (hG_9.keep hS nG_9) rfl (q0 := 0) rfl) rfl rfl hl.1 rfl (lv_room (Nat.le_of_ble_eq_true rfl)) dX0_write_73 ⟨Nat.le_of_ble_eq_true rfl, Nat.le_of_ble_eq_true rfl⟩) hP hD hS hA [] [0, 1, 2, 3] rfl rfl (by decide) (by decide) (fun r_30 u_31 H locs w_32 hP hD hxw_32 hzw_32 hqw_32 hS => ?_)
    obtain rfl : r_30 = (rq g js).2.2.1 := w_32
    refine k_callv (wr := [(xo, oX xs xu xd xr xf), (xs, rA ca 3 6 sa), (xr, rA ca 4 16 (fun i => some (ra i)))]) (va_runS (As := [.ref rw, .int (nI (a9 + 2)), .long ((rq g js).2.2.1)]) (rest := []) ⟨hx, hb, hml, hown, hts⟩ (ct_X0_store_2 l D ca H.size rw n (a9 + 2) (vp_updL (vp_updL f a9 (ck 2 ((rq g js).1))) (a9 + 1) (ck 2 ((rq g js).2.1))) ((rq g js).2.2.1) hn (by omega)) (va_cwS 3 hts (lw_S q195 q196 q19 q197) rfl rfl rfl (by decide +kernel) ⟨Nat.le_of_ble_eq_true rfl, Nat.le_of_ble_eq_true rfl⟩) (k_pre hk hK hN hP hD [3] (by decide) rfl trivial) rfl rfl hl.1 rfl (lv_room (Nat.le_of_ble_eq_true rfl)) dX0_write_76 ⟨Nat.le_of_ble_eq_true rfl, Nat.le_of_ble_eq_true rfl⟩) hP hD hS hA [3] [0, 1, 2] rfl rfl (by decide) (by decide) (fun u_34 H locs w_35 hP hD hxw_35 hzw_35 hqw_35 hS => ?_)
    have hP : va_P D vwCl [(xo, oX xs xu xd xr xf), (xs, rA ca 3 6 sa), (xr, rA ca 4 16 (fun i => some (ra i))), (rw, rwE ca 2 n (vp_updL (vp_updL (vp_updL f a9 (ck 2 ((rq g js).1))) (a9 + 1) (ck 2 ((rq g js).2.1))) (a9 + 2) (ck 2 ((rq g js).2.2.1))))] H := hP
    have hD : va_D A [(xo, oX xs xu xd xr xf), (xs, rA ca 3 6 sa), (xr, rA ca 4 16 (fun i => some (ra i))), (rw, rwE ca 2 n (vp_updL (vp_updL (vp_updL f a9 (ck 2 ((rq g js).1))) (a9 + 1) (ck 2 ((rq g js).2.1))) (a9 + 2) (ck 2 ((rq g js).2.2.1))))] := hD
    refine lv_iinc (v := 3) (lv' := [(6, .int 3), (5, .int (nI n)), (4, .ref (ra js)), (0, .ref xo), (1, .int (nI js)), (2, .int (nI j)), (3, .int (nI a9))]) hx hb dX0_write_79 hl (k := 0) rfl (by decide) (by decide) rfl (fun ls hl => ?_)
    refine lv_goto (tgt := 53) hx hb dX0_write_82 (by decide) ?_
    refine lv_iload hx hb dX0_write_53 (lv_at hl 0 rfl) ?_
    refine lv_iconst (v := 4) hx hb dX0_write_55 (by decide) ?_
    refine lv_icmp_ge (tgt := 85) hx hb dX0_write_56 (by decide) (fun c_36 => absurd c_36 (by decide)) (fun c_36 => ?_)
    refine lv_aload_n hx hb dX0_write_59 rfl (lv_at hl 3 rfl) ?_
    refine va_get (D := D) (ci := 0) (v := .ref xs) (C := RX0) (T := TX0) (N := 5) hx hb hts in_X0 hown hK hP 0 rfl rfl 0 (by decide) (hts _ q293) (fun _ h9 => h9) rfl dX0_write_60 ?_
    refine lv_iload_n hx hb dX0_write_63 rfl (lv_at hl 5 rfl) ?_
    refine va_aldq hx hb hK hP 1 3 rfl rfl (vin_nI (a := j) rfl (by omega) (by decide)) dX0_write_64 ?_
    refine W.eq (g2 := F0 m 65 ls [.ref rw]) (by rw [nI_clamp (show j < 2 ^ 31 by omega), hs]; rfl) ?_
    refine lv_iload_n hx hb dX0_write_65 rfl (lv_at hl 6 rfl) ?_
    refine lv_iload hx hb dX0_write_66 (lv_at hl 0 rfl) ?_
    refine lv_iadd hx hb dX0_write_68 ?_
    refine lv_topi (fun z_37 ez_37 => ?_)
    obtain rfl : z_37 = nI (a9 + 3) := ez_37.trans (eq_add rfl rfl)
    refine lv_aload hx hb dX0_write_69 (lv_at hl 2 rfl) ?_
    refine lv_iload hx hb dX0_write_71 (lv_at hl 0 rfl) ?_
    refine k_calll (wr := [(xo, oX xs xu xd xr xf), (xs, rA ca 3 6 sa), (xr, rA ca 4 16 (fun i => some (ra i))), (rw, rwE ca 2 n (vp_updL (vp_updL (vp_updL f a9 (ck 2 ((rq g js).1))) (a9 + 1) (ck 2 ((rq g js).2.1))) (a9 + 2) (ck 2 ((rq g js).2.2.1))))]) (va_runV (As := [.int 3]) (rest := [.int (nI (a9 + 3)), .ref rw]) ⟨hx, hb, hml, hown, hts⟩ (ct_X1_part hk l D ca H.size (ra js) 3 (rq g js)) (cwV 1 hts (lw_V q339 q262 q813 q20 q264) rfl rfl rfl (by decide +kernel) ⟨Nat.le_of_ble_eq_true rfl, Nat.le_of_ble_eq_true rfl⟩) (k_preV hk hK hN hP hD [] (by decide) rfl (hG_9.keep hS nG_9) (hG_9.keep hS nG_9) rfl (q0 := 0) rfl) rfl rfl hl.1 rfl (lv_room (Nat.le_of_ble_eq_true rfl)) dX0_write_73 ⟨Nat.le_of_ble_eq_true rfl, Nat.le_of_ble_eq_true rfl⟩) hP hD hS hA [] [0, 1, 2, 3] rfl rfl (by decide) (by decide) (fun r_38 u_39 H locs w_40 hP hD hxw_40 hzw_40 hqw_40 hS => ?_)
    obtain rfl : r_38 = (rq g js).2.2.2 := w_40
    refine k_callv (wr := [(xo, oX xs xu xd xr xf), (xs, rA ca 3 6 sa), (xr, rA ca 4 16 (fun i => some (ra i)))]) (va_runS (As := [.ref rw, .int (nI (a9 + 3)), .long ((rq g js).2.2.2)]) (rest := []) ⟨hx, hb, hml, hown, hts⟩ (ct_X0_store_2 l D ca H.size rw n (a9 + 3) (vp_updL (vp_updL (vp_updL f a9 (ck 2 ((rq g js).1))) (a9 + 1) (ck 2 ((rq g js).2.1))) (a9 + 2) (ck 2 ((rq g js).2.2.1))) ((rq g js).2.2.2) hn (by omega)) (va_cwS 3 hts (lw_S q195 q196 q19 q197) rfl rfl rfl (by decide +kernel) ⟨Nat.le_of_ble_eq_true rfl, Nat.le_of_ble_eq_true rfl⟩) (k_pre hk hK hN hP hD [3] (by decide) rfl trivial) rfl rfl hl.1 rfl (lv_room (Nat.le_of_ble_eq_true rfl)) dX0_write_76 ⟨Nat.le_of_ble_eq_true rfl, Nat.le_of_ble_eq_true rfl⟩) hP hD hS hA [3] [0, 1, 2] rfl rfl (by decide) (by decide) (fun u_42 H locs w_43 hP hD hxw_43 hzw_43 hqw_43 hS => ?_)
    have hP : va_P D vwCl [(xo, oX xs xu xd xr xf), (xs, rA ca 3 6 sa), (xr, rA ca 4 16 (fun i => some (ra i))), (rw, rwE ca 2 n (vp_updL (vp_updL (vp_updL (vp_updL f a9 (ck 2 ((rq g js).1))) (a9 + 1) (ck 2 ((rq g js).2.1))) (a9 + 2) (ck 2 ((rq g js).2.2.1))) (a9 + 3) (ck 2 ((rq g js).2.2.2))))] H := hP
    have hD : va_D A [(xo, oX xs xu xd xr xf), (xs, rA ca 3 6 sa), (xr, rA ca 4 16 (fun i => some (ra i))), (rw, rwE ca 2 n (vp_updL (vp_updL (vp_updL (vp_updL f a9 (ck 2 ((rq g js).1))) (a9 + 1) (ck 2 ((rq g js).2.1))) (a9 + 2) (ck 2 ((rq g js).2.2.1))) (a9 + 3) (ck 2 ((rq g js).2.2.2))))] := hD
    refine lv_iinc (v := 4) (lv' := [(6, .int 4), (5, .int (nI n)), (4, .ref (ra js)), (0, .ref xo), (1, .int (nI js)), (2, .int (nI j)), (3, .int (nI a9))]) hx hb dX0_write_79 hl (k := 0) rfl (by decide) (by decide) rfl (fun ls hl => ?_)
    refine lv_goto (tgt := 53) hx hb dX0_write_82 (by decide) ?_
    refine lv_iload hx hb dX0_write_53 (lv_at hl 0 rfl) ?_
    refine lv_iconst (v := 4) hx hb dX0_write_55 (by decide) ?_
    refine lv_icmp_ge (tgt := 85) hx hb dX0_write_56 (by decide) (fun c_44 => ?_) (fun c_44 => absurd (by decide) c_44)
    refine lv_iconst (v := 0) hx hb dX0_write_85 (by decide) ?_
    refine vx_ret ?_
    exact k_iret (vp_updL (vp_updL (vp_updL (vp_updL f a9 (ck 2 ((rq g js).1))) (a9 + 1) (ck 2 ((rq g js).2.1))) (a9 + 2) (ck 2 ((rq g js).2.2.1))) (a9 + 3) (ck 2 ((rq g js).2.2.2))) hx hb hr hlocks (by rw [p_write_y hn ha9]; rfl) (hP.sub [0, 1, 3, 2] rfl) (hD.sub [0, 1, 3, 2] (by decide) rfl) trivial hS (Nat.le_of_ble_eq_true rfl) (Nat.le_of_ble_eq_true rfl) dX0_write_86
  · refine lv_iload_n hx hb dX0_write_35 rfl (lv_at hl 5 rfl) ?_
    refine lv_if_lt (tgt := 47) hx hb dX0_write_36 (by decide) (fun c_45 => ?_) (fun c_45 => absurd hneg c_45)
    refine lv_bipush (v := (-12)) hx hb dX0_write_47 (by decide) ?_
    refine vx_ret ?_
    exact k_iret f hx hb hr hlocks ((p_write_n (Or.inl hneg)).symm) hP hD trivial hS (Nat.le_of_ble_eq_true rfl) (Nat.le_of_ble_eq_true rfl) dX0_write_49
  · refine lv_iload_n hx hb dX0_write_35 rfl (lv_at hl 5 rfl) ?_
    refine lv_if_lt (tgt := 47) hx hb dX0_write_36 (by decide) (fun c_46 => absurd c_46 (fun z => absurd (lt_y (a := a9) (b := 0) rfl rfl (by omega) (by decide) z) (Nat.not_lt_zero _))) (fun c_46 => ?_)
    refine lv_iload_n hx hb dX0_write_39 rfl (lv_at hl 5 rfl) ?_
    refine lv_iload hx hb dX0_write_40 (lv_at hl 0 rfl) ?_
    refine lv_iconst (v := 4) hx hb dX0_write_42 (by decide) ?_
    refine lv_isub hx hb dX0_write_43 ?_
    refine lv_icmp_le (tgt := 50) hx hb dX0_write_44 (by decide) (fun c_47 => absurd c_47 (fun z => absurd ((sub4_le hn (by omega)).mp z) (by omega))) (fun c_47 => ?_)
    refine lv_bipush (v := (-12)) hx hb dX0_write_47 (by decide) ?_
    refine vx_ret ?_
    exact k_iret f hx hb hr hlocks ((p_write_n (Or.inr (by rw [nI_clamp (by omega)]; omega))).symm) hP hD trivial hS (Nat.le_of_ble_eq_true rfl) (Nat.le_of_ble_eq_true rfl) dX0_write_49
  · refine lv_iload_n hx hb dX0_write_35 rfl (lv_at hl 5 rfl) ?_
    refine lv_if_lt (tgt := 47) hx hb dX0_write_36 (by decide) (fun c_48 => absurd c_48 (fun z => absurd (lt_y (a := a9) (b := 0) rfl rfl (by omega) (by decide) z) (Nat.not_lt_zero _))) (fun c_48 => ?_)
    refine lv_iload_n hx hb dX0_write_39 rfl (lv_at hl 5 rfl) ?_
    refine lv_iload hx hb dX0_write_40 (lv_at hl 0 rfl) ?_
    refine lv_iconst (v := 4) hx hb dX0_write_42 (by decide) ?_
    refine lv_isub hx hb dX0_write_43 ?_
    refine lv_icmp_le (tgt := 50) hx hb dX0_write_44 (by decide) (fun c_49 => absurd c_49 (fun z => absurd ((sub4_le hn (by omega)).mp z) (by omega))) (fun c_49 => ?_)
    refine lv_bipush (v := (-12)) hx hb dX0_write_47 (by decide) ?_
    refine vx_ret ?_
    exact k_iret f hx hb hr hlocks ((p_write_n (Or.inr (by rw [nI_clamp (by omega)]; omega))).symm) hP hD trivial hS (Nat.le_of_ble_eq_true rfl) (Nat.le_of_ble_eq_true rfl) dX0_write_49
