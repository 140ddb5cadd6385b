theorem ck_64 {k : Nat} {v : Int64} (hk : k < 2) (h : ck k v = v) : v.toInt32.toInt64 = v := by
  match k, hk with
  | 0, _ =>
    have h1 : v.toInt32.toInt8.toInt32.toInt64 = v := h
    have h2 : v.toInt32 = v.toInt32.toInt8.toInt32 := by
      conv => lhs; rw [← h1]
      rw [i32_64]
    rw [h2, h1]
  | 1, _ => exact h
  | k + 2, h => omega
theorem rd_cases (i : Int32) (n : Nat) (hn : n ≤ 16) : (∃ a, i = nI a ∧ a + 4 ≤ n) ∨ (i < 0 ∨ (∃ a, i = nI a ∧ a < 2 ^ 31 ∧ 16 < a) ∨ ∃ a, i = nI a ∧ a ≤ 16 ∧ n < a + 4) := by
  by_cases h : i < 0
  · exact Or.inr (Or.inl h)
  · obtain ⟨a, ha, rfl⟩ := nI_of h
    by_cases h2 : a + 4 ≤ n
    · exact Or.inl ⟨a, rfl, h2⟩
    · by_cases h3 : a ≤ 16
      · exact Or.inr (Or.inr (Or.inr ⟨a, rfl, h3, by omega⟩))
      · exact Or.inr (Or.inr (Or.inl ⟨a, rfl, ha, by omega⟩))
def q4r (f : AL) (a : Nat) : Q4 := (f a, f (a + 1), f (a + 2), f (a + 3))
/-- four places of a row into register s -/
def p_read (n : Nat) (f : AL) (g : AI) (s : Nat) (i : Int32) : Int32 × AI :=
  if i < 0 ∨ n < i.toNatClampNeg + 4 then (-12, g)
  else if q_one (q4r f i.toNatClampNeg) then (if q_low (q4r f i.toNatClampNeg) then 0 else -16, h_g g s (q4r f i.toNatClampNeg)) else (-15, g)
theorem p_read_n {n : Nat} {f : AL} {g : AI} {s : Nat} {i : Int32} (h : i < 0 ∨ n < i.toNatClampNeg + 4) : p_read n f g s i = (-12, g) := if_pos h
theorem p_read_y {n a : Nat} {f : AL} {g : AI} {s : Nat} (hn : n ≤ 16) (h : a + 4 ≤ n) : p_read n f g s (nI a) = if q_one (q4r f a) then (if q_low (q4r f a) then 0 else -16, h_g g s (q4r f a)) else (-15, g) := by
  rw [p_read, if_neg, nI_clamp (show a < 2 ^ 31 by omega)]
  rintro (z | z)
  · exact absurd (lt_y (a := a) (b := 0) rfl rfl (by omega) (by decide) z) (Nat.not_lt_zero a)
  · rw [nI_clamp (show a < 2 ^ 31 by omega)] at z
    omega
theorem in_15 {j : Nat} (h : j < 16) : p_in (nI j).toInt64 0 15 = true := by
  have h5 : (15 : Int64).toInt = 15 := by decide
  exact in_y (by omega)
set_option maxHeartbeats 4000000 in
set_option maxRecDepth 100000 in
theorem ct_X0_read_0 (l : Launch) (hl0 : l.stackTraces = false) (D : va_G) (ca : Nat → ClassId) (zH : Nat) (xo : Nat) (s0 r0 i0 : Int32) (h1 : p_in s0.toInt64 0 15 = false) : vx_Met l yX0_read (wsH_ yX0_read cX0_read 7 (some .int) [((16 : Nat), (89 : Nat), (92 : Nat), (37 : Nat)), ((16 : Nat), (89 : Nat), (97 : Nat), (39 : Nat))]) ({ frames := 2, cells := 0, slots := 0, locals := 45 }) (va_Pc [.ref xo, .int s0, .int r0, .int i0] (prX NW D ca [] zH (fun _ => True))) (qI D (fun (r : Int32) (u : Unit) => r = -1) (fun u => []) (fun u H => True) (va_A [] zH)) noX 0 0 (va_A [] zH) := by
  have hk := NW_ok
  refine k_ofH (Qc := qI D (fun (r : Int32) (u : Unit) => r = -1) (fun u => []) (fun u H => True)) (by decide) (Nat.le_of_ble_eq_true rfl) ?_
  intro p e s m below meth c ls A H hH hx hb hr hts hown hlocks hnm hml hsz hP hD hK hN hA hAn hS hro hl hX hZ htb
  have hl : lv_has ls 7 [(0, .ref xo), (1, .int s0), (2, .int r0), (3, .int i0)] := hl
  refine lv_iload_n hx hb dX0_read_0 rfl (lv_at hl 1 rfl) ?_
  refine k_calli (wr := []) (va_runS (As := [.int s0]) (rest := []) ⟨hx, hb, hml, hown, hts⟩ (ct_X0_isRegister hk l D ca H.size s0) (va_cwS 1 hts (lw_S q313 q314 q19 q315) rfl rfl rfl (by decide +kernel) ⟨Nat.le_of_ble_eq_true rfl, Nat.le_of_ble_eq_true rfl⟩) (k_pre hk hK hN hP hD [] (by decide) rfl trivial) rfl rfl hl.1 rfl (lv_room (Nat.le_of_ble_eq_true rfl)) dX0_read_1 ⟨Nat.le_of_ble_eq_true rfl, Nat.le_of_ble_eq_true rfl⟩) hP hD hS hA [] [] rfl rfl (by decide) (by decide) (fun r_1 u_2 H locs w_3 hP hD hxw_3 hzw_3 hqw_3 hS => ?_)
  obtain rfl : r_1 = bI (p_in s0.toInt64 0 15) := w_3
  refine lv_if_eq (tgt := 14) hx hb dX0_read_4 (by decide) (fun c_4 => ?_) (fun c_4 => absurd (by rw [h1]; rfl) c_4)
  refine lv_iconst (v := (-1)) hx hb dX0_read_14 (by decide) ?_
  refine vx_ret ?_
  exact k_iret () hx hb hr hlocks (rfl) hP hD trivial hS (Nat.le_of_ble_eq_true rfl) (Nat.le_of_ble_eq_true rfl) dX0_read_15
set_option maxHeartbeats 4000000 in
set_option maxRecDepth 100000 in
theorem ct_X0_read_1 (l : Launch) (hl0 : l.stackTraces = false) (D : va_G) (ca : Nat → ClassId) (zH : Nat) (xo js : Nat) (r0 i0 : Int32) (hjs : js < 16) (h1 : p_in r0.toInt64 0 5 = false) : vx_Met l yX0_read (wsH_ yX0_read cX0_read 7 (some .int) [((16 : Nat), (89 : Nat), (92 : Nat), (37 : Nat)), ((16 : Nat), (89 : Nat), (97 : Nat), (39 : Nat))]) ({ frames := 2, cells := 0, slots := 0, locals := 45 }) (va_Pc [.ref xo, .int (nI js), .int r0, .int i0] (prX NW D ca [] zH (fun _ => True))) (qI D (fun (r : Int32) (u : Unit) => r = -1) (fun u => []) (fun u H => True) (va_A [] zH)) noX 0 0 (va_A [] zH) := by
  have hk := NW_ok
  refine k_ofH (Qc := qI D (fun (r : Int32) (u : Unit) => r = -1) (fun u => []) (fun u H => True)) (by decide) (Nat.le_of_ble_eq_true rfl) ?_
  intro p e s m below meth c ls A H hH hx hb hr hts hown hlocks hnm hml hsz hP hD hK hN hA hAn hS hro hl hX hZ htb
  have hl : lv_has ls 7 [(0, .ref xo), (1, .int (nI js)), (2, .int r0), (3, .int i0)] := hl
  refine lv_iload_n hx hb dX0_read_0 rfl (lv_at hl 1 rfl) ?_
  refine k_calli (wr := []) (va_runS (As := [.int (nI js)]) (rest := []) ⟨hx, hb, hml, hown, hts⟩ (ct_X0_isRegister hk l D ca H.size (nI js)) (va_cwS 1 hts (lw_S q313 q314 q19 q315) rfl rfl rfl (by decide +kernel) ⟨Nat.le_of_ble_eq_true rfl, Nat.le_of_ble_eq_true rfl⟩) (k_pre hk hK hN hP hD [] (by decide) rfl trivial) rfl rfl hl.1 rfl (lv_room (Nat.le_of_ble_eq_true rfl)) dX0_read_1 ⟨Nat.le_of_ble_eq_true rfl, Nat.le_of_ble_eq_true rfl⟩) hP hD hS hA [] [] rfl rfl (by decide) (by decide) (fun r_1 u_2 H locs w_3 hP hD hxw_3 hzw_3 hqw_3 hS => ?_)
  obtain rfl : r_1 = bI (p_in (nI js).toInt64 0 15) := w_3
  refine lv_if_eq (tgt := 14) hx hb dX0_read_4 (by decide) (fun c_4 => absurd c_4 (by rw [in_15 hjs]; decide)) (fun c_4 => ?_)
  refine lv_iload_n hx hb dX0_read_7 rfl (lv_at hl 2 rfl) ?_
  refine k_calli (wr := []) (va_runS (As := [.int r0]) (rest := []) ⟨hx, hb, hml, hown, hts⟩ (ct_X0_isSheet hk l D ca H.size r0) (va_cwS 1 hts (lw_S q127 q128 q19 q129) rfl rfl rfl (by decide +kernel) ⟨Nat.le_of_ble_eq_true rfl, Nat.le_of_ble_eq_true rfl⟩) (k_pre hk hK hN hP hD [] (by decide) rfl trivial) rfl rfl hl.1 rfl (lv_room (Nat.le_of_ble_eq_true rfl)) dX0_read_8 ⟨Nat.le_of_ble_eq_true rfl, Nat.le_of_ble_eq_true rfl⟩) hP hD hS hA [] [] rfl rfl (by decide) (by decide) (fun r_5 u_6 H locs w_7 hP hD hxw_7 hzw_7 hqw_7 hS => ?_)
  obtain rfl : r_5 = bI (p_in r0.toInt64 0 5) := w_7
  refine lv_if_ne (tgt := 16) hx hb dX0_read_11 (by decide) (fun c_8 => absurd (by rw [h1]; decide) c_8) (fun c_8 => ?_)
  refine lv_iconst (v := (-1)) hx hb dX0_read_14 (by decide) ?_
  refine vx_ret ?_
  exact k_iret () hx hb hr hlocks (rfl) hP hD trivial hS (Nat.le_of_ble_eq_true rfl) (Nat.le_of_ble_eq_true rfl) dX0_read_15
set_option maxHeartbeats 4000000 in
set_option maxRecDepth 100000 in
theorem ct_X0_read_N (l : Launch) (hl0 : l.stackTraces = false) (D : va_G) (ca : Nat → ClassId) (zH : Nat) (xo xs xu xd xr xf : Nat) (sa : Nat → Option Nat) (js j : Nat) (i0 : Int32) (hjs : js < 16) (hj : j < 6) (hs : sa j = none) : vx_Met l yX0_read (wsH_ yX0_read cX0_read 7 (some .int) [((16 : Nat), (89 : Nat), (92 : Nat), (37 : Nat)), ((16 : Nat), (89 : Nat), (97 : Nat), (39 : Nat))]) ({ frames := 12, cells := 1, slots := 8, locals := 10400 }) (va_Pc [.ref xo, .int (nI js), .int (nI j), .int i0] (prX NW D ca [(xo, oX xs xu xd xr xf), (xs, rA ca 3 6 sa)] zH (fun _ => True))) (qI D (fun (r : Int32) (u : Unit) => r = -11) (fun u => [(xo, oX xs xu xd xr xf), (xs, rA ca 3 6 sa)]) (fun u H => True) (va_A [(xo, oX xs xu xd xr xf), (xs, rA ca 3 6 sa)] zH)) noX 1 8 (va_A [(xo, oX xs xu xd xr xf), (xs, rA ca 3 6 sa)] zH) := by
  have hk := NW_ok
  refine k_ofH (Qc := qI D (fun (r : Int32) (u : Unit) => r = -11) (fun u => [(xo, oX xs xu xd xr xf), (xs, rA ca 3 6 sa)]) (fun u H => True)) (by decide) (Nat.le_of_ble_eq_true rfl) ?_
  intro p e s m below meth c ls A H hH hx hb hr hts hown hlocks hnm hml hsz hP hD hK hN hA hAn hS hro hl hX hZ htb
  have hl : lv_has ls 7 [(0, .ref xo), (1, .int (nI js)), (2, .int (nI j)), (3, .int i0)] := hl
  refine lv_iload_n hx hb dX0_read_0 rfl (lv_at hl 1 rfl) ?_
  refine k_calli (wr := [(xo, oX xs xu xd xr xf), (xs, rA ca 3 6 sa)]) (va_runS (As := [.int (nI js)]) (rest := []) ⟨hx, hb, hml, hown, hts⟩ (ct_X0_isRegister hk l D ca H.size (nI js)) (va_cwS 1 hts (lw_S q313 q314 q19 q315) rfl rfl rfl (by decide +kernel) ⟨Nat.le_of_ble_eq_true rfl, Nat.le_of_ble_eq_true rfl⟩) (k_pre hk hK hN hP hD [] (by decide) rfl trivial) rfl rfl hl.1 rfl (lv_room (Nat.le_of_ble_eq_true rfl)) dX0_read_1 ⟨Nat.le_of_ble_eq_true rfl, Nat.le_of_ble_eq_true rfl⟩) hP hD hS hA [] [0, 1] rfl rfl (by decide) (by decide) (fun r_1 u_2 H locs w_3 hP hD hxw_3 hzw_3 hqw_3 hS => ?_)
  obtain rfl : r_1 = bI (p_in (nI js).toInt64 0 15) := w_3
  refine lv_if_eq (tgt := 14) hx hb dX0_read_4 (by decide) (fun c_4 => absurd c_4 (by rw [in_15 hjs]; decide)) (fun c_4 => ?_)
  refine lv_iload_n hx hb dX0_read_7 rfl (lv_at hl 2 rfl) ?_
  refine k_calli (wr := [(xo, oX xs xu xd xr xf), (xs, rA ca 3 6 sa)]) (va_runS (As := [.int (nI j)]) (rest := []) ⟨hx, hb, hml, hown, hts⟩ (ct_X0_isSheet hk l D ca H.size (nI j)) (va_cwS 1 hts (lw_S q127 q128 q19 q129) rfl rfl rfl (by decide +kernel) ⟨Nat.le_of_ble_eq_true rfl, Nat.le_of_ble_eq_true rfl⟩) (k_pre hk hK hN hP hD [] (by decide) rfl trivial) rfl rfl hl.1 rfl (lv_room (Nat.le_of_ble_eq_true rfl)) dX0_read_8 ⟨Nat.le_of_ble_eq_true rfl, Nat.le_of_ble_eq_true rfl⟩) hP hD hS hA [] [0, 1] rfl rfl (by decide) (by decide) (fun r_5 u_6 H locs w_7 hP hD hxw_7 hzw_7 hqw_7 hS => ?_)
  obtain rfl : r_5 = bI (p_in (nI j).toInt64 0 5) := w_7
  refine lv_if_ne (tgt := 16) hx hb dX0_read_11 (by decide) (fun c_8 => ?_) (fun c_8 => absurd c_8 (by rw [in_5 hj]; decide))
  refine lv_aload_n hx hb dX0_read_16 rfl (lv_at hl 0 rfl) ?_
  refine va_get (D := D) (ci := 0) (v := .ref xs) (C := RX0) (T := TX0) (N := 5) hx hb hts in_X0 hown hK hP 0 rfl rfl 0 (by decide) (hts _ q293) (fun _ h9 => h9) rfl dX0_read_17 ?_
  refine lv_iload_n hx hb dX0_read_20 rfl (lv_at hl 2 rfl) ?_
  refine va_aldq hx hb hK hP 1 3 rfl rfl (vin_nI (a := j) rfl (by omega) (by decide)) dX0_read_21 ?_
  refine W.eq (g2 := F0 m 22 ls [.null]) (by rw [nI_clamp (show j < 2 ^ 31 by omega), hs]; rfl) ?_
  refine lv_iload_n hx hb dX0_read_22 rfl (lv_at hl 3 rfl) ?_
  refine lv_if_lt (tgt := 32) hx hb dX0_read_23 (by decide) (fun c_9 => ?_) (fun c_9 => ?_)
  · refine lv_iconst (v := (-1)) hx hb dX0_read_32 (by decide) ?_
    refine lv_goto (tgt := 39) hx hb dX0_read_33 (by decide) ?_
    refine nt_getN hx hb (hml.trans hl.1.symm) hown (hts _ q317) (hts _ q319) (hts _ q318) (hts _ q34) (by decide) (Nat.le_of_ble_eq_true rfl) dX0_read_39 (nt_noteN (nb := 8) hx hl0 (nx_of nx_N hts hX) nx_oN hZ.1 hZ.2 hS (by rw [hml]; exact hl.1) (Nat.le_of_ble_eq_true rfl) (Nat.le_of_ble_eq_true rfl) (Nat.le_of_ble_eq_true rfl) (Nat.le_of_ble_eq_true rfl)) (fun H9 q9 ce hz h9 hce hcv hcl => ?_)
    have hS := vs_same hS hz h9
    have hPz := vp_same hP (h9)
    clear hP
    have hP := hPz
    clear hPz
    obtain ⟨H, rfl⟩ : ∃ z, z = H9 := ⟨_, rfl⟩
    have hP : va_P D vwCl [(xo, oX xs xu xd xr xf), (xs, rA ca 3 6 sa)] H := hP
    have hD : va_D A [(xo, oX xs xu xd xr xf), (xs, rA ca 3 6 sa)] := hD
    refine vx_catch (E := "java/lang/NullPointerException") (name := "java/lang/NullPointerException") hown [] (⟨16, 89, 92, 37⟩ : ExceptionTableEntry) [(⟨16, 89, 97, 39⟩ : ExceptionTableEntry)] (by rw [htb]; rfl) (fun z hz => absurd hz List.not_mem_nil) (by decide) (by decide) (hts _ q145) (va_Nw.use rfl (hN.2.2.2.1 _ (List.mem_of_getElem? (i := 6) rfl))) hce hcv hcl ?_
    refine lv_astore (lv' := [(5, .ref q9), (0, .ref xo), (1, .int (nI js)), (2, .int (nI j)), (3, .int i0)]) hx hb dX0_read_92 hl (by decide) rfl (fun ls hl => ?_)
    refine lv_bipush (v := (-11)) hx hb dX0_read_94 (by decide) ?_
    refine vx_ret ?_
    exact k_iret () hx hb hr hlocks (rfl) hP hD trivial hS (Nat.le_of_ble_eq_true rfl) (Nat.le_of_ble_eq_true rfl) dX0_read_96
  · refine lv_iload_n hx hb dX0_read_26 rfl (lv_at hl 3 rfl) ?_
    refine lv_bipush (v := 16) hx hb dX0_read_27 (by decide) ?_
    refine lv_icmp_le (tgt := 36) hx hb dX0_read_29 (by decide) (fun c_10 => ?_) (fun c_10 => ?_)
    · refine lv_iload_n hx hb dX0_read_36 rfl (lv_at hl 3 rfl) ?_
      refine lv_iconst (v := 3) hx hb dX0_read_37 (by decide) ?_
      refine lv_iadd hx hb dX0_read_38 ?_
      refine nt_getN hx hb (hml.trans hl.1.symm) hown (hts _ q317) (hts _ q319) (hts _ q318) (hts _ q34) (by decide) (Nat.le_of_ble_eq_true rfl) dX0_read_39 (nt_noteN (nb := 8) hx hl0 (nx_of nx_N hts hX) nx_oN hZ.1 hZ.2 hS (by rw [hml]; exact hl.1) (Nat.le_of_ble_eq_true rfl) (Nat.le_of_ble_eq_true rfl) (Nat.le_of_ble_eq_true rfl) (Nat.le_of_ble_eq_true rfl)) (fun H9 q9 ce hz h9 hce hcv hcl => ?_)
      have hS := vs_same hS hz h9
      have hPz := vp_same hP (h9)
      clear hP
      have hP := hPz
      clear hPz
      obtain ⟨H, rfl⟩ : ∃ z, z = H9 := ⟨_, rfl⟩
      have hP : va_P D vwCl [(xo, oX xs xu xd xr xf), (xs, rA ca 3 6 sa)] H := hP
      have hD : va_D A [(xo, oX xs xu xd xr xf), (xs, rA ca 3 6 sa)] := hD
      refine vx_catch (E := "java/lang/NullPointerException") (name := "java/lang/NullPointerException") hown [] (⟨16, 89, 92, 37⟩ : ExceptionTableEntry) [(⟨16, 89, 97, 39⟩ : ExceptionTableEntry)] (by rw [htb]; rfl) (fun z hz => absurd hz List.not_mem_nil) (by decide) (by decide) (hts _ q145) (va_Nw.use rfl (hN.2.2.2.1 _ (List.mem_of_getElem? (i := 6) rfl))) hce hcv hcl ?_
      refine lv_astore (lv' := [(5, .ref q9), (0, .ref xo), (1, .int (nI js)), (2, .int (nI j)), (3, .int i0)]) hx hb dX0_read_92 hl (by decide) rfl (fun ls hl => ?_)
      refine lv_bipush (v := (-11)) hx hb dX0_read_94 (by decide) ?_
      refine vx_ret ?_
      exact k_iret () hx hb hr hlocks (rfl) hP hD trivial hS (Nat.le_of_ble_eq_true rfl) (Nat.le_of_ble_eq_true rfl) dX0_read_96
    · refine lv_iconst (v := (-1)) hx hb dX0_read_32 (by decide) ?_
      refine lv_goto (tgt := 39) hx hb dX0_read_33 (by decide) ?_
      refine nt_getN hx hb (hml.trans hl.1.symm) hown (hts _ q317) (hts _ q319) (hts _ q318) (hts _ q34) (by decide) (Nat.le_of_ble_eq_true rfl) dX0_read_39 (nt_noteN (nb := 8) hx hl0 (nx_of nx_N hts hX) nx_oN hZ.1 hZ.2 hS (by rw [hml]; exact hl.1) (Nat.le_of_ble_eq_true rfl) (Nat.le_of_ble_eq_true rfl) (Nat.le_of_ble_eq_true rfl) (Nat.le_of_ble_eq_true rfl)) (fun H9 q9 ce hz h9 hce hcv hcl => ?_)
      have hS := vs_same hS hz h9
      have hPz := vp_same hP (h9)
      clear hP
      have hP := hPz
      clear hPz
      obtain ⟨H, rfl⟩ : ∃ z, z = H9 := ⟨_, rfl⟩
      have hP : va_P D vwCl [(xo, oX xs xu xd xr xf), (xs, rA ca 3 6 sa)] H := hP
      have hD : va_D A [(xo, oX xs xu xd xr xf), (xs, rA ca 3 6 sa)] := hD
      refine vx_catch (E := "java/lang/NullPointerException") (name := "java/lang/NullPointerException") hown [] (⟨16, 89, 92, 37⟩ : ExceptionTableEntry) [(⟨16, 89, 97, 39⟩ : ExceptionTableEntry)] (by rw [htb]; rfl) (fun z hz => absurd hz List.not_mem_nil) (by decide) (by decide) (hts _ q145) (va_Nw.use rfl (hN.2.2.2.1 _ (List.mem_of_getElem? (i := 6) rfl))) hce hcv hcl ?_
      refine lv_astore (lv' := [(5, .ref q9), (0, .ref xo), (1, .int (nI js)), (2, .int (nI j)), (3, .int i0)]) hx hb dX0_read_92 hl (by decide) rfl (fun ls hl => ?_)
      refine lv_bipush (v := (-11)) hx hb dX0_read_94 (by decide) ?_
      refine vx_ret ?_
      exact k_iret () hx hb hr hlocks (rfl) hP hD trivial hS (Nat.le_of_ble_eq_true rfl) (Nat.le_of_ble_eq_true rfl) dX0_read_96
set_option maxHeartbeats 4000000 in
set_option maxRecDepth 100000 in
theorem ct_X0_read_K0 (l : Launch) (hl0 : l.stackTraces = false) (D : va_G) (ca : Nat → ClassId) (zH : Nat) (xo xs xu xd xr xf : Nat) (sa : Nat → Option Nat) (ra : Nat → Nat) (g : AI) (js j rw n : Nat) (f : AL) (i0 : Int32) (hjs : js < 16) (hj : j < 6) (hs : sa j = some rw) (hn : n ≤ 16) (hcut : ∀ i, i < n → ck 0 (f i) = f i) : vx_Met l yX0_read (wsH_ yX0_read cX0_read 7 (some .int) [((16 : Nat), (89 : Nat), (92 : Nat), (37 : Nat)), ((16 : Nat), (89 : Nat), (97 : Nat), (39 : Nat))]) ({ frames := 12, cells := 1, slots := 8, locals := 10400 }) (va_Pc [.ref xo, .int (nI js), .int (nI j), .int i0] (prX NW D ca [(xo, oX xs xu xd xr xf), (xs, rA ca 3 6 sa), (rw, rwE ca 0 n f), (xr, rA ca 4 16 (fun i => some (ra i)))] zH (fun H => Rg D H ra g))) (qI D (fun (r : Int32) (u : (Nat → Nat) × AI) => (r, u.2) = p_read n f g js i0) (fun u => [(xo, oX xs xu xd xr xf), (xs, rA ca 3 6 sa), (rw, rwE ca 0 n f), (xr, rA ca 4 16 (fun i => some (u.1 i)))]) (fun u H => Rg D H u.1 u.2) (va_A [(xo, oX xs xu xd xr xf), (xs, rA ca 3 6 sa), (rw, rwE ca 0 n f), (xr, rA ca 4 16 (fun i => some (ra i)))] zH)) noX 1 8 (va_A [(xo, oX xs xu xd xr xf), (xs, rA ca 3 6 sa), (rw, rwE ca 0 n f), (xr, rA ca 4 16 (fun i => some (ra i)))] zH) := by
  have hk := NW_ok
  refine k_ofH (Qc := qI D (fun (r : Int32) (u : (Nat → Nat) × AI) => (r, u.2) = p_read n f g js i0) (fun u => [(xo, oX xs xu xd xr xf), (xs, rA ca 3 6 sa), (rw, rwE ca 0 n f), (xr, rA ca 4 16 (fun i => some (u.1 i)))]) (fun u H => Rg D H u.1 u.2)) (by decide) (Nat.le_of_ble_eq_true rfl) ?_
  intro p e s m below meth c ls A H hH hx hb hr hts hown hlocks hnm hml hsz hP hD hK hN hA hAn hS hro hl hX hZ htb
  have hl : lv_has ls 7 [(0, .ref xo), (1, .int (nI js)), (2, .int (nI j)), (3, .int i0)] := hl
  have hOF := k_outF hK (hH ▸ hP) (okc (oko 0 (by decide)) (okc (oka 3 (by decide)) (okc okR_row (okc (oka 4 (by decide)) (okn))))) hAn
  have hRg := hro
  refine lv_iload_n hx hb dX0_read_0 rfl (lv_at hl 1 rfl) ?_
  refine k_calli (wr := [(xo, oX xs xu xd xr xf), (xs, rA ca 3 6 sa), (rw, rwE ca 0 n f), (xr, rA ca 4 16 (fun i => some (ra i)))]) (va_runS (As := [.int (nI js)]) (rest := []) ⟨hx, hb, hml, hown, hts⟩ (ct_X0_isRegister hk l D ca H.size (nI js)) (va_cwS 1 hts (lw_S q313 q314 q19 q315) rfl rfl rfl (by decide +kernel) ⟨Nat.le_of_ble_eq_true rfl, Nat.le_of_ble_eq_true rfl⟩) (k_pre hk hK hN hP hD [] (by decide) rfl trivial) rfl rfl hl.1 rfl (lv_room (Nat.le_of_ble_eq_true rfl)) dX0_read_1 ⟨Nat.le_of_ble_eq_true rfl, Nat.le_of_ble_eq_true rfl⟩) hP hD hS hA [] [0, 1, 2, 3] rfl rfl (by decide) (by decide) (fun r_1 u_2 H locs w_3 hP hD hxw_3 hzw_3 hqw_3 hS => ?_)
  obtain rfl : r_1 = bI (p_in (nI js).toInt64 0 15) := w_3
  refine lv_if_eq (tgt := 14) hx hb dX0_read_4 (by decide) (fun c_4 => absurd c_4 (by rw [in_15 hjs]; decide)) (fun c_4 => ?_)
  refine lv_iload_n hx hb dX0_read_7 rfl (lv_at hl 2 rfl) ?_
  refine k_calli (wr := [(xo, oX xs xu xd xr xf), (xs, rA ca 3 6 sa), (rw, rwE ca 0 n f), (xr, rA ca 4 16 (fun i => some (ra i)))]) (va_runS (As := [.int (nI j)]) (rest := []) ⟨hx, hb, hml, hown, hts⟩ (ct_X0_isSheet hk l D ca H.size (nI j)) (va_cwS 1 hts (lw_S q127 q128 q19 q129) rfl rfl rfl (by decide +kernel) ⟨Nat.le_of_ble_eq_true rfl, Nat.le_of_ble_eq_true rfl⟩) (k_pre hk hK hN hP hD [] (by decide) rfl trivial) rfl rfl hl.1 rfl (lv_room (Nat.le_of_ble_eq_true rfl)) dX0_read_8 ⟨Nat.le_of_ble_eq_true rfl, Nat.le_of_ble_eq_true rfl⟩) hP hD hS hA [] [0, 1, 2, 3] rfl rfl (by decide) (by decide) (fun r_5 u_6 H locs w_7 hP hD hxw_7 hzw_7 hqw_7 hS => ?_)
  obtain rfl : r_5 = bI (p_in (nI j).toInt64 0 5) := w_7
  refine lv_if_ne (tgt := 16) hx hb dX0_read_11 (by decide) (fun c_8 => ?_) (fun c_8 => absurd c_8 (by rw [in_5 hj]; decide))
  refine lv_aload_n hx hb dX0_read_16 rfl (lv_at hl 0 rfl) ?_
  refine va_get (D := D) (ci := 0) (v := .ref xs) (C := RX0) (T := TX0) (N := 5) hx hb hts in_X0 hown hK hP 0 rfl rfl 0 (by decide) (hts _ q293) (fun _ h9 => h9) rfl dX0_read_17 ?_
  refine lv_iload_n hx hb dX0_read_20 rfl (lv_at hl 2 rfl) ?_
  refine va_aldq hx hb hK hP 1 3 rfl rfl (vin_nI (a := j) rfl (by omega) (by decide)) dX0_read_21 ?_
  refine W.eq (g2 := F0 m 22 ls [.ref rw]) (by rw [nI_clamp (show j < 2 ^ 31 by omega), hs]; rfl) ?_
  rcases rd_cases i0 n hn with ⟨a9, rfl, ha9⟩ | hneg | ⟨a9, rfl, ha8, ha9⟩ | ⟨a9, rfl, ha8, ha9⟩
  · refine lv_iload_n hx hb dX0_read_22 rfl (lv_at hl 3 rfl) ?_
    refine lv_if_lt (tgt := 32) hx hb dX0_read_23 (by decide) (fun c_9 => absurd c_9 (fun z => absurd (lt_y (a := a9) (b := 0) rfl rfl (by omega) (by decide) z) (Nat.not_lt_zero _))) (fun c_9 => ?_)
    refine lv_iload_n hx hb dX0_read_26 rfl (lv_at hl 3 rfl) ?_
    refine lv_bipush (v := 16) hx hb dX0_read_27 (by decide) ?_
    refine lv_icmp_le (tgt := 36) hx hb dX0_read_29 (by decide) (fun c_10 => ?_) (fun c_10 => absurd ((le_n (a := a9) (b := 16) rfl rfl (by omega) (by decide)).mpr (by omega)) c_10)
    refine lv_iload_n hx hb dX0_read_36 rfl (lv_at hl 3 rfl) ?_
    refine lv_iconst (v := 3) hx hb dX0_read_37 (by decide) ?_
    refine lv_iadd hx hb dX0_read_38 ?_
    refine nt_get (ty := .byte) (w := f (a9 + 3)) (v := .int (f (a9 + 3)).toInt32) hx hb (hml.trans hl.1.symm) hown (hts _ q317) (hts _ q319) (hts _ q318) (hts _ q34) hK hP 2 0 rfl rfl (by rw [show ((nI a9) + 3 : Int32) = nI (a9 + 3) from (eq_add rfl rfl)]; exact fun z => absurd (lt_y (a := a9 + 3) (b := 0) rfl rfl (by omega) (by decide) z) (Nat.not_lt_zero _)) (by rw [show ((nI a9) + 3 : Int32) = nI (a9 + 3) from (eq_add rfl rfl), nI_clamp (by omega)]; omega) rfl rfl (by rw [show ((nI a9) + 3).toNatClampNeg = a9 + 3 from (by rw [show ((nI a9) + 3 : Int32) = nI (a9 + 3) from (eq_add rfl rfl)]; exact nI_clamp (by omega))]; exact arrV_read _ _ (by omega)) (by show some (Value.long (f (a9 + 3)).toInt32.toInt64) = _; rw [ck_64 (k := 0) (by decide) (hcut _ (by omega))]) (by decide) (Nat.le_of_ble_eq_true rfl) dX0_read_39 ?_
    refine lv_lstore (lv' := [(5, .long (f (a9 + 3))), (0, .ref xo), (1, .int (nI js)), (2, .int (nI j)), (3, .int (nI a9))]) hx hb dX0_read_42 hl (by decide) rfl (fun ls hl => ?_)
    refine va_new (ci := 1) (fs := [.long 0, .long 0, .long 0, .long 0]) (C := RX1) (T := TX1) (N := 4) hx hb hts in_X1 tyX1 tyX1_ok hown (hts _ q226) (hts _ q228) (hts _ q20) hK hP hD hS hA rfl (fun j hj => by rcases (show j = 0 ∨ j = 1 ∨ j = 2 ∨ j = 3 by omega) with rfl | rfl | rfl | rfl <;> rfl) (Nat.le_of_ble_eq_true rfl) (Nat.le_of_ble_eq_true rfl) dX0_read_44 (fun q_11 H hP hD hS => ?_)
    have hP : va_P D vwCl [(xo, oX xs xu xd xr xf), (xs, rA ca 3 6 sa), (rw, rwE ca 0 n f), (xr, rA ca 4 16 (fun i => some (ra i))), (q_11, .inr (1, [.long 0, .long 0, .long 0, .long 0]))] H := hP
    have hD : va_D A [(xo, oX xs xu xd xr xf), (xs, rA ca 3 6 sa), (rw, rwE ca 0 n f), (xr, rA ca 4 16 (fun i => some (ra i))), (q_11, .inr (1, [.long 0, .long 0, .long 0, .long 0]))] := hD
    refine lv_dup hx hb dX0_read_47 rfl ?_
    refine lv_aload_n hx hb dX0_read_48 rfl (lv_at hl 1 rfl) ?_
    refine va_get (D := D) (ci := 0) (v := .ref xs) (C := RX0) (T := TX0) (N := 5) hx hb hts in_X0 hown hK hP 0 rfl rfl 0 (by decide) (hts _ q293) (fun _ h9 => h9) rfl dX0_read_49 ?_
    refine lv_iload_n hx hb dX0_read_52 rfl (lv_at hl 3 rfl) ?_
    refine va_aldq hx hb hK hP 1 3 rfl rfl (vin_nI (a := j) rfl (by omega) (by decide)) dX0_read_53 ?_
    refine W.eq (g2 := F0 m 54 ls [.ref rw, .ref q_11, .ref q_11]) (by rw [nI_clamp (show j < 2 ^ 31 by omega), hs]; rfl) ?_
    refine lv_iload_n hx hb dX0_read_54 rfl (lv_at hl 4 rfl) ?_
    refine nt_get (ty := .byte) (w := f (a9)) (v := .int (f (a9)).toInt32) hx hb (hml.trans hl.1.symm) hown (hts _ q317) (hts _ q319) (hts _ q318) (hts _ q34) hK hP 2 0 rfl rfl (by rw [show (nI a9 : Int32) = nI (a9) from rfl]; exact fun z => absurd (lt_y (a := a9) (b := 0) rfl rfl (by omega) (by decide) z) (Nat.not_lt_zero _)) (by rw [show (nI a9 : Int32) = nI (a9) from rfl, nI_clamp (by omega)]; omega) rfl rfl (by rw [show (nI a9).toNatClampNeg = a9 from (by rw [show (nI a9 : Int32) = nI (a9) from rfl]; exact nI_clamp (by omega))]; exact arrV_read _ _ (by omega)) (by show some (Value.long (f (a9)).toInt32.toInt64) = _; rw [ck_64 (k := 0) (by decide) (hcut _ (by omega))]) (by decide) (Nat.le_of_ble_eq_true rfl) dX0_read_55 ?_
    refine lv_aload_n hx hb dX0_read_58 rfl (lv_at hl 1 rfl) ?_
    refine va_get (D := D) (ci := 0) (v := .ref xs) (C := RX0) (T := TX0) (N := 5) hx hb hts in_X0 hown hK hP 0 rfl rfl 0 (by decide) (hts _ q293) (fun _ h9 => h9) rfl dX0_read_59 ?_
    refine lv_iload_n hx hb dX0_read_62 rfl (lv_at hl 3 rfl) ?_
    refine va_aldq hx hb hK hP 1 3 rfl rfl (vin_nI (a := j) rfl (by omega) (by decide)) dX0_read_63 ?_
    refine W.eq (g2 := F0 m 64 ls [.ref rw, .long (f (a9)), .ref q_11, .ref q_11]) (by rw [nI_clamp (show j < 2 ^ 31 by omega), hs]; rfl) ?_
    refine lv_iload_n hx hb dX0_read_64 rfl (lv_at hl 4 rfl) ?_
    refine lv_iconst (v := 1) hx hb dX0_read_65 (by decide) ?_
    refine lv_iadd hx hb dX0_read_66 ?_
    refine nt_get (ty := .byte) (w := f (a9 + 1)) (v := .int (f (a9 + 1)).toInt32) hx hb (hml.trans hl.1.symm) hown (hts _ q317) (hts _ q319) (hts _ q318) (hts _ q34) hK hP 2 0 rfl rfl (by rw [show ((nI a9) + 1 : Int32) = nI (a9 + 1) from (eq_add rfl rfl)]; exact fun z => absurd (lt_y (a := a9 + 1) (b := 0) rfl rfl (by omega) (by decide) z) (Nat.not_lt_zero _)) (by rw [show ((nI a9) + 1 : Int32) = nI (a9 + 1) from (eq_add rfl rfl), nI_clamp (by omega)]; omega) rfl rfl (by rw [show ((nI a9) + 1).toNatClampNeg = a9 + 1 from (by rw [show ((nI a9) + 1 : Int32) = nI (a9 + 1) from (eq_add rfl rfl)]; exact nI_clamp (by omega))]; exact arrV_read _ _ (by omega)) (by show some (Value.long (f (a9 + 1)).toInt32.toInt64) = _; rw [ck_64 (k := 0) (by decide) (hcut _ (by omega))]) (by decide) (Nat.le_of_ble_eq_true rfl) dX0_read_67 ?_
    refine lv_aload_n hx hb dX0_read_70 rfl (lv_at hl 1 rfl) ?_
    refine va_get (D := D) (ci := 0) (v := .ref xs) (C := RX0) (T := TX0) (N := 5) hx hb hts in_X0 hown hK hP 0 rfl rfl 0 (by decide) (hts _ q293) (fun _ h9 => h9) rfl dX0_read_71 ?_
    refine lv_iload_n hx hb dX0_read_74 rfl (lv_at hl 3 rfl) ?_
    refine va_aldq hx hb hK hP 1 3 rfl rfl (vin_nI (a := j) rfl (by omega) (by decide)) dX0_read_75 ?_
    refine W.eq (g2 := F0 m 76 ls [.ref rw, .long (f (a9 + 1)), .long (f (a9)), .ref q_11, .ref q_11]) (by rw [nI_clamp (show j < 2 ^ 31 by omega), hs]; rfl) ?_
    refine lv_iload_n hx hb dX0_read_76 rfl (lv_at hl 4 rfl) ?_
    refine lv_iconst (v := 2) hx hb dX0_read_77 (by decide) ?_
    refine lv_iadd hx hb dX0_read_78 ?_
    refine nt_get (ty := .byte) (w := f (a9 + 2)) (v := .int (f (a9 + 2)).toInt32) hx hb (hml.trans hl.1.symm) hown (hts _ q317) (hts _ q319) (hts _ q318) (hts _ q34) hK hP 2 0 rfl rfl (by rw [show ((nI a9) + 2 : Int32) = nI (a9 + 2) from (eq_add rfl rfl)]; exact fun z => absurd (lt_y (a := a9 + 2) (b := 0) rfl rfl (by omega) (by decide) z) (Nat.not_lt_zero _)) (by rw [show ((nI a9) + 2 : Int32) = nI (a9 + 2) from (eq_add rfl rfl), nI_clamp (by omega)]; omega) rfl rfl (by rw [show ((nI a9) + 2).toNatClampNeg = a9 + 2 from (by rw [show ((nI a9) + 2 : Int32) = nI (a9 + 2) from (eq_add rfl rfl)]; exact nI_clamp (by omega))]; exact arrV_read _ _ (by omega)) (by show some (Value.long (f (a9 + 2)).toInt32.toInt64) = _; rw [ck_64 (k := 0) (by decide) (hcut _ (by omega))]) (by decide) (Nat.le_of_ble_eq_true rfl) dX0_read_79 ?_
    refine lv_lload hx hb dX0_read_82 (lv_at hl 0 rfl) ?_
    refine k_callv (wr := [(xo, oX xs xu xd xr xf), (xs, rA ca 3 6 sa), (rw, rwE ca 0 n f), (xr, rA ca 4 16 (fun i => some (ra i)))]) (va_runI (As := [.long (f (a9)), .long (f (a9 + 1)), .long (f (a9 + 2)), .long (f (a9 + 3))]) (rest := [.ref q_11]) ⟨hx, hb, hml, hown, hts⟩ (ct_X1_init hk l D ca H.size q_11 (f (a9)) (f (a9 + 1)) (f (a9 + 2)) (f (a9 + 3)) (0, 0, 0, 0)) (cwI 4 hts (lw_meth q231) rfl rfl rfl (hts _ q20) (hts _ q229) (hts _ q230) rfl (by decide +kernel) ⟨Nat.le_of_ble_eq_true rfl, Nat.le_of_ble_eq_true rfl⟩) (k_pre hk hK hN hP hD [4] (by decide) rfl trivial) rfl rfl hl.1 rfl (lv_room (Nat.le_of_ble_eq_true rfl)) dX0_read_84 ⟨Nat.le_of_ble_eq_true rfl, Nat.le_of_ble_eq_true rfl⟩) hP hD hS hA [4] [0, 1, 2, 3] rfl rfl (by decide) (by decide) (fun u_13 H locs w_14 hP hD hxw_14 hzw_14 hqw_14 hS => ?_)
    have hP : va_P D vwCl [(xo, oX xs xu xd xr xf), (xs, rA ca 3 6 sa), (rw, rwE ca 0 n f), (xr, rA ca 4 16 (fun i => some (ra i))), (q_11, f4 (f (a9), f (a9 + 1), f (a9 + 2), f (a9 + 3)))] H := hP
    have hD : va_D A [(xo, oX xs xu xd xr xf), (xs, rA ca 3 6 sa), (rw, rwE ca 0 n f), (xr, rA ca 4 16 (fun i => some (ra i))), (q_11, f4 (f (a9), f (a9 + 1), f (a9 + 2), f (a9 + 3)))] := hD
    refine lv_astore (lv' := [(4, .ref q_11), (5, .long (f (a9 + 3))), (0, .ref xo), (1, .int (nI js)), (2, .int (nI j)), (3, .int (nI a9))]) hx hb dX0_read_87 hl (by decide) rfl (fun ls hl => ?_)
    refine lv_goto (tgt := 102) hx hb dX0_read_89 (by decide) ?_
    refine lv_aload hx hb dX0_read_102 (lv_at hl 0 rfl) ?_
    refine k_calli (wr := [(xo, oX xs xu xd xr xf), (xs, rA ca 3 6 sa), (rw, rwE ca 0 n f), (xr, rA ca 4 16 (fun i => some (ra i))), (q_11, f4 (f (a9), f (a9 + 1), f (a9 + 2), f (a9 + 3)))]) (va_runS (As := [.ref q_11]) (rest := []) ⟨hx, hb, hml, hown, hts⟩ (ct_X0_isAlike hk l D ca H.size q_11 (f (a9), f (a9 + 1), f (a9 + 2), f (a9 + 3))) (va_cwS 1 hts (lw_S q266 q267 q19 q268) rfl rfl rfl (by decide +kernel) ⟨Nat.le_of_ble_eq_true rfl, Nat.le_of_ble_eq_true rfl⟩) (k_pre hk hK hN hP hD [] (by decide) rfl (Fo.of hP 4 rfl)) rfl rfl hl.1 rfl (lv_room (Nat.le_of_ble_eq_true rfl)) dX0_read_104 ⟨Nat.le_of_ble_eq_true rfl, Nat.le_of_ble_eq_true rfl⟩) hP hD hS hA [] [0, 1, 2, 3, 4] rfl rfl (by decide) (by decide) (fun r_15 u_16 H locs w_17 hP hD hxw_17 hzw_17 hqw_17 hS => ?_)
    obtain rfl : r_15 = bI (q_al (f (a9), f (a9 + 1), f (a9 + 2), f (a9 + 3))) := w_17
    refine lv_if_ne (tgt := 113) hx hb dX0_read_107 (by decide) (fun c_18 => ?_) (fun c_18 => ?_)
    · have c_18 := bI_z1 c_18
      refine lv_aload_n hx hb dX0_read_113 rfl (lv_at hl 2 rfl) ?_
      refine lv_iload_n hx hb dX0_read_114 rfl (lv_at hl 3 rfl) ?_
      refine lv_aload hx hb dX0_read_115 (lv_at hl 0 rfl) ?_
      refine k_calli (wr := [(xs, rA ca 3 6 sa), (rw, rwE ca 0 n f), (q_11, f4 (f (a9), f (a9 + 1), f (a9 + 2), f (a9 + 3)))]) (va_runV (As := [.int (nI js), .ref q_11]) (rest := []) ⟨hx, hb, hml, hown, hts⟩ (ct_X0_hold l D ca H.size xo xs xu xd xr xf q_11 js ra g (f (a9), f (a9 + 1), f (a9 + 2), f (a9 + 3)) (by omega)) (cwV 2 hts (lw_V q320 q322 qs2 q19 q323) rfl rfl rfl (by decide +kernel) ⟨Nat.le_of_ble_eq_true rfl, Nat.le_of_ble_eq_true rfl⟩) (k_preV hk hK hN hP hD [0, 3] (by decide) rfl ⟨(Fo.of hP 4 rfl), (hRg.keep hS hOF)⟩ hP rfl (q0 := 0) rfl) rfl rfl hl.1 rfl (lv_room (Nat.le_of_ble_eq_true rfl)) dX0_read_117 ⟨Nat.le_of_ble_eq_true rfl, Nat.le_of_ble_eq_true rfl⟩) hP hD hS hA [0, 3] [1, 2, 4] rfl rfl (by decide) (by decide) (fun r_19 u_20 H locs w_21 hP hD hxw_21 hzw_21 hqw_21 hS => ?_)
      have hP : va_P D vwCl [(xs, rA ca 3 6 sa), (rw, rwE ca 0 n f), (q_11, f4 (f (a9), f (a9 + 1), f (a9 + 2), f (a9 + 3))), (xo, oX xs xu xd xr xf), (xr, rA ca 4 16 (fun i => some (u_20 i)))] H := hP
      have hD : va_D A [(xs, rA ca 3 6 sa), (rw, rwE ca 0 n f), (q_11, f4 (f (a9), f (a9 + 1), f (a9 + 2), f (a9 + 3))), (xo, oX xs xu xd xr xf), (xr, rA ca 4 16 (fun i => some (u_20 i)))] := hD
      obtain rfl : r_19 = if q_low (f (a9), f (a9 + 1), f (a9 + 2), f (a9 + 3)) then 0 else -3 := w_21
      refine lv_if_ge (tgt := 128) hx hb dX0_read_120 (by decide) (fun c_22 => ?_) (fun c_22 => ?_)
      · have c_22 := low_ge c_22
        refine lv_iconst (v := 0) hx hb dX0_read_128 (by decide) ?_
        refine vx_ret ?_
        exact k_iret (u_20, h_g g js (f (a9), f (a9 + 1), f (a9 + 2), f (a9 + 3))) hx hb hr hlocks (by have hq : q_one (q4r f a9) = true := (al_one _).symm.trans c_18; have hlo : q_low (q4r f a9) = true := c_22; rw [p_read_y hn ha9, if_pos hq, if_pos hlo]; rfl) (hP.sub [3, 0, 1, 4] rfl) (hD.sub [3, 0, 1, 4] (by decide) rfl) hxw_21 hS (Nat.le_of_ble_eq_true rfl) (Nat.le_of_ble_eq_true rfl) dX0_read_129
      · have c_22 := low_lt c_22
        refine lv_bipush (v := (-16)) hx hb dX0_read_123 (by decide) ?_
        refine lv_goto (tgt := 129) hx hb dX0_read_125 (by decide) ?_
        refine vx_ret ?_
        exact k_iret (u_20, h_g g js (f (a9), f (a9 + 1), f (a9 + 2), f (a9 + 3))) hx hb hr hlocks (by have hq : q_one (q4r f a9) = true := (al_one _).symm.trans c_18; have hlo : q_low (q4r f a9) = false := c_22; rw [p_read_y hn ha9, if_pos hq, hlo]; rfl) (hP.sub [3, 0, 1, 4] rfl) (hD.sub [3, 0, 1, 4] (by decide) rfl) hxw_21 hS (Nat.le_of_ble_eq_true rfl) (Nat.le_of_ble_eq_true rfl) dX0_read_129
    · have c_18 := bI_z0 c_18
      refine lv_bipush (v := (-15)) hx hb dX0_read_110 (by decide) ?_
      refine vx_ret ?_
      exact k_iret (ra, g) hx hb hr hlocks (by have hq : q_one (q4r f a9) = false := (al_one _).symm.trans c_18; rw [p_read_y hn ha9, hq]; rfl) (hP.sub [0, 1, 2, 3] rfl) (hD.sub [0, 1, 2, 3] (by decide) rfl) (hRg.keep hS hOF) hS (Nat.le_of_ble_eq_true rfl) (Nat.le_of_ble_eq_true rfl) dX0_read_112
  · refine lv_iload_n hx hb dX0_read_22 rfl (lv_at hl 3 rfl) ?_
    refine lv_if_lt (tgt := 32) hx hb dX0_read_23 (by decide) (fun c_23 => ?_) (fun c_23 => absurd hneg c_23)
    refine lv_iconst (v := (-1)) hx hb dX0_read_32 (by decide) ?_
    refine lv_goto (tgt := 39) hx hb dX0_read_33 (by decide) ?_
    refine nt_getO (ty := .byte) hx hb (hml.trans hl.1.symm) hown (hts _ q317) (hts _ q319) (hts _ q318) (hts _ q34) hK hP 2 0 rfl rfl (Or.inl (by decide)) rfl (by decide) (Nat.le_of_ble_eq_true rfl) dX0_read_39 (nt_note0 (cls := aioN) (names := aioU) hx hl0 (by decide +kernel) (by decide +kernel) (by decide +kernel) (by decide +kernel) (nx_of nx_0 hts hX) nx_o0 hZ.1 hZ.2 hS (by rw [hml]; exact hl.1) (Nat.le_of_ble_eq_true rfl) (Nat.le_of_ble_eq_true rfl) (by decide) (Nat.le_of_ble_eq_true rfl) (Nat.le_of_ble_eq_true rfl)) (fun H9 q9 ce hz h9 hce hcv hcl => ?_)
    have hS := vs_same hS hz h9
    have hPz := vp_same hP (h9)
    clear hP
    have hP := hPz
    clear hPz
    obtain ⟨H, rfl⟩ : ∃ z, z = H9 := ⟨_, rfl⟩
    have hP : va_P D vwCl [(xo, oX xs xu xd xr xf), (xs, rA ca 3 6 sa), (rw, rwE ca 0 n f), (xr, rA ca 4 16 (fun i => some (ra i)))] H := hP
    have hD : va_D A [(xo, oX xs xu xd xr xf), (xs, rA ca 3 6 sa), (rw, rwE ca 0 n f), (xr, rA ca 4 16 (fun i => some (ra i)))] := hD
    refine vx_catch (E := "java/lang/ArrayIndexOutOfBoundsException") (name := "java/lang/ArrayIndexOutOfBoundsException") hown [(⟨16, 89, 92, 37⟩ : ExceptionTableEntry)] (⟨16, 89, 97, 39⟩ : ExceptionTableEntry) [] (by rw [htb]; rfl) (List.forall_mem_cons.mpr ⟨Or.inr ⟨by decide, "java/lang/NullPointerException", hts _ q145, (hN.2.2.2.2.1 _ (List.mem_of_getElem? (i := 4) rfl))⟩, (fun z hz => absurd hz List.not_mem_nil)⟩) (by decide) (by decide) (hts _ q170) (va_Nw.use rfl (hN.2.2.2.1 _ (List.mem_of_getElem? (i := 7) rfl))) hce hcv hcl ?_
    refine lv_astore (lv' := [(5, .ref q9), (0, .ref xo), (1, .int (nI js)), (2, .int (nI j)), (3, .int i0)]) hx hb dX0_read_97 hl (by decide) rfl (fun ls hl => ?_)
    refine lv_bipush (v := (-12)) hx hb dX0_read_99 (by decide) ?_
    refine vx_ret ?_
    exact k_iret (ra, g) hx hb hr hlocks ((p_read_n (Or.inl hneg)).symm) hP hD (hRg.keep hS hOF) hS (Nat.le_of_ble_eq_true rfl) (Nat.le_of_ble_eq_true rfl) dX0_read_101
  · refine lv_iload_n hx hb dX0_read_22 rfl (lv_at hl 3 rfl) ?_
    refine lv_if_lt (tgt := 32) hx hb dX0_read_23 (by decide) (fun c_24 => absurd c_24 (fun z => absurd (lt_y (a := a9) (b := 0) rfl rfl (by omega) (by decide) z) (Nat.not_lt_zero _))) (fun c_24 => ?_)
    refine lv_iload_n hx hb dX0_read_26 rfl (lv_at hl 3 rfl) ?_
    refine lv_bipush (v := 16) hx hb dX0_read_27 (by decide) ?_
    refine lv_icmp_le (tgt := 36) hx hb dX0_read_29 (by decide) (fun c_25 => absurd c_25 (fun z => absurd (le_y (a := a9) (b := 16) rfl rfl (by omega) (by decide) z) (by omega))) (fun c_25 => ?_)
    refine lv_iconst (v := (-1)) hx hb dX0_read_32 (by decide) ?_
    refine lv_goto (tgt := 39) hx hb dX0_read_33 (by decide) ?_
    refine nt_getO (ty := .byte) hx hb (hml.trans hl.1.symm) hown (hts _ q317) (hts _ q319) (hts _ q318) (hts _ q34) hK hP 2 0 rfl rfl (Or.inl (by decide)) rfl (by decide) (Nat.le_of_ble_eq_true rfl) dX0_read_39 (nt_note0 (cls := aioN) (names := aioU) hx hl0 (by decide +kernel) (by decide +kernel) (by decide +kernel) (by decide +kernel) (nx_of nx_0 hts hX) nx_o0 hZ.1 hZ.2 hS (by rw [hml]; exact hl.1) (Nat.le_of_ble_eq_true rfl) (Nat.le_of_ble_eq_true rfl) (by decide) (Nat.le_of_ble_eq_true rfl) (Nat.le_of_ble_eq_true rfl)) (fun H9 q9 ce hz h9 hce hcv hcl => ?_)
    have hS := vs_same hS hz h9
    have hPz := vp_same hP (h9)
    clear hP
    have hP := hPz
    clear hPz
    obtain ⟨H, rfl⟩ : ∃ z, z = H9 := ⟨_, rfl⟩
    have hP : va_P D vwCl [(xo, oX xs xu xd xr xf), (xs, rA ca 3 6 sa), (rw, rwE ca 0 n f), (xr, rA ca 4 16 (fun i => some (ra i)))] H := hP
    have hD : va_D A [(xo, oX xs xu xd xr xf), (xs, rA ca 3 6 sa), (rw, rwE ca 0 n f), (xr, rA ca 4 16 (fun i => some (ra i)))] := hD
    refine vx_catch (E := "java/lang/ArrayIndexOutOfBoundsException") (name := "java/lang/ArrayIndexOutOfBoundsException") hown [(⟨16, 89, 92, 37⟩ : ExceptionTableEntry)] (⟨16, 89, 97, 39⟩ : ExceptionTableEntry) [] (by rw [htb]; rfl) (List.forall_mem_cons.mpr ⟨Or.inr ⟨by decide, "java/lang/NullPointerException", hts _ q145, (hN.2.2.2.2.1 _ (List.mem_of_getElem? (i := 4) rfl))⟩, (fun z hz => absurd hz List.not_mem_nil)⟩) (by decide) (by decide) (hts _ q170) (va_Nw.use rfl (hN.2.2.2.1 _ (List.mem_of_getElem? (i := 7) rfl))) hce hcv hcl ?_
    refine lv_astore (lv' := [(5, .ref q9), (0, .ref xo), (1, .int (nI js)), (2, .int (nI j)), (3, .int (nI a9))]) hx hb dX0_read_97 hl (by decide) rfl (fun ls hl => ?_)
    refine lv_bipush (v := (-12)) hx hb dX0_read_99 (by decide) ?_
    refine vx_ret ?_
    exact k_iret (ra, g) hx hb hr hlocks ((p_read_n (Or.inr (by rw [nI_clamp (by omega)]; omega))).symm) hP hD (hRg.keep hS hOF) hS (Nat.le_of_ble_eq_true rfl) (Nat.le_of_ble_eq_true rfl) dX0_read_101
  · refine lv_iload_n hx hb dX0_read_22 rfl (lv_at hl 3 rfl) ?_
    refine lv_if_lt (tgt := 32) hx hb dX0_read_23 (by decide) (fun c_26 => absurd c_26 (fun z => absurd (lt_y (a := a9) (b := 0) rfl rfl (by omega) (by decide) z) (Nat.not_lt_zero _))) (fun c_26 => ?_)
    refine lv_iload_n hx hb dX0_read_26 rfl (lv_at hl 3 rfl) ?_
    refine lv_bipush (v := 16) hx hb dX0_read_27 (by decide) ?_
    refine lv_icmp_le (tgt := 36) hx hb dX0_read_29 (by decide) (fun c_27 => ?_) (fun c_27 => absurd ((le_n (a := a9) (b := 16) rfl rfl (by omega) (by decide)).mpr (by omega)) c_27)
    refine lv_iload_n hx hb dX0_read_36 rfl (lv_at hl 3 rfl) ?_
    refine lv_iconst (v := 3) hx hb dX0_read_37 (by decide) ?_
    refine lv_iadd hx hb dX0_read_38 ?_
    refine nt_getO (ty := .byte) hx hb (hml.trans hl.1.symm) hown (hts _ q317) (hts _ q319) (hts _ q318) (hts _ q34) hK hP 2 0 rfl rfl (Or.inr (by rw [show (nI a9 + 3 : Int32) = nI (a9 + 3) from eq_add rfl rfl, nI_clamp (by omega)]; omega)) rfl (by decide) (Nat.le_of_ble_eq_true rfl) dX0_read_39 (nt_note0 (cls := aioN) (names := aioU) hx hl0 (by decide +kernel) (by decide +kernel) (by decide +kernel) (by decide +kernel) (nx_of nx_0 hts hX) nx_o0 hZ.1 hZ.2 hS (by rw [hml]; exact hl.1) (Nat.le_of_ble_eq_true rfl) (Nat.le_of_ble_eq_true rfl) (by decide) (Nat.le_of_ble_eq_true rfl) (Nat.le_of_ble_eq_true rfl)) (fun H9 q9 ce hz h9 hce hcv hcl => ?_)
    have hS := vs_same hS hz h9
    have hPz := vp_same hP (h9)
    clear hP
    have hP := hPz
    clear hPz
    obtain ⟨H, rfl⟩ : ∃ z, z = H9 := ⟨_, rfl⟩
    have hP : va_P D vwCl [(xo, oX xs xu xd xr xf), (xs, rA ca 3 6 sa), (rw, rwE ca 0 n f), (xr, rA ca 4 16 (fun i => some (ra i)))] H := hP
    have hD : va_D A [(xo, oX xs xu xd xr xf), (xs, rA ca 3 6 sa), (rw, rwE ca 0 n f), (xr, rA ca 4 16 (fun i => some (ra i)))] := hD
    refine vx_catch (E := "java/lang/ArrayIndexOutOfBoundsException") (name := "java/lang/ArrayIndexOutOfBoundsException") hown [(⟨16, 89, 92, 37⟩ : ExceptionTableEntry)] (⟨16, 89, 97, 39⟩ : ExceptionTableEntry) [] (by rw [htb]; rfl) (List.forall_mem_cons.mpr ⟨Or.inr ⟨by decide, "java/lang/NullPointerException", hts _ q145, (hN.2.2.2.2.1 _ (List.mem_of_getElem? (i := 4) rfl))⟩, (fun z hz => absurd hz List.not_mem_nil)⟩) (by decide) (by decide) (hts _ q170) (va_Nw.use rfl (hN.2.2.2.1 _ (List.mem_of_getElem? (i := 7) rfl))) hce hcv hcl ?_
    refine lv_astore (lv' := [(5, .ref q9), (0, .ref xo), (1, .int (nI js)), (2, .int (nI j)), (3, .int (nI a9))]) hx hb dX0_read_97 hl (by decide) rfl (fun ls hl => ?_)
    refine lv_bipush (v := (-12)) hx hb dX0_read_99 (by decide) ?_
    refine vx_ret ?_
    exact k_iret (ra, g) hx hb hr hlocks ((p_read_n (Or.inr (by rw [nI_clamp (by omega)]; omega))).symm) hP hD (hRg.keep hS hOF) hS (Nat.le_of_ble_eq_true rfl) (Nat.le_of_ble_eq_true rfl) dX0_read_101
set_option maxHeartbeats 4000000 in
set_option maxRecDepth 100000 in
theorem ct_X0_read_K1 (l : Launch) (hl0 : l.stackTraces = false) (D : va_G) (ca : Nat → ClassId) (zH : Nat) (xo xs xu xd xr xf : Nat) (sa : Nat → Option Nat) (ra : Nat → Nat) (g : AI) (js j rw n : Nat) (f : AL) (i0 : Int32) (hjs : js < 16) (hj : j < 6) (hs : sa j = some rw) (hn : n ≤ 16) (hcut : ∀ i, i < n → ck 1 (f i) = f i) : vx_Met l yX0_read (wsH_ yX0_read cX0_read 7 (some .int) [((16 : Nat), (89 : Nat), (92 : Nat), (37 : Nat)), ((16 : Nat), (89 : Nat), (97 : Nat), (39 : Nat))]) ({ frames := 12, cells := 1, slots := 8, locals := 10400 }) (va_Pc [.ref xo, .int (nI js), .int (nI j), .int i0] (prX NW D ca [(xo, oX xs xu xd xr xf), (xs, rA ca 3 6 sa), (rw, rwE ca 1 n f), (xr, rA ca 4 16 (fun i => some (ra i)))] zH (fun H => Rg D H ra g))) (qI D (fun (r : Int32) (u : (Nat → Nat) × AI) => (r, u.2) = p_read n f g js i0) (fun u => [(xo, oX xs xu xd xr xf), (xs, rA ca 3 6 sa), (rw, rwE ca 1 n f), (xr, rA ca 4 16 (fun i => some (u.1 i)))]) (fun u H => Rg D H u.1 u.2) (va_A [(xo, oX xs xu xd xr xf), (xs, rA ca 3 6 sa), (rw, rwE ca 1 n f), (xr, rA ca 4 16 (fun i => some (ra i)))] zH)) noX 1 8 (va_A [(xo, oX xs xu xd xr xf), (xs, rA ca 3 6 sa), (rw, rwE ca 1 n f), (xr, rA ca 4 16 (fun i => some (ra i)))] zH) := by
  have hk := NW_ok
  refine k_ofH (Qc := qI D (fun (r : Int32) (u : (Nat → Nat) × AI) => (r, u.2) = p_read n f g js i0) (fun u => [(xo, oX xs xu xd xr xf), (xs, rA ca 3 6 sa), (rw, rwE ca 1 n f), (xr, rA ca 4 16 (fun i => some (u.1 i)))]) (fun u H => Rg D H u.1 u.2)) (by decide) (Nat.le_of_ble_eq_true rfl) ?_
  intro p e s m below meth c ls A H hH hx hb hr hts hown hlocks hnm hml hsz hP hD hK hN hA hAn hS hro hl hX hZ htb
  have hl : lv_has ls 7 [(0, .ref xo), (1, .int (nI js)), (2, .int (nI j)), (3, .int i0)] := hl
  have hOF := k_outF hK (hH ▸ hP) (okc (oko 0 (by decide)) (okc (oka 3 (by decide)) (okc okR_row (okc (oka 4 (by decide)) (okn))))) hAn
  have hRg := hro
  refine lv_iload_n hx hb dX0_read_0 rfl (lv_at hl 1 rfl) ?_
  refine k_calli (wr := [(xo, oX xs xu xd xr xf), (xs, rA ca 3 6 sa), (rw, rwE ca 1 n f), (xr, rA ca 4 16 (fun i => some (ra i)))]) (va_runS (As := [.int (nI js)]) (rest := []) ⟨hx, hb, hml, hown, hts⟩ (ct_X0_isRegister hk l D ca H.size (nI js)) (va_cwS 1 hts (lw_S q313 q314 q19 q315) rfl rfl rfl (by decide +kernel) ⟨Nat.le_of_ble_eq_true rfl, Nat.le_of_ble_eq_true rfl⟩) (k_pre hk hK hN hP hD [] (by decide) rfl trivial) rfl rfl hl.1 rfl (lv_room (Nat.le_of_ble_eq_true rfl)) dX0_read_1 ⟨Nat.le_of_ble_eq_true rfl, Nat.le_of_ble_eq_true rfl⟩) hP hD hS hA [] [0, 1, 2, 3] rfl rfl (by decide) (by decide) (fun r_1 u_2 H locs w_3 hP hD hxw_3 hzw_3 hqw_3 hS => ?_)
  obtain rfl : r_1 = bI (p_in (nI js).toInt64 0 15) := w_3
  refine lv_if_eq (tgt := 14) hx hb dX0_read_4 (by decide) (fun c_4 => absurd c_4 (by rw [in_15 hjs]; decide)) (fun c_4 => ?_)
  refine lv_iload_n hx hb dX0_read_7 rfl (lv_at hl 2 rfl) ?_
  refine k_calli (wr := [(xo, oX xs xu xd xr xf), (xs, rA ca 3 6 sa), (rw, rwE ca 1 n f), (xr, rA ca 4 16 (fun i => some (ra i)))]) (va_runS (As := [.int (nI j)]) (rest := []) ⟨hx, hb, hml, hown, hts⟩ (ct_X0_isSheet hk l D ca H.size (nI j)) (va_cwS 1 hts (lw_S q127 q128 q19 q129) rfl rfl rfl (by decide +kernel) ⟨Nat.le_of_ble_eq_true rfl, Nat.le_of_ble_eq_true rfl⟩) (k_pre hk hK hN hP hD [] (by decide) rfl trivial) rfl rfl hl.1 rfl (lv_room (Nat.le_of_ble_eq_true rfl)) dX0_read_8 ⟨Nat.le_of_ble_eq_true rfl, Nat.le_of_ble_eq_true rfl⟩) hP hD hS hA [] [0, 1, 2, 3] rfl rfl (by decide) (by decide) (fun r_5 u_6 H locs w_7 hP hD hxw_7 hzw_7 hqw_7 hS => ?_)
  obtain rfl : r_5 = bI (p_in (nI j).toInt64 0 5) := w_7
  refine lv_if_ne (tgt := 16) hx hb dX0_read_11 (by decide) (fun c_8 => ?_) (fun c_8 => absurd c_8 (by rw [in_5 hj]; decide))
  refine lv_aload_n hx hb dX0_read_16 rfl (lv_at hl 0 rfl) ?_
  refine va_get (D := D) (ci := 0) (v := .ref xs) (C := RX0) (T := TX0) (N := 5) hx hb hts in_X0 hown hK hP 0 rfl rfl 0 (by decide) (hts _ q293) (fun _ h9 => h9) rfl dX0_read_17 ?_
  refine lv_iload_n hx hb dX0_read_20 rfl (lv_at hl 2 rfl) ?_
  refine va_aldq hx hb hK hP 1 3 rfl rfl (vin_nI (a := j) rfl (by omega) (by decide)) dX0_read_21 ?_
  refine W.eq (g2 := F0 m 22 ls [.ref rw]) (by rw [nI_clamp (show j < 2 ^ 31 by omega), hs]; rfl) ?_
  rcases rd_cases i0 n hn with ⟨a9, rfl, ha9⟩ | hneg | ⟨a9, rfl, ha8, ha9⟩ | ⟨a9, rfl, ha8, ha9⟩
  · refine lv_iload_n hx hb dX0_read_22 rfl (lv_at hl 3 rfl) ?_
    refine lv_if_lt (tgt := 32) hx hb dX0_read_23 (by decide) (fun c_9 => absurd c_9 (fun z => absurd (lt_y (a := a9) (b := 0) rfl rfl (by omega) (by decide) z) (Nat.not_lt_zero _))) (fun c_9 => ?_)
    refine lv_iload_n hx hb dX0_read_26 rfl (lv_at hl 3 rfl) ?_
    refine lv_bipush (v := 16) hx hb dX0_read_27 (by decide) ?_
    refine lv_icmp_le (tgt := 36) hx hb dX0_read_29 (by decide) (fun c_10 => ?_) (fun c_10 => absurd ((le_n (a := a9) (b := 16) rfl rfl (by omega) (by decide)).mpr (by omega)) c_10)
    refine lv_iload_n hx hb dX0_read_36 rfl (lv_at hl 3 rfl) ?_
    refine lv_iconst (v := 3) hx hb dX0_read_37 (by decide) ?_
    refine lv_iadd hx hb dX0_read_38 ?_
    refine nt_get (ty := .int) (w := f (a9 + 3)) (v := .int (f (a9 + 3)).toInt32) hx hb (hml.trans hl.1.symm) hown (hts _ q317) (hts _ q319) (hts _ q318) (hts _ q34) hK hP 2 1 rfl rfl (by rw [show ((nI a9) + 3 : Int32) = nI (a9 + 3) from (eq_add rfl rfl)]; exact fun z => absurd (lt_y (a := a9 + 3) (b := 0) rfl rfl (by omega) (by decide) z) (Nat.not_lt_zero _)) (by rw [show ((nI a9) + 3 : Int32) = nI (a9 + 3) from (eq_add rfl rfl), nI_clamp (by omega)]; omega) rfl rfl (by rw [show ((nI a9) + 3).toNatClampNeg = a9 + 3 from (by rw [show ((nI a9) + 3 : Int32) = nI (a9 + 3) from (eq_add rfl rfl)]; exact nI_clamp (by omega))]; exact arrV_read _ _ (by omega)) (by show some (Value.long (f (a9 + 3)).toInt32.toInt64) = _; rw [ck_64 (k := 1) (by decide) (hcut _ (by omega))]) (by decide) (Nat.le_of_ble_eq_true rfl) dX0_read_39 ?_
    refine lv_lstore (lv' := [(5, .long (f (a9 + 3))), (0, .ref xo), (1, .int (nI js)), (2, .int (nI j)), (3, .int (nI a9))]) hx hb dX0_read_42 hl (by decide) rfl (fun ls hl => ?_)
    refine va_new (ci := 1) (fs := [.long 0, .long 0, .long 0, .long 0]) (C := RX1) (T := TX1) (N := 4) hx hb hts in_X1 tyX1 tyX1_ok hown (hts _ q226) (hts _ q228) (hts _ q20) hK hP hD hS hA rfl (fun j hj => by rcases (show j = 0 ∨ j = 1 ∨ j = 2 ∨ j = 3 by omega) with rfl | rfl | rfl | rfl <;> rfl) (Nat.le_of_ble_eq_true rfl) (Nat.le_of_ble_eq_true rfl) dX0_read_44 (fun q_11 H hP hD hS => ?_)
    have hP : va_P D vwCl [(xo, oX xs xu xd xr xf), (xs, rA ca 3 6 sa), (rw, rwE ca 1 n f), (xr, rA ca 4 16 (fun i => some (ra i))), (q_11, .inr (1, [.long 0, .long 0, .long 0, .long 0]))] H := hP
    have hD : va_D A [(xo, oX xs xu xd xr xf), (xs, rA ca 3 6 sa), (rw, rwE ca 1 n f), (xr, rA ca 4 16 (fun i => some (ra i))), (q_11, .inr (1, [.long 0, .long 0, .long 0, .long 0]))] := hD
    refine lv_dup hx hb dX0_read_47 rfl ?_
    refine lv_aload_n hx hb dX0_read_48 rfl (lv_at hl 1 rfl) ?_
    refine va_get (D := D) (ci := 0) (v := .ref xs) (C := RX0) (T := TX0) (N := 5) hx hb hts in_X0 hown hK hP 0 rfl rfl 0 (by decide) (hts _ q293) (fun _ h9 => h9) rfl dX0_read_49 ?_
    refine lv_iload_n hx hb dX0_read_52 rfl (lv_at hl 3 rfl) ?_
    refine va_aldq hx hb hK hP 1 3 rfl rfl (vin_nI (a := j) rfl (by omega) (by decide)) dX0_read_53 ?_
    refine W.eq (g2 := F0 m 54 ls [.ref rw, .ref q_11, .ref q_11]) (by rw [nI_clamp (show j < 2 ^ 31 by omega), hs]; rfl) ?_
    refine lv_iload_n hx hb dX0_read_54 rfl (lv_at hl 4 rfl) ?_
    refine nt_get (ty := .int) (w := f (a9)) (v := .int (f (a9)).toInt32) hx hb (hml.trans hl.1.symm) hown (hts _ q317) (hts _ q319) (hts _ q318) (hts _ q34) hK hP 2 1 rfl rfl (by rw [show (nI a9 : Int32) = nI (a9) from rfl]; exact fun z => absurd (lt_y (a := a9) (b := 0) rfl rfl (by omega) (by decide) z) (Nat.not_lt_zero _)) (by rw [show (nI a9 : Int32) = nI (a9) from rfl, nI_clamp (by omega)]; omega) rfl rfl (by rw [show (nI a9).toNatClampNeg = a9 from (by rw [show (nI a9 : Int32) = nI (a9) from rfl]; exact nI_clamp (by omega))]; exact arrV_read _ _ (by omega)) (by show some (Value.long (f (a9)).toInt32.toInt64) = _; rw [ck_64 (k := 1) (by decide) (hcut _ (by omega))]) (by decide) (Nat.le_of_ble_eq_true rfl) dX0_read_55 ?_
    refine lv_aload_n hx hb dX0_read_58 rfl (lv_at hl 1 rfl) ?_
    refine va_get (D := D) (ci := 0) (v := .ref xs) (C := RX0) (T := TX0) (N := 5) hx hb hts in_X0 hown hK hP 0 rfl rfl 0 (by decide) (hts _ q293) (fun _ h9 => h9) rfl dX0_read_59 ?_
    refine lv_iload_n hx hb dX0_read_62 rfl (lv_at hl 3 rfl) ?_
    refine va_aldq hx hb hK hP 1 3 rfl rfl (vin_nI (a := j) rfl (by omega) (by decide)) dX0_read_63 ?_
    refine W.eq (g2 := F0 m 64 ls [.ref rw, .long (f (a9)), .ref q_11, .ref q_11]) (by rw [nI_clamp (show j < 2 ^ 31 by omega), hs]; rfl) ?_
    refine lv_iload_n hx hb dX0_read_64 rfl (lv_at hl 4 rfl) ?_
    refine lv_iconst (v := 1) hx hb dX0_read_65 (by decide) ?_
    refine lv_iadd hx hb dX0_read_66 ?_
    refine nt_get (ty := .int) (w := f (a9 + 1)) (v := .int (f (a9 + 1)).toInt32) hx hb (hml.trans hl.1.symm) hown (hts _ q317) (hts _ q319) (hts _ q318) (hts _ q34) hK hP 2 1 rfl rfl (by rw [show ((nI a9) + 1 : Int32) = nI (a9 + 1) from (eq_add rfl rfl)]; exact fun z => absurd (lt_y (a := a9 + 1) (b := 0) rfl rfl (by omega) (by decide) z) (Nat.not_lt_zero _)) (by rw [show ((nI a9) + 1 : Int32) = nI (a9 + 1) from (eq_add rfl rfl), nI_clamp (by omega)]; omega) rfl rfl (by rw [show ((nI a9) + 1).toNatClampNeg = a9 + 1 from (by rw [show ((nI a9) + 1 : Int32) = nI (a9 + 1) from (eq_add rfl rfl)]; exact nI_clamp (by omega))]; exact arrV_read _ _ (by omega)) (by show some (Value.long (f (a9 + 1)).toInt32.toInt64) = _; rw [ck_64 (k := 1) (by decide) (hcut _ (by omega))]) (by decide) (Nat.le_of_ble_eq_true rfl) dX0_read_67 ?_
    refine lv_aload_n hx hb dX0_read_70 rfl (lv_at hl 1 rfl) ?_
    refine va_get (D := D) (ci := 0) (v := .ref xs) (C := RX0) (T := TX0) (N := 5) hx hb hts in_X0 hown hK hP 0 rfl rfl 0 (by decide) (hts _ q293) (fun _ h9 => h9) rfl dX0_read_71 ?_
    refine lv_iload_n hx hb dX0_read_74 rfl (lv_at hl 3 rfl) ?_
    refine va_aldq hx hb hK hP 1 3 rfl rfl (vin_nI (a := j) rfl (by omega) (by decide)) dX0_read_75 ?_
    refine W.eq (g2 := F0 m 76 ls [.ref rw, .long (f (a9 + 1)), .long (f (a9)), .ref q_11, .ref q_11]) (by rw [nI_clamp (show j < 2 ^ 31 by omega), hs]; rfl) ?_
    refine lv_iload_n hx hb dX0_read_76 rfl (lv_at hl 4 rfl) ?_
    refine lv_iconst (v := 2) hx hb dX0_read_77 (by decide) ?_
    refine lv_iadd hx hb dX0_read_78 ?_
    refine nt_get (ty := .int) (w := f (a9 + 2)) (v := .int (f (a9 + 2)).toInt32) hx hb (hml.trans hl.1.symm) hown (hts _ q317) (hts _ q319) (hts _ q318) (hts _ q34) hK hP 2 1 rfl rfl (by rw [show ((nI a9) + 2 : Int32) = nI (a9 + 2) from (eq_add rfl rfl)]; exact fun z => absurd (lt_y (a := a9 + 2) (b := 0) rfl rfl (by omega) (by decide) z) (Nat.not_lt_zero _)) (by rw [show ((nI a9) + 2 : Int32) = nI (a9 + 2) from (eq_add rfl rfl), nI_clamp (by omega)]; omega) rfl rfl (by rw [show ((nI a9) + 2).toNatClampNeg = a9 + 2 from (by rw [show ((nI a9) + 2 : Int32) = nI (a9 + 2) from (eq_add rfl rfl)]; exact nI_clamp (by omega))]; exact arrV_read _ _ (by omega)) (by show some (Value.long (f (a9 + 2)).toInt32.toInt64) = _; rw [ck_64 (k := 1) (by decide) (hcut _ (by omega))]) (by decide) (Nat.le_of_ble_eq_true rfl) dX0_read_79 ?_
    refine lv_lload hx hb dX0_read_82 (lv_at hl 0 rfl) ?_
    refine k_callv (wr := [(xo, oX xs xu xd xr xf), (xs, rA ca 3 6 sa), (rw, rwE ca 1 n f), (xr, rA ca 4 16 (fun i => some (ra i)))]) (va_runI (As := [.long (f (a9)), .long (f (a9 + 1)), .long (f (a9 + 2)), .long (f (a9 + 3))]) (rest := [.ref q_11]) ⟨hx, hb, hml, hown, hts⟩ (ct_X1_init hk l D ca H.size q_11 (f (a9)) (f (a9 + 1)) (f (a9 + 2)) (f (a9 + 3)) (0, 0, 0, 0)) (cwI 4 hts (lw_meth q231) rfl rfl rfl (hts _ q20) (hts _ q229) (hts _ q230) rfl (by decide +kernel) ⟨Nat.le_of_ble_eq_true rfl, Nat.le_of_ble_eq_true rfl⟩) (k_pre hk hK hN hP hD [4] (by decide) rfl trivial) rfl rfl hl.1 rfl (lv_room (Nat.le_of_ble_eq_true rfl)) dX0_read_84 ⟨Nat.le_of_ble_eq_true rfl, Nat.le_of_ble_eq_true rfl⟩) hP hD hS hA [4] [0, 1, 2, 3] rfl rfl (by decide) (by decide) (fun u_13 H locs w_14 hP hD hxw_14 hzw_14 hqw_14 hS => ?_)
    have hP : va_P D vwCl [(xo, oX xs xu xd xr xf), (xs, rA ca 3 6 sa), (rw, rwE ca 1 n f), (xr, rA ca 4 16 (fun i => some (ra i))), (q_11, f4 (f (a9), f (a9 + 1), f (a9 + 2), f (a9 + 3)))] H := hP
    have hD : va_D A [(xo, oX xs xu xd xr xf), (xs, rA ca 3 6 sa), (rw, rwE ca 1 n f), (xr, rA ca 4 16 (fun i => some (ra i))), (q_11, f4 (f (a9), f (a9 + 1), f (a9 + 2), f (a9 + 3)))] := hD
    refine lv_astore (lv' := [(4, .ref q_11), (5, .long (f (a9 + 3))), (0, .ref xo), (1, .int (nI js)), (2, .int (nI j)), (3, .int (nI a9))]) hx hb dX0_read_87 hl (by decide) rfl (fun ls hl => ?_)
    refine lv_goto (tgt := 102) hx hb dX0_read_89 (by decide) ?_
    refine lv_aload hx hb dX0_read_102 (lv_at hl 0 rfl) ?_
    refine k_calli (wr := [(xo, oX xs xu xd xr xf), (xs, rA ca 3 6 sa), (rw, rwE ca 1 n f), (xr, rA ca 4 16 (fun i => some (ra i))), (q_11, f4 (f (a9), f (a9 + 1), f (a9 + 2), f (a9 + 3)))]) (va_runS (As := [.ref q_11]) (rest := []) ⟨hx, hb, hml, hown, hts⟩ (ct_X0_isAlike hk l D ca H.size q_11 (f (a9), f (a9 + 1), f (a9 + 2), f (a9 + 3))) (va_cwS 1 hts (lw_S q266 q267 q19 q268) rfl rfl rfl (by decide +kernel) ⟨Nat.le_of_ble_eq_true rfl, Nat.le_of_ble_eq_true rfl⟩) (k_pre hk hK hN hP hD [] (by decide) rfl (Fo.of hP 4 rfl)) rfl rfl hl.1 rfl (lv_room (Nat.le_of_ble_eq_true rfl)) dX0_read_104 ⟨Nat.le_of_ble_eq_true rfl, Nat.le_of_ble_eq_true rfl⟩) hP hD hS hA [] [0, 1, 2, 3, 4] rfl rfl (by decide) (by decide) (fun r_15 u_16 H locs w_17 hP hD hxw_17 hzw_17 hqw_17 hS => ?_)
    obtain rfl : r_15 = bI (q_al (f (a9), f (a9 + 1), f (a9 + 2), f (a9 + 3))) := w_17
    refine lv_if_ne (tgt := 113) hx hb dX0_read_107 (by decide) (fun c_18 => ?_) (fun c_18 => ?_)
    · have c_18 := bI_z1 c_18
      refine lv_aload_n hx hb dX0_read_113 rfl (lv_at hl 2 rfl) ?_
      refine lv_iload_n hx hb dX0_read_114 rfl (lv_at hl 3 rfl) ?_
      refine lv_aload hx hb dX0_read_115 (lv_at hl 0 rfl) ?_
      refine k_calli (wr := [(xs, rA ca 3 6 sa), (rw, rwE ca 1 n f), (q_11, f4 (f (a9), f (a9 + 1), f (a9 + 2), f (a9 + 3)))]) (va_runV (As := [.int (nI js), .ref q_11]) (rest := []) ⟨hx, hb, hml, hown, hts⟩ (ct_X0_hold l D ca H.size xo xs xu xd xr xf q_11 js ra g (f (a9), f (a9 + 1), f (a9 + 2), f (a9 + 3)) (by omega)) (cwV 2 hts (lw_V q320 q322 qs2 q19 q323) rfl rfl rfl (by decide +kernel) ⟨Nat.le_of_ble_eq_true rfl, Nat.le_of_ble_eq_true rfl⟩) (k_preV hk hK hN hP hD [0, 3] (by decide) rfl ⟨(Fo.of hP 4 rfl), (hRg.keep hS hOF)⟩ hP rfl (q0 := 0) rfl) rfl rfl hl.1 rfl (lv_room (Nat.le_of_ble_eq_true rfl)) dX0_read_117 ⟨Nat.le_of_ble_eq_true rfl, Nat.le_of_ble_eq_true rfl⟩) hP hD hS hA [0, 3] [1, 2, 4] rfl rfl (by decide) (by decide) (fun r_19 u_20 H locs w_21 hP hD hxw_21 hzw_21 hqw_21 hS => ?_)
      have hP : va_P D vwCl [(xs, rA ca 3 6 sa), (rw, rwE ca 1 n f), (q_11, f4 (f (a9), f (a9 + 1), f (a9 + 2), f (a9 + 3))), (xo, oX xs xu xd xr xf), (xr, rA ca 4 16 (fun i => some (u_20 i)))] H := hP
      have hD : va_D A [(xs, rA ca 3 6 sa), (rw, rwE ca 1 n f), (q_11, f4 (f (a9), f (a9 + 1), f (a9 + 2), f (a9 + 3))), (xo, oX xs xu xd xr xf), (xr, rA ca 4 16 (fun i => some (u_20 i)))] := hD
      obtain rfl : r_19 = if q_low (f (a9), f (a9 + 1), f (a9 + 2), f (a9 + 3)) then 0 else -3 := w_21
      refine lv_if_ge (tgt := 128) hx hb dX0_read_120 (by decide) (fun c_22 => ?_) (fun c_22 => ?_)
      · have c_22 := low_ge c_22
        refine lv_iconst (v := 0) hx hb dX0_read_128 (by decide) ?_
        refine vx_ret ?_
        exact k_iret (u_20, h_g g js (f (a9), f (a9 + 1), f (a9 + 2), f (a9 + 3))) hx hb hr hlocks (by have hq : q_one (q4r f a9) = true := (al_one _).symm.trans c_18; have hlo : q_low (q4r f a9) = true := c_22; rw [p_read_y hn ha9, if_pos hq, if_pos hlo]; rfl) (hP.sub [3, 0, 1, 4] rfl) (hD.sub [3, 0, 1, 4] (by decide) rfl) hxw_21 hS (Nat.le_of_ble_eq_true rfl) (Nat.le_of_ble_eq_true rfl) dX0_read_129
      · have c_22 := low_lt c_22
        refine lv_bipush (v := (-16)) hx hb dX0_read_123 (by decide) ?_
        refine lv_goto (tgt := 129) hx hb dX0_read_125 (by decide) ?_
        refine vx_ret ?_
        exact k_iret (u_20, h_g g js (f (a9), f (a9 + 1), f (a9 + 2), f (a9 + 3))) hx hb hr hlocks (by have hq : q_one (q4r f a9) = true := (al_one _).symm.trans c_18; have hlo : q_low (q4r f a9) = false := c_22; rw [p_read_y hn ha9, if_pos hq, hlo]; rfl) (hP.sub [3, 0, 1, 4] rfl) (hD.sub [3, 0, 1, 4] (by decide) rfl) hxw_21 hS (Nat.le_of_ble_eq_true rfl) (Nat.le_of_ble_eq_true rfl) dX0_read_129
    · have c_18 := bI_z0 c_18
      refine lv_bipush (v := (-15)) hx hb dX0_read_110 (by decide) ?_
      refine vx_ret ?_
      exact k_iret (ra, g) hx hb hr hlocks (by have hq : q_one (q4r f a9) = false := (al_one _).symm.trans c_18; rw [p_read_y hn ha9, hq]; rfl) (hP.sub [0, 1, 2, 3] rfl) (hD.sub [0, 1, 2, 3] (by decide) rfl) (hRg.keep hS hOF) hS (Nat.le_of_ble_eq_true rfl) (Nat.le_of_ble_eq_true rfl) dX0_read_112
  · refine lv_iload_n hx hb dX0_read_22 rfl (lv_at hl 3 rfl) ?_
    refine lv_if_lt (tgt := 32) hx hb dX0_read_23 (by decide) (fun c_23 => ?_) (fun c_23 => absurd hneg c_23)
    refine lv_iconst (v := (-1)) hx hb dX0_read_32 (by decide) ?_
    refine lv_goto (tgt := 39) hx hb dX0_read_33 (by decide) ?_
    refine nt_getO (ty := .int) hx hb (hml.trans hl.1.symm) hown (hts _ q317) (hts _ q319) (hts _ q318) (hts _ q34) hK hP 2 1 rfl rfl (Or.inl (by decide)) rfl (by decide) (Nat.le_of_ble_eq_true rfl) dX0_read_39 (nt_note0 (cls := aioN) (names := aioU) hx hl0 (by decide +kernel) (by decide +kernel) (by decide +kernel) (by decide +kernel) (nx_of nx_0 hts hX) nx_o0 hZ.1 hZ.2 hS (by rw [hml]; exact hl.1) (Nat.le_of_ble_eq_true rfl) (Nat.le_of_ble_eq_true rfl) (by decide) (Nat.le_of_ble_eq_true rfl) (Nat.le_of_ble_eq_true rfl)) (fun H9 q9 ce hz h9 hce hcv hcl => ?_)
    have hS := vs_same hS hz h9
    have hPz := vp_same hP (h9)
    clear hP
    have hP := hPz
    clear hPz
    obtain ⟨H, rfl⟩ : ∃ z, z = H9 := ⟨_, rfl⟩
    have hP : va_P D vwCl [(xo, oX xs xu xd xr xf), (xs, rA ca 3 6 sa), (rw, rwE ca 1 n f), (xr, rA ca 4 16 (fun i => some (ra i)))] H := hP
    have hD : va_D A [(xo, oX xs xu xd xr xf), (xs, rA ca 3 6 sa), (rw, rwE ca 1 n f), (xr, rA ca 4 16 (fun i => some (ra i)))] := hD
    refine vx_catch (E := "java/lang/ArrayIndexOutOfBoundsException") (name := "java/lang/ArrayIndexOutOfBoundsException") hown [(⟨16, 89, 92, 37⟩ : ExceptionTableEntry)] (⟨16, 89, 97, 39⟩ : ExceptionTableEntry) [] (by rw [htb]; rfl) (List.forall_mem_cons.mpr ⟨Or.inr ⟨by decide, "java/lang/NullPointerException", hts _ q145, (hN.2.2.2.2.1 _ (List.mem_of_getElem? (i := 4) rfl))⟩, (fun z hz => absurd hz List.not_mem_nil)⟩) (by decide) (by decide) (hts _ q170) (va_Nw.use rfl (hN.2.2.2.1 _ (List.mem_of_getElem? (i := 7) rfl))) hce hcv hcl ?_
    refine lv_astore (lv' := [(5, .ref q9), (0, .ref xo), (1, .int (nI js)), (2, .int (nI j)), (3, .int i0)]) hx hb dX0_read_97 hl (by decide) rfl (fun ls hl => ?_)
    refine lv_bipush (v := (-12)) hx hb dX0_read_99 (by decide) ?_
    refine vx_ret ?_
    exact k_iret (ra, g) hx hb hr hlocks ((p_read_n (Or.inl hneg)).symm) hP hD (hRg.keep hS hOF) hS (Nat.le_of_ble_eq_true rfl) (Nat.le_of_ble_eq_true rfl) dX0_read_101
  · refine lv_iload_n hx hb dX0_read_22 rfl (lv_at hl 3 rfl) ?_
    refine lv_if_lt (tgt := 32) hx hb dX0_read_23 (by decide) (fun c_24 => absurd c_24 (fun z => absurd (lt_y (a := a9) (b := 0) rfl rfl (by omega) (by decide) z) (Nat.not_lt_zero _))) (fun c_24 => ?_)
    refine lv_iload_n hx hb dX0_read_26 rfl (lv_at hl 3 rfl) ?_
    refine lv_bipush (v := 16) hx hb dX0_read_27 (by decide) ?_
    refine lv_icmp_le (tgt := 36) hx hb dX0_read_29 (by decide) (fun c_25 => absurd c_25 (fun z => absurd (le_y (a := a9) (b := 16) rfl rfl (by omega) (by decide) z) (by omega))) (fun c_25 => ?_)
    refine lv_iconst (v := (-1)) hx hb dX0_read_32 (by decide) ?_
    refine lv_goto (tgt := 39) hx hb dX0_read_33 (by decide) ?_
    refine nt_getO (ty := .int) hx hb (hml.trans hl.1.symm) hown (hts _ q317) (hts _ q319) (hts _ q318) (hts _ q34) hK hP 2 1 rfl rfl (Or.inl (by decide)) rfl (by decide) (Nat.le_of_ble_eq_true rfl) dX0_read_39 (nt_note0 (cls := aioN) (names := aioU) hx hl0 (by decide +kernel) (by decide +kernel) (by decide +kernel) (by decide +kernel) (nx_of nx_0 hts hX) nx_o0 hZ.1 hZ.2 hS (by rw [hml]; exact hl.1) (Nat.le_of_ble_eq_true rfl) (Nat.le_of_ble_eq_true rfl) (by decide) (Nat.le_of_ble_eq_true rfl) (Nat.le_of_ble_eq_true rfl)) (fun H9 q9 ce hz h9 hce hcv hcl => ?_)
    have hS := vs_same hS hz h9
    have hPz := vp_same hP (h9)
    clear hP
    have hP := hPz
    clear hPz
    obtain ⟨H, rfl⟩ : ∃ z, z = H9 := ⟨_, rfl⟩
    have hP : va_P D vwCl [(xo, oX xs xu xd xr xf), (xs, rA ca 3 6 sa), (rw, rwE ca 1 n f), (xr, rA ca 4 16 (fun i => some (ra i)))] H := hP
    have hD : va_D A [(xo, oX xs xu xd xr xf), (xs, rA ca 3 6 sa), (rw, rwE ca 1 n f), (xr, rA ca 4 16 (fun i => some (ra i)))] := hD
    refine vx_catch (E := "java/lang/ArrayIndexOutOfBoundsException") (name := "java/lang/ArrayIndexOutOfBoundsException") hown [(⟨16, 89, 92, 37⟩ : ExceptionTableEntry)] (⟨16, 89, 97, 39⟩ : ExceptionTableEntry) [] (by rw [htb]; rfl) (List.forall_mem_cons.mpr ⟨Or.inr ⟨by decide, "java/lang/NullPointerException", hts _ q145, (hN.2.2.2.2.1 _ (List.mem_of_getElem? (i := 4) rfl))⟩, (fun z hz => absurd hz List.not_mem_nil)⟩) (by decide) (by decide) (hts _ q170) (va_Nw.use rfl (hN.2.2.2.1 _ (List.mem_of_getElem? (i := 7) rfl))) hce hcv hcl ?_
    refine lv_astore (lv' := [(5, .ref q9), (0, .ref xo), (1, .int (nI js)), (2, .int (nI j)), (3, .int (nI a9))]) hx hb dX0_read_97 hl (by decide) rfl (fun ls hl => ?_)
    refine lv_bipush (v := (-12)) hx hb dX0_read_99 (by decide) ?_
    refine vx_ret ?_
    exact k_iret (ra, g) hx hb hr hlocks ((p_read_n (Or.inr (by rw [nI_clamp (by omega)]; omega))).symm) hP hD (hRg.keep hS hOF) hS (Nat.le_of_ble_eq_true rfl) (Nat.le_of_ble_eq_true rfl) dX0_read_101
  · refine lv_iload_n hx hb dX0_read_22 rfl (lv_at hl 3 rfl) ?_
    refine lv_if_lt (tgt := 32) hx hb dX0_read_23 (by decide) (fun c_26 => absurd c_26 (fun z => absurd (lt_y (a := a9) (b := 0) rfl rfl (by omega) (by decide) z) (Nat.not_lt_zero _))) (fun c_26 => ?_)
    refine lv_iload_n hx hb dX0_read_26 rfl (lv_at hl 3 rfl) ?_
    refine lv_bipush (v := 16) hx hb dX0_read_27 (by decide) ?_
    refine lv_icmp_le (tgt := 36) hx hb dX0_read_29 (by decide) (fun c_27 => ?_) (fun c_27 => absurd ((le_n (a := a9) (b := 16) rfl rfl (by omega) (by decide)).mpr (by omega)) c_27)
    refine lv_iload_n hx hb dX0_read_36 rfl (lv_at hl 3 rfl) ?_
    refine lv_iconst (v := 3) hx hb dX0_read_37 (by decide) ?_
    refine lv_iadd hx hb dX0_read_38 ?_
    refine nt_getO (ty := .int) hx hb (hml.trans hl.1.symm) hown (hts _ q317) (hts _ q319) (hts _ q318) (hts _ q34) hK hP 2 1 rfl rfl (Or.inr (by rw [show (nI a9 + 3 : Int32) = nI (a9 + 3) from eq_add rfl rfl, nI_clamp (by omega)]; omega)) rfl (by decide) (Nat.le_of_ble_eq_true rfl) dX0_read_39 (nt_note0 (cls := aioN) (names := aioU) hx hl0 (by decide +kernel) (by decide +kernel) (by decide +kernel) (by decide +kernel) (nx_of nx_0 hts hX) nx_o0 hZ.1 hZ.2 hS (by rw [hml]; exact hl.1) (Nat.le_of_ble_eq_true rfl) (Nat.le_of_ble_eq_true rfl) (by decide) (Nat.le_of_ble_eq_true rfl) (Nat.le_of_ble_eq_true rfl)) (fun H9 q9 ce hz h9 hce hcv hcl => ?_)
    have hS := vs_same hS hz h9
    have hPz := vp_same hP (h9)
    clear hP
    have hP := hPz
    clear hPz
    obtain ⟨H, rfl⟩ : ∃ z, z = H9 := ⟨_, rfl⟩
    have hP : va_P D vwCl [(xo, oX xs xu xd xr xf), (xs, rA ca 3 6 sa), (rw, rwE ca 1 n f), (xr, rA ca 4 16 (fun i => some (ra i)))] H := hP
    have hD : va_D A [(xo, oX xs xu xd xr xf), (xs, rA ca 3 6 sa), (rw, rwE ca 1 n f), (xr, rA ca 4 16 (fun i => some (ra i)))] := hD
    refine vx_catch (E := "java/lang/ArrayIndexOutOfBoundsException") (name := "java/lang/ArrayIndexOutOfBoundsException") hown [(⟨16, 89, 92, 37⟩ : ExceptionTableEntry)] (⟨16, 89, 97, 39⟩ : ExceptionTableEntry) [] (by rw [htb]; rfl) (List.forall_mem_cons.mpr ⟨Or.inr ⟨by decide, "java/lang/NullPointerException", hts _ q145, (hN.2.2.2.2.1 _ (List.mem_of_getElem? (i := 4) rfl))⟩, (fun z hz => absurd hz List.not_mem_nil)⟩) (by decide) (by decide) (hts _ q170) (va_Nw.use rfl (hN.2.2.2.1 _ (List.mem_of_getElem? (i := 7) rfl))) hce hcv hcl ?_
    refine lv_astore (lv' := [(5, .ref q9), (0, .ref xo), (1, .int (nI js)), (2, .int (nI j)), (3, .int (nI a9))]) hx hb dX0_read_97 hl (by decide) rfl (fun ls hl => ?_)
    refine lv_bipush (v := (-12)) hx hb dX0_read_99 (by decide) ?_
    refine vx_ret ?_
    exact k_iret (ra, g) hx hb hr hlocks ((p_read_n (Or.inr (by rw [nI_clamp (by omega)]; omega))).symm) hP hD (hRg.keep hS hOF) hS (Nat.le_of_ble_eq_true rfl) (Nat.le_of_ble_eq_true rfl) dX0_read_101
set_option maxHeartbeats 4000000 in
set_option maxRecDepth 100000 in
theorem ct_X0_read_K2 (l : Launch) (hl0 : l.stackTraces = false) (D : va_G) (ca : Nat → ClassId) (zH : Nat) (xo xs xu xd xr xf : Nat) (sa : Nat → Option Nat) (ra : Nat → Nat) (g : AI) (js j rw n : Nat) (f : AL) (i0 : Int32) (hjs : js < 16) (hj : j < 6) (hs : sa j = some rw) (hn : n ≤ 16) (hcut : ∀ i, i < n → ck 2 (f i) = f i) : vx_Met l yX0_read (wsH_ yX0_read cX0_read 7 (some .int) [((16 : Nat), (89 : Nat), (92 : Nat), (37 : Nat)), ((16 : Nat), (89 : Nat), (97 : Nat), (39 : Nat))]) ({ frames := 12, cells := 1, slots := 8, locals := 10400 }) (va_Pc [.ref xo, .int (nI js), .int (nI j), .int i0] (prX NW D ca [(xo, oX xs xu xd xr xf), (xs, rA ca 3 6 sa), (rw, rwE ca 2 n f), (xr, rA ca 4 16 (fun i => some (ra i)))] zH (fun H => Rg D H ra g))) (qI D (fun (r : Int32) (u : (Nat → Nat) × AI) => (r, u.2) = p_read n f g js i0) (fun u => [(xo, oX xs xu xd xr xf), (xs, rA ca 3 6 sa), (rw, rwE ca 2 n f), (xr, rA ca 4 16 (fun i => some (u.1 i)))]) (fun u H => Rg D H u.1 u.2) (va_A [(xo, oX xs xu xd xr xf), (xs, rA ca 3 6 sa), (rw, rwE ca 2 n f), (xr, rA ca 4 16 (fun i => some (ra i)))] zH)) noX 1 8 (va_A [(xo, oX xs xu xd xr xf), (xs, rA ca 3 6 sa), (rw, rwE ca 2 n f), (xr, rA ca 4 16 (fun i => some (ra i)))] zH) := by
  have hk := NW_ok
  refine k_ofH (Qc := qI D (fun (r : Int32) (u : (Nat → Nat) × AI) => (r, u.2) = p_read n f g js i0) (fun u => [(xo, oX xs xu xd xr xf), (xs, rA ca 3 6 sa), (rw, rwE ca 2 n f), (xr, rA ca 4 16 (fun i => some (u.1 i)))]) (fun u H => Rg D H u.1 u.2)) (by decide) (Nat.le_of_ble_eq_true rfl) ?_
  intro p e s m below meth c ls A H hH hx hb hr hts hown hlocks hnm hml hsz hP hD hK hN hA hAn hS hro hl hX hZ htb
  have hl : lv_has ls 7 [(0, .ref xo), (1, .int (nI js)), (2, .int (nI j)), (3, .int i0)] := hl
  have hOF := k_outF hK (hH ▸ hP) (okc (oko 0 (by decide)) (okc (oka 3 (by decide)) (okc okR_row (okc (oka 4 (by decide)) (okn))))) hAn
  have hRg := hro
  refine lv_iload_n hx hb dX0_read_0 rfl (lv_at hl 1 rfl) ?_
  refine k_calli (wr := [(xo, oX xs xu xd xr xf), (xs, rA ca 3 6 sa), (rw, rwE ca 2 n f), (xr, rA ca 4 16 (fun i => some (ra i)))]) (va_runS (As := [.int (nI js)]) (rest := []) ⟨hx, hb, hml, hown, hts⟩ (ct_X0_isRegister hk l D ca H.size (nI js)) (va_cwS 1 hts (lw_S q313 q314 q19 q315) rfl rfl rfl (by decide +kernel) ⟨Nat.le_of_ble_eq_true rfl, Nat.le_of_ble_eq_true rfl⟩) (k_pre hk hK hN hP hD [] (by decide) rfl trivial) rfl rfl hl.1 rfl (lv_room (Nat.le_of_ble_eq_true rfl)) dX0_read_1 ⟨Nat.le_of_ble_eq_true rfl, Nat.le_of_ble_eq_true rfl⟩) hP hD hS hA [] [0, 1, 2, 3] rfl rfl (by decide) (by decide) (fun r_1 u_2 H locs w_3 hP hD hxw_3 hzw_3 hqw_3 hS => ?_)
  obtain rfl : r_1 = bI (p_in (nI js).toInt64 0 15) := w_3
  refine lv_if_eq (tgt := 14) hx hb dX0_read_4 (by decide) (fun c_4 => absurd c_4 (by rw [in_15 hjs]; decide)) (fun c_4 => ?_)
  refine lv_iload_n hx hb dX0_read_7 rfl (lv_at hl 2 rfl) ?_
  refine k_calli (wr := [(xo, oX xs xu xd xr xf), (xs, rA ca 3 6 sa), (rw, rwE ca 2 n f), (xr, rA ca 4 16 (fun i => some (ra i)))]) (va_runS (As := [.int (nI j)]) (rest := []) ⟨hx, hb, hml, hown, hts⟩ (ct_X0_isSheet hk l D ca H.size (nI j)) (va_cwS 1 hts (lw_S q127 q128 q19 q129) rfl rfl rfl (by decide +kernel) ⟨Nat.le_of_ble_eq_true rfl, Nat.le_of_ble_eq_true rfl⟩) (k_pre hk hK hN hP hD [] (by decide) rfl trivial) rfl rfl hl.1 rfl (lv_room (Nat.le_of_ble_eq_true rfl)) dX0_read_8 ⟨Nat.le_of_ble_eq_true rfl, Nat.le_of_ble_eq_true rfl⟩) hP hD hS hA [] [0, 1, 2, 3] rfl rfl (by decide) (by decide) (fun r_5 u_6 H locs w_7 hP hD hxw_7 hzw_7 hqw_7 hS => ?_)
  obtain rfl : r_5 = bI (p_in (nI j).toInt64 0 5) := w_7
  refine lv_if_ne (tgt := 16) hx hb dX0_read_11 (by decide) (fun c_8 => ?_) (fun c_8 => absurd c_8 (by rw [in_5 hj]; decide))
  refine lv_aload_n hx hb dX0_read_16 rfl (lv_at hl 0 rfl) ?_
  refine va_get (D := D) (ci := 0) (v := .ref xs) (C := RX0) (T := TX0) (N := 5) hx hb hts in_X0 hown hK hP 0 rfl rfl 0 (by decide) (hts _ q293) (fun _ h9 => h9) rfl dX0_read_17 ?_
  refine lv_iload_n hx hb dX0_read_20 rfl (lv_at hl 2 rfl) ?_
  refine va_aldq hx hb hK hP 1 3 rfl rfl (vin_nI (a := j) rfl (by omega) (by decide)) dX0_read_21 ?_
  refine W.eq (g2 := F0 m 22 ls [.ref rw]) (by rw [nI_clamp (show j < 2 ^ 31 by omega), hs]; rfl) ?_
  rcases rd_cases i0 n hn with ⟨a9, rfl, ha9⟩ | hneg | ⟨a9, rfl, ha8, ha9⟩ | ⟨a9, rfl, ha8, ha9⟩
  · refine lv_iload_n hx hb dX0_read_22 rfl (lv_at hl 3 rfl) ?_
    refine lv_if_lt (tgt := 32) hx hb dX0_read_23 (by decide) (fun c_9 => absurd c_9 (fun z => absurd (lt_y (a := a9) (b := 0) rfl rfl (by omega) (by decide) z) (Nat.not_lt_zero _))) (fun c_9 => ?_)
    refine lv_iload_n hx hb dX0_read_26 rfl (lv_at hl 3 rfl) ?_
    refine lv_bipush (v := 16) hx hb dX0_read_27 (by decide) ?_
    refine lv_icmp_le (tgt := 36) hx hb dX0_read_29 (by decide) (fun c_10 => ?_) (fun c_10 => absurd ((le_n (a := a9) (b := 16) rfl rfl (by omega) (by decide)).mpr (by omega)) c_10)
    refine lv_iload_n hx hb dX0_read_36 rfl (lv_at hl 3 rfl) ?_
    refine lv_iconst (v := 3) hx hb dX0_read_37 (by decide) ?_
    refine lv_iadd hx hb dX0_read_38 ?_
    refine nt_get (ty := .long) (w := f (a9 + 3)) (v := .long (f (a9 + 3))) hx hb (hml.trans hl.1.symm) hown (hts _ q317) (hts _ q319) (hts _ q318) (hts _ q34) hK hP 2 2 rfl rfl (by rw [show ((nI a9) + 3 : Int32) = nI (a9 + 3) from (eq_add rfl rfl)]; exact fun z => absurd (lt_y (a := a9 + 3) (b := 0) rfl rfl (by omega) (by decide) z) (Nat.not_lt_zero _)) (by rw [show ((nI a9) + 3 : Int32) = nI (a9 + 3) from (eq_add rfl rfl), nI_clamp (by omega)]; omega) rfl rfl (by rw [show ((nI a9) + 3).toNatClampNeg = a9 + 3 from (by rw [show ((nI a9) + 3 : Int32) = nI (a9 + 3) from (eq_add rfl rfl)]; exact nI_clamp (by omega))]; exact arrV_read _ _ (by omega)) rfl (by decide) (Nat.le_of_ble_eq_true rfl) dX0_read_39 ?_
    refine lv_lstore (lv' := [(5, .long (f (a9 + 3))), (0, .ref xo), (1, .int (nI js)), (2, .int (nI j)), (3, .int (nI a9))]) hx hb dX0_read_42 hl (by decide) rfl (fun ls hl => ?_)
    refine va_new (ci := 1) (fs := [.long 0, .long 0, .long 0, .long 0]) (C := RX1) (T := TX1) (N := 4) hx hb hts in_X1 tyX1 tyX1_ok hown (hts _ q226) (hts _ q228) (hts _ q20) hK hP hD hS hA rfl (fun j hj => by rcases (show j = 0 ∨ j = 1 ∨ j = 2 ∨ j = 3 by omega) with rfl | rfl | rfl | rfl <;> rfl) (Nat.le_of_ble_eq_true rfl) (Nat.le_of_ble_eq_true rfl) dX0_read_44 (fun q_11 H hP hD hS => ?_)
    have hP : va_P D vwCl [(xo, oX xs xu xd xr xf), (xs, rA ca 3 6 sa), (rw, rwE ca 2 n f), (xr, rA ca 4 16 (fun i => some (ra i))), (q_11, .inr (1, [.long 0, .long 0, .long 0, .long 0]))] H := hP
    have hD : va_D A [(xo, oX xs xu xd xr xf), (xs, rA ca 3 6 sa), (rw, rwE ca 2 n f), (xr, rA ca 4 16 (fun i => some (ra i))), (q_11, .inr (1, [.long 0, .long 0, .long 0, .long 0]))] := hD
    refine lv_dup hx hb dX0_read_47 rfl ?_
    refine lv_aload_n hx hb dX0_read_48 rfl (lv_at hl 1 rfl) ?_
    refine va_get (D := D) (ci := 0) (v := .ref xs) (C := RX0) (T := TX0) (N := 5) hx hb hts in_X0 hown hK hP 0 rfl rfl 0 (by decide) (hts _ q293) (fun _ h9 => h9) rfl dX0_read_49 ?_
    refine lv_iload_n hx hb dX0_read_52 rfl (lv_at hl 3 rfl) ?_
    refine va_aldq hx hb hK hP 1 3 rfl rfl (vin_nI (a := j) rfl (by omega) (by decide)) dX0_read_53 ?_
    refine W.eq (g2 := F0 m 54 ls [.ref rw, .ref q_11, .ref q_11]) (by rw [nI_clamp (show j < 2 ^ 31 by omega), hs]; rfl) ?_
    refine lv_iload_n hx hb dX0_read_54 rfl (lv_at hl 4 rfl) ?_
    refine nt_get (ty := .long) (w := f (a9)) (v := .long (f (a9))) hx hb (hml.trans hl.1.symm) hown (hts _ q317) (hts _ q319) (hts _ q318) (hts _ q34) hK hP 2 2 rfl rfl (by rw [show (nI a9 : Int32) = nI (a9) from rfl]; exact fun z => absurd (lt_y (a := a9) (b := 0) rfl rfl (by omega) (by decide) z) (Nat.not_lt_zero _)) (by rw [show (nI a9 : Int32) = nI (a9) from rfl, nI_clamp (by omega)]; omega) rfl rfl (by rw [show (nI a9).toNatClampNeg = a9 from (by rw [show (nI a9 : Int32) = nI (a9) from rfl]; exact nI_clamp (by omega))]; exact arrV_read _ _ (by omega)) rfl (by decide) (Nat.le_of_ble_eq_true rfl) dX0_read_55 ?_
    refine lv_aload_n hx hb dX0_read_58 rfl (lv_at hl 1 rfl) ?_
    refine va_get (D := D) (ci := 0) (v := .ref xs) (C := RX0) (T := TX0) (N := 5) hx hb hts in_X0 hown hK hP 0 rfl rfl 0 (by decide) (hts _ q293) (fun _ h9 => h9) rfl dX0_read_59 ?_
    refine lv_iload_n hx hb dX0_read_62 rfl (lv_at hl 3 rfl) ?_
    refine va_aldq hx hb hK hP 1 3 rfl rfl (vin_nI (a := j) rfl (by omega) (by decide)) dX0_read_63 ?_
    refine W.eq (g2 := F0 m 64 ls [.ref rw, .long (f (a9)), .ref q_11, .ref q_11]) (by rw [nI_clamp (show j < 2 ^ 31 by omega), hs]; rfl) ?_
    refine lv_iload_n hx hb dX0_read_64 rfl (lv_at hl 4 rfl) ?_
    refine lv_iconst (v := 1) hx hb dX0_read_65 (by decide) ?_
    refine lv_iadd hx hb dX0_read_66 ?_
    refine nt_get (ty := .long) (w := f (a9 + 1)) (v := .long (f (a9 + 1))) hx hb (hml.trans hl.1.symm) hown (hts _ q317) (hts _ q319) (hts _ q318) (hts _ q34) hK hP 2 2 rfl rfl (by rw [show ((nI a9) + 1 : Int32) = nI (a9 + 1) from (eq_add rfl rfl)]; exact fun z => absurd (lt_y (a := a9 + 1) (b := 0) rfl rfl (by omega) (by decide) z) (Nat.not_lt_zero _)) (by rw [show ((nI a9) + 1 : Int32) = nI (a9 + 1) from (eq_add rfl rfl), nI_clamp (by omega)]; omega) rfl rfl (by rw [show ((nI a9) + 1).toNatClampNeg = a9 + 1 from (by rw [show ((nI a9) + 1 : Int32) = nI (a9 + 1) from (eq_add rfl rfl)]; exact nI_clamp (by omega))]; exact arrV_read _ _ (by omega)) rfl (by decide) (Nat.le_of_ble_eq_true rfl) dX0_read_67 ?_
    refine lv_aload_n hx hb dX0_read_70 rfl (lv_at hl 1 rfl) ?_
    refine va_get (D := D) (ci := 0) (v := .ref xs) (C := RX0) (T := TX0) (N := 5) hx hb hts in_X0 hown hK hP 0 rfl rfl 0 (by decide) (hts _ q293) (fun _ h9 => h9) rfl dX0_read_71 ?_
    refine lv_iload_n hx hb dX0_read_74 rfl (lv_at hl 3 rfl) ?_
    refine va_aldq hx hb hK hP 1 3 rfl rfl (vin_nI (a := j) rfl (by omega) (by decide)) dX0_read_75 ?_
    refine W.eq (g2 := F0 m 76 ls [.ref rw, .long (f (a9 + 1)), .long (f (a9)), .ref q_11, .ref q_11]) (by rw [nI_clamp (show j < 2 ^ 31 by omega), hs]; rfl) ?_
    refine lv_iload_n hx hb dX0_read_76 rfl (lv_at hl 4 rfl) ?_
    refine lv_iconst (v := 2) hx hb dX0_read_77 (by decide) ?_
    refine lv_iadd hx hb dX0_read_78 ?_
    refine nt_get (ty := .long) (w := f (a9 + 2)) (v := .long (f (a9 + 2))) hx hb (hml.trans hl.1.symm) hown (hts _ q317) (hts _ q319) (hts _ q318) (hts _ q34) hK hP 2 2 rfl rfl (by rw [show ((nI a9) + 2 : Int32) = nI (a9 + 2) from (eq_add rfl rfl)]; exact fun z => absurd (lt_y (a := a9 + 2) (b := 0) rfl rfl (by omega) (by decide) z) (Nat.not_lt_zero _)) (by rw [show ((nI a9) + 2 : Int32) = nI (a9 + 2) from (eq_add rfl rfl), nI_clamp (by omega)]; omega) rfl rfl (by rw [show ((nI a9) + 2).toNatClampNeg = a9 + 2 from (by rw [show ((nI a9) + 2 : Int32) = nI (a9 + 2) from (eq_add rfl rfl)]; exact nI_clamp (by omega))]; exact arrV_read _ _ (by omega)) rfl (by decide) (Nat.le_of_ble_eq_true rfl) dX0_read_79 ?_
    refine lv_lload hx hb dX0_read_82 (lv_at hl 0 rfl) ?_
    refine k_callv (wr := [(xo, oX xs xu xd xr xf), (xs, rA ca 3 6 sa), (rw, rwE ca 2 n f), (xr, rA ca 4 16 (fun i => some (ra i)))]) (va_runI (As := [.long (f (a9)), .long (f (a9 + 1)), .long (f (a9 + 2)), .long (f (a9 + 3))]) (rest := [.ref q_11]) ⟨hx, hb, hml, hown, hts⟩ (ct_X1_init hk l D ca H.size q_11 (f (a9)) (f (a9 + 1)) (f (a9 + 2)) (f (a9 + 3)) (0, 0, 0, 0)) (cwI 4 hts (lw_meth q231) rfl rfl rfl (hts _ q20) (hts _ q229) (hts _ q230) rfl (by decide +kernel) ⟨Nat.le_of_ble_eq_true rfl, Nat.le_of_ble_eq_true rfl⟩) (k_pre hk hK hN hP hD [4] (by decide) rfl trivial) rfl rfl hl.1 rfl (lv_room (Nat.le_of_ble_eq_true rfl)) dX0_read_84 ⟨Nat.le_of_ble_eq_true rfl, Nat.le_of_ble_eq_true rfl⟩) hP hD hS hA [4] [0, 1, 2, 3] rfl rfl (by decide) (by decide) (fun u_13 H locs w_14 hP hD hxw_14 hzw_14 hqw_14 hS => ?_)
    have hP : va_P D vwCl [(xo, oX xs xu xd xr xf), (xs, rA ca 3 6 sa), (rw, rwE ca 2 n f), (xr, rA ca 4 16 (fun i => some (ra i))), (q_11, f4 (f (a9), f (a9 + 1), f (a9 + 2), f (a9 + 3)))] H := hP
    have hD : va_D A [(xo, oX xs xu xd xr xf), (xs, rA ca 3 6 sa), (rw, rwE ca 2 n f), (xr, rA ca 4 16 (fun i => some (ra i))), (q_11, f4 (f (a9), f (a9 + 1), f (a9 + 2), f (a9 + 3)))] := hD
    refine lv_astore (lv' := [(4, .ref q_11), (5, .long (f (a9 + 3))), (0, .ref xo), (1, .int (nI js)), (2, .int (nI j)), (3, .int (nI a9))]) hx hb dX0_read_87 hl (by decide) rfl (fun ls hl => ?_)
    refine lv_goto (tgt := 102) hx hb dX0_read_89 (by decide) ?_
    refine lv_aload hx hb dX0_read_102 (lv_at hl 0 rfl) ?_
    refine k_calli (wr := [(xo, oX xs xu xd xr xf), (xs, rA ca 3 6 sa), (rw, rwE ca 2 n f), (xr, rA ca 4 16 (fun i => some (ra i))), (q_11, f4 (f (a9), f (a9 + 1), f (a9 + 2), f (a9 + 3)))]) (va_runS (As := [.ref q_11]) (rest := []) ⟨hx, hb, hml, hown, hts⟩ (ct_X0_isAlike hk l D ca H.size q_11 (f (a9), f (a9 + 1), f (a9 + 2), f (a9 + 3))) (va_cwS 1 hts (lw_S q266 q267 q19 q268) rfl rfl rfl (by decide +kernel) ⟨Nat.le_of_ble_eq_true rfl, Nat.le_of_ble_eq_true rfl⟩) (k_pre hk hK hN hP hD [] (by decide) rfl (Fo.of hP 4 rfl)) rfl rfl hl.1 rfl (lv_room (Nat.le_of_ble_eq_true rfl)) dX0_read_104 ⟨Nat.le_of_ble_eq_true rfl, Nat.le_of_ble_eq_true rfl⟩) hP hD hS hA [] [0, 1, 2, 3, 4] rfl rfl (by decide) (by decide) (fun r_15 u_16 H locs w_17 hP hD hxw_17 hzw_17 hqw_17 hS => ?_)
    obtain rfl : r_15 = bI (q_al (f (a9), f (a9 + 1), f (a9 + 2), f (a9 + 3))) := w_17
    refine lv_if_ne (tgt := 113) hx hb dX0_read_107 (by decide) (fun c_18 => ?_) (fun c_18 => ?_)
    · have c_18 := bI_z1 c_18
      refine lv_aload_n hx hb dX0_read_113 rfl (lv_at hl 2 rfl) ?_
      refine lv_iload_n hx hb dX0_read_114 rfl (lv_at hl 3 rfl) ?_
      refine lv_aload hx hb dX0_read_115 (lv_at hl 0 rfl) ?_
      refine k_calli (wr := [(xs, rA ca 3 6 sa), (rw, rwE ca 2 n f), (q_11, f4 (f (a9), f (a9 + 1), f (a9 + 2), f (a9 + 3)))]) (va_runV (As := [.int (nI js), .ref q_11]) (rest := []) ⟨hx, hb, hml, hown, hts⟩ (ct_X0_hold l D ca H.size xo xs xu xd xr xf q_11 js ra g (f (a9), f (a9 + 1), f (a9 + 2), f (a9 + 3)) (by omega)) (cwV 2 hts (lw_V q320 q322 qs2 q19 q323) rfl rfl rfl (by decide +kernel) ⟨Nat.le_of_ble_eq_true rfl, Nat.le_of_ble_eq_true rfl⟩) (k_preV hk hK hN hP hD [0, 3] (by decide) rfl ⟨(Fo.of hP 4 rfl), (hRg.keep hS hOF)⟩ hP rfl (q0 := 0) rfl) rfl rfl hl.1 rfl (lv_room (Nat.le_of_ble_eq_true rfl)) dX0_read_117 ⟨Nat.le_of_ble_eq_true rfl, Nat.le_of_ble_eq_true rfl⟩) hP hD hS hA [0, 3] [1, 2, 4] rfl rfl (by decide) (by decide) (fun r_19 u_20 H locs w_21 hP hD hxw_21 hzw_21 hqw_21 hS => ?_)
      have hP : va_P D vwCl [(xs, rA ca 3 6 sa), (rw, rwE ca 2 n f), (q_11, f4 (f (a9), f (a9 + 1), f (a9 + 2), f (a9 + 3))), (xo, oX xs xu xd xr xf), (xr, rA ca 4 16 (fun i => some (u_20 i)))] H := hP
      have hD : va_D A [(xs, rA ca 3 6 sa), (rw, rwE ca 2 n f), (q_11, f4 (f (a9), f (a9 + 1), f (a9 + 2), f (a9 + 3))), (xo, oX xs xu xd xr xf), (xr, rA ca 4 16 (fun i => some (u_20 i)))] := hD
      obtain rfl : r_19 = if q_low (f (a9), f (a9 + 1), f (a9 + 2), f (a9 + 3)) then 0 else -3 := w_21
      refine lv_if_ge (tgt := 128) hx hb dX0_read_120 (by decide) (fun c_22 => ?_) (fun c_22 => ?_)
      · have c_22 := low_ge c_22
        refine lv_iconst (v := 0) hx hb dX0_read_128 (by decide) ?_
        refine vx_ret ?_
        exact k_iret (u_20, h_g g js (f (a9), f (a9 + 1), f (a9 + 2), f (a9 + 3))) hx hb hr hlocks (by have hq : q_one (q4r f a9) = true := (al_one _).symm.trans c_18; have hlo : q_low (q4r f a9) = true := c_22; rw [p_read_y hn ha9, if_pos hq, if_pos hlo]; rfl) (hP.sub [3, 0, 1, 4] rfl) (hD.sub [3, 0, 1, 4] (by decide) rfl) hxw_21 hS (Nat.le_of_ble_eq_true rfl) (Nat.le_of_ble_eq_true rfl) dX0_read_129
      · have c_22 := low_lt c_22
        refine lv_bipush (v := (-16)) hx hb dX0_read_123 (by decide) ?_
        refine lv_goto (tgt := 129) hx hb dX0_read_125 (by decide) ?_
        refine vx_ret ?_
        exact k_iret (u_20, h_g g js (f (a9), f (a9 + 1), f (a9 + 2), f (a9 + 3))) hx hb hr hlocks (by have hq : q_one (q4r f a9) = true := (al_one _).symm.trans c_18; have hlo : q_low (q4r f a9) = false := c_22; rw [p_read_y hn ha9, if_pos hq, hlo]; rfl) (hP.sub [3, 0, 1, 4] rfl) (hD.sub [3, 0, 1, 4] (by decide) rfl) hxw_21 hS (Nat.le_of_ble_eq_true rfl) (Nat.le_of_ble_eq_true rfl) dX0_read_129
    · have c_18 := bI_z0 c_18
      refine lv_bipush (v := (-15)) hx hb dX0_read_110 (by decide) ?_
      refine vx_ret ?_
      exact k_iret (ra, g) hx hb hr hlocks (by have hq : q_one (q4r f a9) = false := (al_one _).symm.trans c_18; rw [p_read_y hn ha9, hq]; rfl) (hP.sub [0, 1, 2, 3] rfl) (hD.sub [0, 1, 2, 3] (by decide) rfl) (hRg.keep hS hOF) hS (Nat.le_of_ble_eq_true rfl) (Nat.le_of_ble_eq_true rfl) dX0_read_112
  · refine lv_iload_n hx hb dX0_read_22 rfl (lv_at hl 3 rfl) ?_
    refine lv_if_lt (tgt := 32) hx hb dX0_read_23 (by decide) (fun c_23 => ?_) (fun c_23 => absurd hneg c_23)
    refine lv_iconst (v := (-1)) hx hb dX0_read_32 (by decide) ?_
    refine lv_goto (tgt := 39) hx hb dX0_read_33 (by decide) ?_
    refine nt_getO (ty := .long) hx hb (hml.trans hl.1.symm) hown (hts _ q317) (hts _ q319) (hts _ q318) (hts _ q34) hK hP 2 2 rfl rfl (Or.inl (by decide)) rfl (by decide) (Nat.le_of_ble_eq_true rfl) dX0_read_39 (nt_note0 (cls := aioN) (names := aioU) hx hl0 (by decide +kernel) (by decide +kernel) (by decide +kernel) (by decide +kernel) (nx_of nx_0 hts hX) nx_o0 hZ.1 hZ.2 hS (by rw [hml]; exact hl.1) (Nat.le_of_ble_eq_true rfl) (Nat.le_of_ble_eq_true rfl) (by decide) (Nat.le_of_ble_eq_true rfl) (Nat.le_of_ble_eq_true rfl)) (fun H9 q9 ce hz h9 hce hcv hcl => ?_)
    have hS := vs_same hS hz h9
    have hPz := vp_same hP (h9)
    clear hP
    have hP := hPz
    clear hPz
    obtain ⟨H, rfl⟩ : ∃ z, z = H9 := ⟨_, rfl⟩
    have hP : va_P D vwCl [(xo, oX xs xu xd xr xf), (xs, rA ca 3 6 sa), (rw, rwE ca 2 n f), (xr, rA ca 4 16 (fun i => some (ra i)))] H := hP
    have hD : va_D A [(xo, oX xs xu xd xr xf), (xs, rA ca 3 6 sa), (rw, rwE ca 2 n f), (xr, rA ca 4 16 (fun i => some (ra i)))] := hD
    refine vx_catch (E := "java/lang/ArrayIndexOutOfBoundsException") (name := "java/lang/ArrayIndexOutOfBoundsException") hown [(⟨16, 89, 92, 37⟩ : ExceptionTableEntry)] (⟨16, 89, 97, 39⟩ : ExceptionTableEntry) [] (by rw [htb]; rfl) (List.forall_mem_cons.mpr ⟨Or.inr ⟨by decide, "java/lang/NullPointerException", hts _ q145, (hN.2.2.2.2.1 _ (List.mem_of_getElem? (i := 4) rfl))⟩, (fun z hz => absurd hz List.not_mem_nil)⟩) (by decide) (by decide) (hts _ q170) (va_Nw.use rfl (hN.2.2.2.1 _ (List.mem_of_getElem? (i := 7) rfl))) hce hcv hcl ?_
    refine lv_astore (lv' := [(5, .ref q9), (0, .ref xo), (1, .int (nI js)), (2, .int (nI j)), (3, .int i0)]) hx hb dX0_read_97 hl (by decide) rfl (fun ls hl => ?_)
    refine lv_bipush (v := (-12)) hx hb dX0_read_99 (by decide) ?_
    refine vx_ret ?_
    exact k_iret (ra, g) hx hb hr hlocks ((p_read_n (Or.inl hneg)).symm) hP hD (hRg.keep hS hOF) hS (Nat.le_of_ble_eq_true rfl) (Nat.le_of_ble_eq_true rfl) dX0_read_101
  · refine lv_iload_n hx hb dX0_read_22 rfl (lv_at hl 3 rfl) ?_
    refine lv_if_lt (tgt := 32) hx hb dX0_read_23 (by decide) (fun c_24 => absurd c_24 (fun z => absurd (lt_y (a := a9) (b := 0) rfl rfl (by omega) (by decide) z) (Nat.not_lt_zero _))) (fun c_24 => ?_)
    refine lv_iload_n hx hb dX0_read_26 rfl (lv_at hl 3 rfl) ?_
    refine lv_bipush (v := 16) hx hb dX0_read_27 (by decide) ?_
    refine lv_icmp_le (tgt := 36) hx hb dX0_read_29 (by decide) (fun c_25 => absurd c_25 (fun z => absurd (le_y (a := a9) (b := 16) rfl rfl (by omega) (by decide) z) (by omega))) (fun c_25 => ?_)
    refine lv_iconst (v := (-1)) hx hb dX0_read_32 (by decide) ?_
    refine lv_goto (tgt := 39) hx hb dX0_read_33 (by decide) ?_
    refine nt_getO (ty := .long) hx hb (hml.trans hl.1.symm) hown (hts _ q317) (hts _ q319) (hts _ q318) (hts _ q34) hK hP 2 2 rfl rfl (Or.inl (by decide)) rfl (by decide) (Nat.le_of_ble_eq_true rfl) dX0_read_39 (nt_note0 (cls := aioN) (names := aioU) hx hl0 (by decide +kernel) (by decide +kernel) (by decide +kernel) (by decide +kernel) (nx_of nx_0 hts hX) nx_o0 hZ.1 hZ.2 hS (by rw [hml]; exact hl.1) (Nat.le_of_ble_eq_true rfl) (Nat.le_of_ble_eq_true rfl) (by decide) (Nat.le_of_ble_eq_true rfl) (Nat.le_of_ble_eq_true rfl)) (fun H9 q9 ce hz h9 hce hcv hcl => ?_)
    have hS := vs_same hS hz h9
    have hPz := vp_same hP (h9)
    clear hP
    have hP := hPz
    clear hPz
    obtain ⟨H, rfl⟩ : ∃ z, z = H9 := ⟨_, rfl⟩
    have hP : va_P D vwCl [(xo, oX xs xu xd xr xf), (xs, rA ca 3 6 sa), (rw, rwE ca 2 n f), (xr, rA ca 4 16 (fun i => some (ra i)))] H := hP
    have hD : va_D A [(xo, oX xs xu xd xr xf), (xs, rA ca 3 6 sa), (rw, rwE ca 2 n f), (xr, rA ca 4 16 (fun i => some (ra i)))] := hD
    refine vx_catch (E := "java/lang/ArrayIndexOutOfBoundsException") (name := "java/lang/ArrayIndexOutOfBoundsException") hown [(⟨16, 89, 92, 37⟩ : ExceptionTableEntry)] (⟨16, 89, 97, 39⟩ : ExceptionTableEntry) [] (by rw [htb]; rfl) (List.forall_mem_cons.mpr ⟨Or.inr ⟨by decide, "java/lang/NullPointerException", hts _ q145, (hN.2.2.2.2.1 _ (List.mem_of_getElem? (i := 4) rfl))⟩, (fun z hz => absurd hz List.not_mem_nil)⟩) (by decide) (by decide) (hts _ q170) (va_Nw.use rfl (hN.2.2.2.1 _ (List.mem_of_getElem? (i := 7) rfl))) hce hcv hcl ?_
    refine lv_astore (lv' := [(5, .ref q9), (0, .ref xo), (1, .int (nI js)), (2, .int (nI j)), (3, .int (nI a9))]) hx hb dX0_read_97 hl (by decide) rfl (fun ls hl => ?_)
    refine lv_bipush (v := (-12)) hx hb dX0_read_99 (by decide) ?_
    refine vx_ret ?_
    exact k_iret (ra, g) hx hb hr hlocks ((p_read_n (Or.inr (by rw [nI_clamp (by omega)]; omega))).symm) hP hD (hRg.keep hS hOF) hS (Nat.le_of_ble_eq_true rfl) (Nat.le_of_ble_eq_true rfl) dX0_read_101
  · refine lv_iload_n hx hb dX0_read_22 rfl (lv_at hl 3 rfl) ?_
    refine lv_if_lt (tgt := 32) hx hb dX0_read_23 (by decide) (fun c_26 => absurd c_26 (fun z => absurd (lt_y (a := a9) (b := 0) rfl rfl (by omega) (by decide) z) (Nat.not_lt_zero _))) (fun c_26 => ?_)
    refine lv_iload_n hx hb dX0_read_26 rfl (lv_at hl 3 rfl) ?_
    refine lv_bipush (v := 16) hx hb dX0_read_27 (by decide) ?_
    refine lv_icmp_le (tgt := 36) hx hb dX0_read_29 (by decide) (fun c_27 => ?_) (fun c_27 => absurd ((le_n (a := a9) (b := 16) rfl rfl (by omega) (by decide)).mpr (by omega)) c_27)
    refine lv_iload_n hx hb dX0_read_36 rfl (lv_at hl 3 rfl) ?_
    refine lv_iconst (v := 3) hx hb dX0_read_37 (by decide) ?_
    refine lv_iadd hx hb dX0_read_38 ?_
    refine nt_getO (ty := .long) hx hb (hml.trans hl.1.symm) hown (hts _ q317) (hts _ q319) (hts _ q318) (hts _ q34) hK hP 2 2 rfl rfl (Or.inr (by rw [show (nI a9 + 3 : Int32) = nI (a9 + 3) from eq_add rfl rfl, nI_clamp (by omega)]; omega)) rfl (by decide) (Nat.le_of_ble_eq_true rfl) dX0_read_39 (nt_note0 (cls := aioN) (names := aioU) hx hl0 (by decide +kernel) (by decide +kernel) (by decide +kernel) (by decide +kernel) (nx_of nx_0 hts hX) nx_o0 hZ.1 hZ.2 hS (by rw [hml]; exact hl.1) (Nat.le_of_ble_eq_true rfl) (Nat.le_of_ble_eq_true rfl) (by decide) (Nat.le_of_ble_eq_true rfl) (Nat.le_of_ble_eq_true rfl)) (fun H9 q9 ce hz h9 hce hcv hcl => ?_)
    have hS := vs_same hS hz h9
    have hPz := vp_same hP (h9)
    clear hP
    have hP := hPz
    clear hPz
    obtain ⟨H, rfl⟩ : ∃ z, z = H9 := ⟨_, rfl⟩
    have hP : va_P D vwCl [(xo, oX xs xu xd xr xf), (xs, rA ca 3 6 sa), (rw, rwE ca 2 n f), (xr, rA ca 4 16 (fun i => some (ra i)))] H := hP
    have hD : va_D A [(xo, oX xs xu xd xr xf), (xs, rA ca 3 6 sa), (rw, rwE ca 2 n f), (xr, rA ca 4 16 (fun i => some (ra i)))] := hD
    refine vx_catch (E := "java/lang/ArrayIndexOutOfBoundsException") (name := "java/lang/ArrayIndexOutOfBoundsException") hown [(⟨16, 89, 92, 37⟩ : ExceptionTableEntry)] (⟨16, 89, 97, 39⟩ : ExceptionTableEntry) [] (by rw [htb]; rfl) (List.forall_mem_cons.mpr ⟨Or.inr ⟨by decide, "java/lang/NullPointerException", hts _ q145, (hN.2.2.2.2.1 _ (List.mem_of_getElem? (i := 4) rfl))⟩, (fun z hz => absurd hz List.not_mem_nil)⟩) (by decide) (by decide) (hts _ q170) (va_Nw.use rfl (hN.2.2.2.1 _ (List.mem_of_getElem? (i := 7) rfl))) hce hcv hcl ?_
    refine lv_astore (lv' := [(5, .ref q9), (0, .ref xo), (1, .int (nI js)), (2, .int (nI j)), (3, .int (nI a9))]) hx hb dX0_read_97 hl (by decide) rfl (fun ls hl => ?_)
    refine lv_bipush (v := (-12)) hx hb dX0_read_99 (by decide) ?_
    refine vx_ret ?_
    exact k_iret (ra, g) hx hb hr hlocks ((p_read_n (Or.inr (by rw [nI_clamp (by omega)]; omega))).symm) hP hD (hRg.keep hS hOF) hS (Nat.le_of_ble_eq_true rfl) (Nat.le_of_ble_eq_true rfl) dX0_read_101
