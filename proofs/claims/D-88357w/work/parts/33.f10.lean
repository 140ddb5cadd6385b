theorem in_100 {x : Int32} (h : p_in x.toInt64 (-100) 100 = true) : x.toInt64.toInt.natAbs ≤ 100 := by
  simp only [p_in, Bool.and_eq_true, Bool.not_eq_true', decide_eq_false_iff_not, Int64.lt_iff_toInt_lt] at h
  have h1 : (-100 : Int64).toInt = -100 := by decide
  have h2 : (100 : Int64).toInt = 100 := by decide
  omega
theorem bd_up {v : Q4} {B C : Nat} (h : q_bd B v) (hBC : B ≤ C) : q_bd C v := ⟨Nat.le_trans h.1 hBC, Nat.le_trans h.2.1 hBC, Nat.le_trans h.2.2.1 hBC, Nat.le_trans h.2.2.2 hBC⟩
set_option maxHeartbeats 4000000 in
set_option maxRecDepth 100000 in
theorem ct_X0_turn (l : Launch) (D : va_G) (ca : Nat → ClassId) (zH : Nat) (xo xs xu xd xr xf : Nat) (ra : Nat → Nat) (g : AI) (s0 i0 j0 : Int32) (hR : okR g) : Met l yX0_turn (ws_ yX0_turn cX0_turn 4 (some .int)) ({ frames := 3, cells := 0, slots := 0, locals := 66 }) (va_Pc [.ref xo, .int s0, .int i0, .int j0] (pr_ NW D ca [(xo, oX xs xu xd xr xf), (xr, rA ca 4 16 (fun i => some (ra i)))] zH (fun H => Rg D H ra g))) (qI D (fun (r : Int32) (u : Unit) => r = m_turn g s0 i0 j0) (fun u => [(xo, oX xs xu xd xr xf), (xr, rA ca 4 16 (fun i => some (ra i)))]) (fun u H => True) (va_A [(xo, oX xs xu xd xr xf), (xr, rA ca 4 16 (fun i => some (ra i)))] zH)) 0 0 (va_A [(xo, oX xs xu xd xr xf), (xr, rA ca 4 16 (fun i => some (ra i)))] zH) := by
  have hk := NW_ok
  refine k_ofW (Qc := qI D (fun (r : Int32) (u : Unit) => r = m_turn g s0 i0 j0) (fun u => [(xo, oX xs xu xd xr xf), (xr, rA ca 4 16 (fun i => some (ra i)))]) (fun u H => True)) (by decide) (Nat.le_of_ble_eq_true rfl) ?_
  intro p e s m below meth c ls A H hH hx hb hr hts hown hlocks hnm hml hsz hP hD hK hN hA hAn hS hro hl
  have hl : lv_has ls 4 [(0, .ref xo), (1, .int s0), (2, .int i0), (3, .int j0)] := hl
  have hOF := k_outF hK (hH ▸ hP) (okc (oko 0 (by decide)) (okc (oka 4 (by decide)) (okn))) hAn
  have hOS := k_outS hK (hH ▸ hP) (okc (oko 0 (by decide)) (okc (oka 4 (by decide)) (okn))) hAn
  have hRg := hro
  refine lv_iload_n hx hb dX0_turn_0 rfl (lv_at hl 1 rfl) ?_
  refine k_calli (wr := [(xo, oX xs xu xd xr xf), (xr, rA ca 4 16 (fun i => some (ra i)))]) (va_runS (As := [.int s0]) (rest := []) ⟨hx, hb, hml, hown, hts⟩ (ct_X0_isRegister hk l D ca H.size s0) (va_cwS 1 hts (lw_S q313 q314 q19 q315) rfl rfl rfl (by decide +kernel) ⟨Nat.le_of_ble_eq_true rfl, Nat.le_of_ble_eq_true rfl⟩) (k_pre hk hK hN hP hD [] (by decide) rfl trivial) rfl rfl hl.1 rfl (lv_room (Nat.le_of_ble_eq_true rfl)) dX0_turn_1 ⟨Nat.le_of_ble_eq_true rfl, Nat.le_of_ble_eq_true rfl⟩) hP hD hS hA [] [0, 1] rfl rfl (by decide) (by decide) (fun r_1 u_2 H locs w_3 hP hD hxw_3 hzw_3 hqw_3 hS => ?_)
  obtain rfl : r_1 = bI (p_in s0.toInt64 0 15) := w_3
  refine lv_if_eq (tgt := 31) hx hb dX0_turn_4 (by decide) (fun c_4 => ?_) (fun c_4 => ?_)
  · have c_4 := bI_z0 c_4
    refine lv_ldc hx hb hown (hts _ q553) dX0_turn_31 ?_
    exact k_iret () hx hb hr hlocks (by simp [m_turn, c_4]) hP hD trivial hS (Nat.le_of_ble_eq_true rfl) (Nat.le_of_ble_eq_true rfl) dX0_turn_33
  · have c_4 := bI_z1 c_4
    obtain ⟨js0, hjs0, rfl⟩ := in_nI (n := 16) (by decide) c_4
    refine lv_iload_n hx hb dX0_turn_7 rfl (lv_at hl 2 rfl) ?_
    refine lv_i2l (v := i0.toInt64) hx hb dX0_turn_8 rfl ?_
    refine lv_lconst (v := 0) hx hb dX0_turn_9 (by decide) ?_
    refine lv_ldc2 hx hb hown (hts _ q135) dX0_turn_10 ?_
    refine k_calli (wr := [(xo, oX xs xu xd xr xf), (xr, rA ca 4 16 (fun i => some (ra i)))]) (va_runS (As := [.long i0.toInt64, .long 0, .long 2]) (rest := []) ⟨hx, hb, hml, hown, hts⟩ (ct_X0_isIn hk l D ca H.size i0.toInt64 0 2) (va_cwS 3 hts (lw_S q131 q132 q19 q133) rfl rfl rfl (by decide +kernel) ⟨Nat.le_of_ble_eq_true rfl, Nat.le_of_ble_eq_true rfl⟩) (k_pre hk hK hN hP hD [] (by decide) rfl trivial) rfl rfl hl.1 rfl (lv_room (Nat.le_of_ble_eq_true rfl)) dX0_turn_13 ⟨Nat.le_of_ble_eq_true rfl, Nat.le_of_ble_eq_true rfl⟩) hP hD hS hA [] [0, 1] rfl rfl (by decide) (by decide) (fun r_5 u_6 H locs w_7 hP hD hxw_7 hzw_7 hqw_7 hS => ?_)
    obtain rfl : r_5 = bI (p_in i0.toInt64 0 2) := w_7
    refine lv_if_eq (tgt := 31) hx hb dX0_turn_16 (by decide) (fun c_8 => ?_) (fun c_8 => ?_)
    · have c_8 := bI_z0 c_8
      refine lv_ldc hx hb hown (hts _ q553) dX0_turn_31 ?_
      exact k_iret () hx hb hr hlocks (by simp [m_turn, c_4, c_8, nI_clamp (show js0 < 2 ^ 31 by omega)]) hP hD trivial hS (Nat.le_of_ble_eq_true rfl) (Nat.le_of_ble_eq_true rfl) dX0_turn_33
    · have c_8 := bI_z1 c_8
      obtain ⟨ji0, hji0, rfl⟩ := in_nI (n := 3) (by decide) c_8
      refine lv_iload_n hx hb dX0_turn_19 rfl (lv_at hl 3 rfl) ?_
      refine lv_i2l (v := j0.toInt64) hx hb dX0_turn_20 rfl ?_
      refine lv_lconst (v := 0) hx hb dX0_turn_21 (by decide) ?_
      refine lv_ldc2 hx hb hown (hts _ q135) dX0_turn_22 ?_
      refine k_calli (wr := [(xo, oX xs xu xd xr xf), (xr, rA ca 4 16 (fun i => some (ra i)))]) (va_runS (As := [.long j0.toInt64, .long 0, .long 2]) (rest := []) ⟨hx, hb, hml, hown, hts⟩ (ct_X0_isIn hk l D ca H.size j0.toInt64 0 2) (va_cwS 3 hts (lw_S q131 q132 q19 q133) rfl rfl rfl (by decide +kernel) ⟨Nat.le_of_ble_eq_true rfl, Nat.le_of_ble_eq_true rfl⟩) (k_pre hk hK hN hP hD [] (by decide) rfl trivial) rfl rfl hl.1 rfl (lv_room (Nat.le_of_ble_eq_true rfl)) dX0_turn_25 ⟨Nat.le_of_ble_eq_true rfl, Nat.le_of_ble_eq_true rfl⟩) hP hD hS hA [] [0, 1] rfl rfl (by decide) (by decide) (fun r_9 u_10 H locs w_11 hP hD hxw_11 hzw_11 hqw_11 hS => ?_)
      obtain rfl : r_9 = bI (p_in j0.toInt64 0 2) := w_11
      refine lv_if_ne (tgt := 34) hx hb dX0_turn_28 (by decide) (fun c_12 => ?_) (fun c_12 => ?_)
      · have c_12 := bI_z1 c_12
        obtain ⟨jj0, hjj0, rfl⟩ := in_nI (n := 3) (by decide) c_12
        refine lv_aload_n hx hb dX0_turn_34 rfl (lv_at hl 0 rfl) ?_
        refine va_get (D := D) (ci := 0) (v := .ref xr) (C := RX0) (T := TX0) (N := 5) hx hb hts in_X0 hown hK hP 0 rfl rfl 3 (by decide) (hts _ q296) (fun _ h9 => h9) rfl dX0_turn_35 ?_
        refine lv_iload_n hx hb dX0_turn_38 rfl (lv_at hl 1 rfl) ?_
        refine va_aldq hx hb hK hP 1 4 rfl rfl (vin_nI (a := js0) rfl (by omega) (by omega)) dX0_turn_39 ?_
        refine W.eq (g2 := F0 m 40 ls [.ref (ra js0)]) (by rw [nI_clamp (show js0 < 2 ^ 31 by omega)]; rfl) ?_
        have hG_13 := hRg js0 (by omega)
        have nG_13 := hOF _ _ hG_13
        refine k_calli (wr := [(xo, oX xs xu xd xr xf), (xr, rA ca 4 16 (fun i => some (ra i)))]) (kd_runV (x := yF_isNought) (owner := "FourParts$Parts") (As := []) (rest := []) ⟨hx, hb, hml, hown, hts⟩ (ct_X7_isNought l D ca H.size (ra js0) (rq g js0)) qI_ret rfl (lw_meth q363) rfl rfl rfl ⟨Nat.le_of_ble_eq_true rfl, Nat.le_of_ble_eq_true rfl⟩ (hN.1 _ (List.mem_of_getElem? (i := 3) rfl)) (hN.1 _ (List.mem_of_getElem? (i := 6) rfl)) (va_Decl.abs (hN.2.2.1 _ (List.mem_of_getElem? (i := 0) rfl))) ⟨by decide, by decide⟩ hN.2.2.2.2.2.2.2.2.2.1 (hts _ q361) (by decide +kernel) (k_preV hk hK hN hP hD [] (by decide) rfl (hG_13.keep hS nG_13) (hG_13.keep hS nG_13) rfl (q0 := 0) rfl) rfl rfl hl.1 rfl (lv_room (Nat.le_of_ble_eq_true rfl)) dX0_turn_40 ⟨Nat.le_of_ble_eq_true rfl, Nat.le_of_ble_eq_true rfl⟩) hP hD hS hA [] [0, 1] rfl rfl (by decide) (by decide) (fun r_14 u_15 H locs w_16 hP hD hxw_16 hzw_16 hqw_16 hS => ?_)
        obtain rfl : r_14 = bI (q_nz (rq g js0)) := w_16
        have hP : va_P D vwCl [(xo, oX xs xu xd xr xf), (xr, rA ca 4 16 (fun i => some (ra i)))] H := hP
        have hD : va_D A [(xo, oX xs xu xd xr xf), (xr, rA ca 4 16 (fun i => some (ra i)))] := hD
        refine lv_if_eq (tgt := 51) hx hb dX0_turn_43 (by decide) (fun c_17 => ?_) (fun c_17 => ?_)
        · have c_17 := bI_z0 c_17
          have c_17 := (null_z (hR.sq hjs0)).2.symm.trans c_17
          refine lv_aload_n hx hb dX0_turn_51 rfl (lv_at hl 0 rfl) ?_
          refine va_get (D := D) (ci := 0) (v := .ref xr) (C := RX0) (T := TX0) (N := 5) hx hb hts in_X0 hown hK hP 0 rfl rfl 3 (by decide) (hts _ q296) (fun _ h9 => h9) rfl dX0_turn_52 ?_
          refine lv_iload_n hx hb dX0_turn_55 rfl (lv_at hl 1 rfl) ?_
          refine va_aldq hx hb hK hP 1 4 rfl rfl (vin_nI (a := js0) rfl (by omega) (by omega)) dX0_turn_56 ?_
          refine W.eq (g2 := F0 m 57 ls [.ref (ra js0)]) (by rw [nI_clamp (show js0 < 2 ^ 31 by omega)]; rfl) ?_
          refine lv_iload_n hx hb dX0_turn_57 rfl (lv_at hl 2 rfl) ?_
          refine lv_iload_n hx hb dX0_turn_58 rfl (lv_at hl 3 rfl) ?_
          refine k_calll (wr := [(xo, oX xs xu xd xr xf), (xr, rA ca 4 16 (fun i => some (ra i)))]) (va_runS (As := [.ref (ra js0), .int (nI ji0), .int (nI jj0)]) (rest := []) ⟨hx, hb, hml, hown, hts⟩ (ct_X0_entry l D ca H.size (ra js0) (rq g js0) ji0 jj0 (by omega) (by omega)) (va_cwS 3 hts (lw_S q555 q556 q19 q557) rfl rfl rfl (by decide +kernel) ⟨Nat.le_of_ble_eq_true rfl, Nat.le_of_ble_eq_true rfl⟩) (k_pre hk hK hN hP hD [] (by decide) rfl (hG_13.keep hS nG_13)) rfl rfl hl.1 rfl (lv_room (Nat.le_of_ble_eq_true rfl)) dX0_turn_59 ⟨Nat.le_of_ble_eq_true rfl, Nat.le_of_ble_eq_true rfl⟩) hP hD hS hA [] [0, 1] rfl rfl (by decide) (by decide) (fun r_18 u_19 H locs w_20 hP hD hxw_20 hzw_20 hqw_20 hS => ?_)
          obtain rfl : r_18 = c_ent (rq g js0) ji0 jj0 := w_20
          refine lv_ldc2 hx hb hown (hts _ q265) dX0_turn_62 ?_
          refine lv_ldiv hx hb dX0_turn_65 (by decide) ?_
          refine lv_l2i (v := ((c_ent (rq g js0) ji0 jj0) / 4).toInt32) hx hb dX0_turn_66 rfl ?_
          exact k_iret () hx hb hr hlocks (by have he := (ent_c (v := rq g js0) hji0 hjj0 (bd_up (hR.bd hjs0) (by decide))).trans (ent_g g js0 ji0 jj0 hji0 hjj0).symm; simp [m_turn, he, c_4, c_8, c_12, c_17, nI_clamp (show js0 < 2 ^ 31 by omega), nI_clamp (show ji0 < 2 ^ 31 by omega), nI_clamp (show jj0 < 2 ^ 31 by omega)]) hP hD trivial hS (Nat.le_of_ble_eq_true rfl) (Nat.le_of_ble_eq_true rfl) dX0_turn_67
        · have c_17 := bI_z1 c_17
          have c_17 := (null_z (hR.sq hjs0)).2.symm.trans c_17
          refine lv_ldc hx hb hown (hts _ q554) dX0_turn_46 ?_
          refine lv_goto (tgt := 67) hx hb dX0_turn_48 (by decide) ?_
          exact k_iret () hx hb hr hlocks (by have he := (ent_c (v := rq g js0) hji0 hjj0 (bd_up (hR.bd hjs0) (by decide))).trans (ent_g g js0 ji0 jj0 hji0 hjj0).symm; simp [m_turn, he, c_4, c_8, c_12, c_17, nI_clamp (show js0 < 2 ^ 31 by omega), nI_clamp (show ji0 < 2 ^ 31 by omega), nI_clamp (show jj0 < 2 ^ 31 by omega)]) hP hD trivial hS (Nat.le_of_ble_eq_true rfl) (Nat.le_of_ble_eq_true rfl) dX0_turn_67
      · have c_12 := bI_z0 c_12
        refine lv_ldc hx hb hown (hts _ q553) dX0_turn_31 ?_
        exact k_iret () hx hb hr hlocks (by simp [m_turn, c_4, c_8, c_12, nI_clamp (show js0 < 2 ^ 31 by omega), nI_clamp (show ji0 < 2 ^ 31 by omega)]) hP hD trivial hS (Nat.le_of_ble_eq_true rfl) (Nat.le_of_ble_eq_true rfl) dX0_turn_33
set_option maxHeartbeats 4000000 in
set_option maxRecDepth 100000 in
theorem ct_X0_turned (l : Launch) (D : va_G) (ca : Nat → ClassId) (zH : Nat) (xo xs xu xd xr xf : Nat) (ra : Nat → Nat) (g : AI) (s0 x0 y0 z0 i0 : Int32) (hR : okR g) : Met l yX0_turned (ws_ yX0_turned cX0_turned 8 (some .long)) ({ frames := 3, cells := 4, slots := 16, locals := 69 }) (va_Pc [.ref xo, .int s0, .int x0, .int y0, .int z0, .int i0] (pr_ NW D ca [(xo, oX xs xu xd xr xf), (xr, rA ca 4 16 (fun i => some (ra i)))] zH (fun H => Rg D H ra g))) (qL D (fun (r : Int64) (u : Unit) => r = m_turned g s0 x0 y0 z0 i0) (fun u => [(xo, oX xs xu xd xr xf), (xr, rA ca 4 16 (fun i => some (ra i)))]) (fun u H => True) (va_A [(xo, oX xs xu xd xr xf), (xr, rA ca 4 16 (fun i => some (ra i)))] zH)) 4 16 (va_A [(xo, oX xs xu xd xr xf), (xr, rA ca 4 16 (fun i => some (ra i)))] zH) := by
  have hk := NW_ok
  refine k_ofW (Qc := qL D (fun (r : Int64) (u : Unit) => r = m_turned g s0 x0 y0 z0 i0) (fun u => [(xo, oX xs xu xd xr xf), (xr, rA ca 4 16 (fun i => some (ra i)))]) (fun u H => True)) (by decide) (Nat.le_of_ble_eq_true rfl) ?_
  intro p e s m below meth c ls A H hH hx hb hr hts hown hlocks hnm hml hsz hP hD hK hN hA hAn hS hro hl
  have hl : lv_has ls 8 [(0, .ref xo), (1, .int s0), (2, .int x0), (3, .int y0), (4, .int z0), (5, .int i0)] := hl
  have hOF := k_outF hK (hH ▸ hP) (okc (oko 0 (by decide)) (okc (oka 4 (by decide)) (okn))) hAn
  have hOS := k_outS hK (hH ▸ hP) (okc (oko 0 (by decide)) (okc (oka 4 (by decide)) (okn))) hAn
  have hRg := hro
  refine lv_iload_n hx hb dX0_turned_0 rfl (lv_at hl 1 rfl) ?_
  refine k_calli (wr := [(xo, oX xs xu xd xr xf), (xr, rA ca 4 16 (fun i => some (ra i)))]) (va_runS (As := [.int s0]) (rest := []) ⟨hx, hb, hml, hown, hts⟩ (ct_X0_isRegister hk l D ca H.size s0) (va_cwS 1 hts (lw_S q313 q314 q19 q315) rfl rfl rfl (by decide +kernel) ⟨Nat.le_of_ble_eq_true rfl, Nat.le_of_ble_eq_true rfl⟩) (k_pre hk hK hN hP hD [] (by decide) rfl trivial) rfl rfl hl.1 rfl (lv_room (Nat.le_of_ble_eq_true rfl)) dX0_turned_1 ⟨Nat.le_of_ble_eq_true rfl, Nat.le_of_ble_eq_true rfl⟩) hP hD hS hA [] [0, 1] rfl rfl (by decide) (by decide) (fun r_1 u_2 H locs w_3 hP hD hxw_3 hzw_3 hqw_3 hS => ?_)
  obtain rfl : r_1 = bI (p_in s0.toInt64 0 15) := w_3
  refine lv_if_eq (tgt := 63) hx hb dX0_turned_4 (by decide) (fun c_4 => ?_) (fun c_4 => ?_)
  · have c_4 := bI_z0 c_4
    refine lv_ldc2 hx hb hown (hts _ q134) dX0_turned_63 ?_
    exact k_lret () hx hb hr hlocks (by simp [m_turned, c_4]) hP hD trivial hS (Nat.le_of_ble_eq_true rfl) (Nat.le_of_ble_eq_true rfl) dX0_turned_66
  · have c_4 := bI_z1 c_4
    obtain ⟨js0, hjs0, rfl⟩ := in_nI (n := 16) (by decide) c_4
    refine lv_iload_n hx hb dX0_turned_7 rfl (lv_at hl 2 rfl) ?_
    refine lv_i2l (v := x0.toInt64) hx hb dX0_turned_8 rfl ?_
    refine lv_ldc2 hx hb hown (hts _ q562) dX0_turned_9 ?_
    refine lv_ldc2 hx hb hown (hts _ q563) dX0_turned_12 ?_
    refine k_calli (wr := [(xo, oX xs xu xd xr xf), (xr, rA ca 4 16 (fun i => some (ra i)))]) (va_runS (As := [.long x0.toInt64, .long (-100), .long 100]) (rest := []) ⟨hx, hb, hml, hown, hts⟩ (ct_X0_isIn hk l D ca H.size x0.toInt64 (-100) 100) (va_cwS 3 hts (lw_S q131 q132 q19 q133) rfl rfl rfl (by decide +kernel) ⟨Nat.le_of_ble_eq_true rfl, Nat.le_of_ble_eq_true rfl⟩) (k_pre hk hK hN hP hD [] (by decide) rfl trivial) rfl rfl hl.1 rfl (lv_room (Nat.le_of_ble_eq_true rfl)) dX0_turned_15 ⟨Nat.le_of_ble_eq_true rfl, Nat.le_of_ble_eq_true rfl⟩) hP hD hS hA [] [0, 1] rfl rfl (by decide) (by decide) (fun r_5 u_6 H locs w_7 hP hD hxw_7 hzw_7 hqw_7 hS => ?_)
    obtain rfl : r_5 = bI (p_in x0.toInt64 (-100) 100) := w_7
    refine lv_if_eq (tgt := 63) hx hb dX0_turned_18 (by decide) (fun c_8 => ?_) (fun c_8 => ?_)
    · have c_8 := bI_z0 c_8
      refine lv_ldc2 hx hb hown (hts _ q134) dX0_turned_63 ?_
      exact k_lret () hx hb hr hlocks (by simp [m_turned, c_4, c_8, nI_clamp (show js0 < 2 ^ 31 by omega)]) hP hD trivial hS (Nat.le_of_ble_eq_true rfl) (Nat.le_of_ble_eq_true rfl) dX0_turned_66
    · have c_8 := bI_z1 c_8
      refine lv_iload_n hx hb dX0_turned_21 rfl (lv_at hl 3 rfl) ?_
      refine lv_i2l (v := y0.toInt64) hx hb dX0_turned_22 rfl ?_
      refine lv_ldc2 hx hb hown (hts _ q562) dX0_turned_23 ?_
      refine lv_ldc2 hx hb hown (hts _ q563) dX0_turned_26 ?_
      refine k_calli (wr := [(xo, oX xs xu xd xr xf), (xr, rA ca 4 16 (fun i => some (ra i)))]) (va_runS (As := [.long y0.toInt64, .long (-100), .long 100]) (rest := []) ⟨hx, hb, hml, hown, hts⟩ (ct_X0_isIn hk l D ca H.size y0.toInt64 (-100) 100) (va_cwS 3 hts (lw_S q131 q132 q19 q133) rfl rfl rfl (by decide +kernel) ⟨Nat.le_of_ble_eq_true rfl, Nat.le_of_ble_eq_true rfl⟩) (k_pre hk hK hN hP hD [] (by decide) rfl trivial) rfl rfl hl.1 rfl (lv_room (Nat.le_of_ble_eq_true rfl)) dX0_turned_29 ⟨Nat.le_of_ble_eq_true rfl, Nat.le_of_ble_eq_true rfl⟩) hP hD hS hA [] [0, 1] rfl rfl (by decide) (by decide) (fun r_9 u_10 H locs w_11 hP hD hxw_11 hzw_11 hqw_11 hS => ?_)
      obtain rfl : r_9 = bI (p_in y0.toInt64 (-100) 100) := w_11
      refine lv_if_eq (tgt := 63) hx hb dX0_turned_32 (by decide) (fun c_12 => ?_) (fun c_12 => ?_)
      · have c_12 := bI_z0 c_12
        refine lv_ldc2 hx hb hown (hts _ q134) dX0_turned_63 ?_
        exact k_lret () hx hb hr hlocks (by simp [m_turned, c_4, c_8, c_12, nI_clamp (show js0 < 2 ^ 31 by omega)]) hP hD trivial hS (Nat.le_of_ble_eq_true rfl) (Nat.le_of_ble_eq_true rfl) dX0_turned_66
      · have c_12 := bI_z1 c_12
        refine lv_iload hx hb dX0_turned_35 (lv_at hl 4 rfl) ?_
        refine lv_i2l (v := z0.toInt64) hx hb dX0_turned_37 rfl ?_
        refine lv_ldc2 hx hb hown (hts _ q562) dX0_turned_38 ?_
        refine lv_ldc2 hx hb hown (hts _ q563) dX0_turned_41 ?_
        refine k_calli (wr := [(xo, oX xs xu xd xr xf), (xr, rA ca 4 16 (fun i => some (ra i)))]) (va_runS (As := [.long z0.toInt64, .long (-100), .long 100]) (rest := []) ⟨hx, hb, hml, hown, hts⟩ (ct_X0_isIn hk l D ca H.size z0.toInt64 (-100) 100) (va_cwS 3 hts (lw_S q131 q132 q19 q133) rfl rfl rfl (by decide +kernel) ⟨Nat.le_of_ble_eq_true rfl, Nat.le_of_ble_eq_true rfl⟩) (k_pre hk hK hN hP hD [] (by decide) rfl trivial) rfl rfl hl.1 rfl (lv_room (Nat.le_of_ble_eq_true rfl)) dX0_turned_44 ⟨Nat.le_of_ble_eq_true rfl, Nat.le_of_ble_eq_true rfl⟩) hP hD hS hA [] [0, 1] rfl rfl (by decide) (by decide) (fun r_13 u_14 H locs w_15 hP hD hxw_15 hzw_15 hqw_15 hS => ?_)
        obtain rfl : r_13 = bI (p_in z0.toInt64 (-100) 100) := w_15
        refine lv_if_eq (tgt := 63) hx hb dX0_turned_47 (by decide) (fun c_16 => ?_) (fun c_16 => ?_)
        · have c_16 := bI_z0 c_16
          refine lv_ldc2 hx hb hown (hts _ q134) dX0_turned_63 ?_
          exact k_lret () hx hb hr hlocks (by simp [m_turned, c_4, c_8, c_12, c_16, nI_clamp (show js0 < 2 ^ 31 by omega)]) hP hD trivial hS (Nat.le_of_ble_eq_true rfl) (Nat.le_of_ble_eq_true rfl) dX0_turned_66
        · have c_16 := bI_z1 c_16
          refine lv_iload hx hb dX0_turned_50 (lv_at hl 5 rfl) ?_
          refine lv_i2l (v := i0.toInt64) hx hb dX0_turned_52 rfl ?_
          refine lv_lconst (v := 0) hx hb dX0_turned_53 (by decide) ?_
          refine lv_ldc2 hx hb hown (hts _ q135) dX0_turned_54 ?_
          refine k_calli (wr := [(xo, oX xs xu xd xr xf), (xr, rA ca 4 16 (fun i => some (ra i)))]) (va_runS (As := [.long i0.toInt64, .long 0, .long 2]) (rest := []) ⟨hx, hb, hml, hown, hts⟩ (ct_X0_isIn hk l D ca H.size i0.toInt64 0 2) (va_cwS 3 hts (lw_S q131 q132 q19 q133) rfl rfl rfl (by decide +kernel) ⟨Nat.le_of_ble_eq_true rfl, Nat.le_of_ble_eq_true rfl⟩) (k_pre hk hK hN hP hD [] (by decide) rfl trivial) rfl rfl hl.1 rfl (lv_room (Nat.le_of_ble_eq_true rfl)) dX0_turned_57 ⟨Nat.le_of_ble_eq_true rfl, Nat.le_of_ble_eq_true rfl⟩) hP hD hS hA [] [0, 1] rfl rfl (by decide) (by decide) (fun r_17 u_18 H locs w_19 hP hD hxw_19 hzw_19 hqw_19 hS => ?_)
          obtain rfl : r_17 = bI (p_in i0.toInt64 0 2) := w_19
          refine lv_if_ne (tgt := 67) hx hb dX0_turned_60 (by decide) (fun c_20 => ?_) (fun c_20 => ?_)
          · have c_20 := bI_z1 c_20
            obtain ⟨ji0, hji0, rfl⟩ := in_nI (n := 3) (by decide) c_20
            refine lv_aload_n hx hb dX0_turned_67 rfl (lv_at hl 0 rfl) ?_
            refine va_get (D := D) (ci := 0) (v := .ref xr) (C := RX0) (T := TX0) (N := 5) hx hb hts in_X0 hown hK hP 0 rfl rfl 3 (by decide) (hts _ q296) (fun _ h9 => h9) rfl dX0_turned_68 ?_
            refine lv_iload_n hx hb dX0_turned_71 rfl (lv_at hl 1 rfl) ?_
            refine va_aldq hx hb hK hP 1 4 rfl rfl (vin_nI (a := js0) rfl (by omega) (by omega)) dX0_turned_72 ?_
            refine W.eq (g2 := F0 m 73 ls [.ref (ra js0)]) (by rw [nI_clamp (show js0 < 2 ^ 31 by omega)]; rfl) ?_
            have hG_21 := hRg js0 (by omega)
            have nG_21 := hOF _ _ hG_21
            refine lv_astore (lv' := [(6, .ref (ra js0)), (0, .ref xo), (1, .int (nI js0)), (2, .int x0), (3, .int y0), (4, .int z0), (5, .int (nI ji0))]) hx hb dX0_turned_73 hl (by decide) rfl (fun ls hl => ?_)
            refine lv_aload hx hb dX0_turned_75 (lv_at hl 0 rfl) ?_
            refine va_new (ci := 1) (fs := [.long 0, .long 0, .long 0, .long 0]) (C := RX1) (T := TX1) (N := 4) hx hb hts in_X1 tyX1 tyX1_ok hown (hts _ q226) (hts _ q228) (hts _ q20) hK hP hD hS hA rfl (fun j hj => by rcases (show j = 0 ∨ j = 1 ∨ j = 2 ∨ j = 3 by omega) with rfl | rfl | rfl | rfl <;> rfl) (Nat.le_of_ble_eq_true rfl) (Nat.le_of_ble_eq_true rfl) dX0_turned_77 (fun q_22 H hP hD hS => ?_)
            have hP : va_P D vwCl [(xo, oX xs xu xd xr xf), (xr, rA ca 4 16 (fun i => some (ra i))), (q_22, .inr (1, [.long 0, .long 0, .long 0, .long 0]))] H := hP
            have hD : va_D A [(xo, oX xs xu xd xr xf), (xr, rA ca 4 16 (fun i => some (ra i))), (q_22, .inr (1, [.long 0, .long 0, .long 0, .long 0]))] := hD
            refine lv_dup hx hb dX0_turned_80 rfl ?_
            refine lv_lconst (v := 0) hx hb dX0_turned_81 (by decide) ?_
            refine lv_ldc2 hx hb hown (hts _ q135) dX0_turned_82 ?_
            refine lv_iload_n hx hb dX0_turned_85 rfl (lv_at hl 3 rfl) ?_
            refine lv_i2l (v := x0.toInt64) hx hb dX0_turned_86 rfl ?_
            refine lv_lmul hx hb dX0_turned_87 ?_
            refine lv_ldc2 hx hb hown (hts _ q135) dX0_turned_88 ?_
            refine lv_iload_n hx hb dX0_turned_91 rfl (lv_at hl 4 rfl) ?_
            refine lv_i2l (v := y0.toInt64) hx hb dX0_turned_92 rfl ?_
            refine lv_lmul hx hb dX0_turned_93 ?_
            refine lv_ldc2 hx hb hown (hts _ q135) dX0_turned_94 ?_
            refine lv_iload hx hb dX0_turned_97 (lv_at hl 5 rfl) ?_
            refine lv_i2l (v := z0.toInt64) hx hb dX0_turned_99 rfl ?_
            refine lv_lmul hx hb dX0_turned_100 ?_
            refine k_callv (wr := [(xo, oX xs xu xd xr xf), (xr, rA ca 4 16 (fun i => some (ra i)))]) (va_runI (As := [.long 0, .long (2 * x0.toInt64), .long (2 * y0.toInt64), .long (2 * z0.toInt64)]) (rest := [.ref q_22, .ref (ra js0)]) ⟨hx, hb, hml, hown, hts⟩ (ct_X1_init hk l D ca H.size q_22 0 (2 * x0.toInt64) (2 * y0.toInt64) (2 * z0.toInt64) (0, 0, 0, 0)) (cwI 4 hts (lw_meth q231) rfl rfl rfl (hts _ q20) (hts _ q229) (hts _ q230) rfl (by decide +kernel) ⟨Nat.le_of_ble_eq_true rfl, Nat.le_of_ble_eq_true rfl⟩) (k_pre hk hK hN hP hD [2] (by decide) rfl trivial) rfl rfl hl.1 rfl (lv_room (Nat.le_of_ble_eq_true rfl)) dX0_turned_101 ⟨Nat.le_of_ble_eq_true rfl, Nat.le_of_ble_eq_true rfl⟩) hP hD hS hA [2] [0, 1] rfl rfl (by decide) (by decide) (fun u_24 H locs w_25 hP hD hxw_25 hzw_25 hqw_25 hS => ?_)
            have hP : va_P D vwCl [(xo, oX xs xu xd xr xf), (xr, rA ca 4 16 (fun i => some (ra i))), (q_22, f4 (0, 2 * x0.toInt64, 2 * y0.toInt64, 2 * z0.toInt64))] H := hP
            have hD : va_D A [(xo, oX xs xu xd xr xf), (xr, rA ca 4 16 (fun i => some (ra i))), (q_22, f4 (0, 2 * x0.toInt64, 2 * y0.toInt64, 2 * z0.toInt64))] := hD
            refine k_callr (wr := [(xo, oX xs xu xd xr xf), (xr, rA ca 4 16 (fun i => some (ra i))), (q_22, f4 (0, 2 * x0.toInt64, 2 * y0.toInt64, 2 * z0.toInt64))]) (va_runV (As := [.ref q_22]) (rest := []) ⟨hx, hb, hml, hown, hts⟩ (ct_X1_times hk l D ca H.size (ra js0) q_22 (rq g js0) (0, 2 * x0.toInt64, 2 * y0.toInt64, 2 * z0.toInt64)) (cwV 1 hts (lw_V q391 q392 q393 q20 q394) rfl rfl rfl (by decide +kernel) ⟨Nat.le_of_ble_eq_true rfl, Nat.le_of_ble_eq_true rfl⟩) (k_preV hk hK hN hP hD [] (by decide) rfl ⟨(hG_21.keep hS nG_21), (Fo.of hP 2 rfl)⟩ (hG_21.keep hS nG_21) rfl (q0 := 0) rfl) rfl rfl hl.1 rfl (lv_room (Nat.le_of_ble_eq_true rfl)) dX0_turned_104 ⟨Nat.le_of_ble_eq_true rfl, Nat.le_of_ble_eq_true rfl⟩) hP hD hS hA [] [0, 1, 2] rfl rfl (by decide) (by decide) (fun u_27 r_26 H locs w_28 hP hD hxw_28 hzw_28 hqw_28 hS => ?_)
            have hP : va_P D vwCl [(xo, oX xs xu xd xr xf), (xr, rA ca 4 16 (fun i => some (ra i))), (q_22, f4 (0, 2 * x0.toInt64, 2 * y0.toInt64, 2 * z0.toInt64)), (r_26, f4 (q_times (rq g js0) (0, 2 * x0.toInt64, 2 * y0.toInt64, 2 * z0.toInt64)))] H := hP
            have hD : va_D A [(xo, oX xs xu xd xr xf), (xr, rA ca 4 16 (fun i => some (ra i))), (q_22, f4 (0, 2 * x0.toInt64, 2 * y0.toInt64, 2 * z0.toInt64)), (r_26, f4 (q_times (rq g js0) (0, 2 * x0.toInt64, 2 * y0.toInt64, 2 * z0.toInt64)))] := hD
            refine lv_aload hx hb dX0_turned_107 (lv_at hl 0 rfl) ?_
            refine k_callr (wr := [(xo, oX xs xu xd xr xf), (xr, rA ca 4 16 (fun i => some (ra i))), (q_22, f4 (0, 2 * x0.toInt64, 2 * y0.toInt64, 2 * z0.toInt64)), (r_26, f4 (q_times (rq g js0) (0, 2 * x0.toInt64, 2 * y0.toInt64, 2 * z0.toInt64)))]) (va_runV (As := []) (rest := [.ref r_26]) ⟨hx, hb, hml, hown, hts⟩ (ct_X1_mirror hk l D ca H.size (ra js0) (rq g js0)) (cwV 0 hts (lw_V q395 q396 q397 q20 q398) rfl rfl rfl (by decide +kernel) ⟨Nat.le_of_ble_eq_true rfl, Nat.le_of_ble_eq_true rfl⟩) (k_preV hk hK hN hP hD [] (by decide) rfl (hG_21.keep hS nG_21) (hG_21.keep hS nG_21) rfl (q0 := 0) rfl) rfl rfl hl.1 rfl (lv_room (Nat.le_of_ble_eq_true rfl)) dX0_turned_109 ⟨Nat.le_of_ble_eq_true rfl, Nat.le_of_ble_eq_true rfl⟩) hP hD hS hA [] [0, 1, 2, 3] rfl rfl (by decide) (by decide) (fun u_30 r_29 H locs w_31 hP hD hxw_31 hzw_31 hqw_31 hS => ?_)
            have hP : va_P D vwCl [(xo, oX xs xu xd xr xf), (xr, rA ca 4 16 (fun i => some (ra i))), (q_22, f4 (0, 2 * x0.toInt64, 2 * y0.toInt64, 2 * z0.toInt64)), (r_26, f4 (q_times (rq g js0) (0, 2 * x0.toInt64, 2 * y0.toInt64, 2 * z0.toInt64))), (r_29, f4 (q_mirror (rq g js0)))] H := hP
            have hD : va_D A [(xo, oX xs xu xd xr xf), (xr, rA ca 4 16 (fun i => some (ra i))), (q_22, f4 (0, 2 * x0.toInt64, 2 * y0.toInt64, 2 * z0.toInt64)), (r_26, f4 (q_times (rq g js0) (0, 2 * x0.toInt64, 2 * y0.toInt64, 2 * z0.toInt64))), (r_29, f4 (q_mirror (rq g js0)))] := hD
            refine k_callr (wr := [(xo, oX xs xu xd xr xf), (xr, rA ca 4 16 (fun i => some (ra i))), (q_22, f4 (0, 2 * x0.toInt64, 2 * y0.toInt64, 2 * z0.toInt64)), (r_26, f4 (q_times (rq g js0) (0, 2 * x0.toInt64, 2 * y0.toInt64, 2 * z0.toInt64))), (r_29, f4 (q_mirror (rq g js0)))]) (va_runV (As := [.ref r_29]) (rest := []) ⟨hx, hb, hml, hown, hts⟩ (ct_X1_times hk l D ca H.size r_26 r_29 (q_times (rq g js0) (0, 2 * x0.toInt64, 2 * y0.toInt64, 2 * z0.toInt64)) (q_mirror (rq g js0))) (cwV 1 hts (lw_V q391 q392 q393 q20 q394) rfl rfl rfl (by decide +kernel) ⟨Nat.le_of_ble_eq_true rfl, Nat.le_of_ble_eq_true rfl⟩) (k_preV hk hK hN hP hD [] (by decide) rfl ⟨(Fo.of hP 3 rfl), (Fo.of hP 4 rfl)⟩ hP rfl (q0 := 3) rfl) rfl rfl hl.1 rfl (lv_room (Nat.le_of_ble_eq_true rfl)) dX0_turned_112 ⟨Nat.le_of_ble_eq_true rfl, Nat.le_of_ble_eq_true rfl⟩) hP hD hS hA [] [0, 1, 2, 3, 4] rfl rfl (by decide) (by decide) (fun u_33 r_32 H locs w_34 hP hD hxw_34 hzw_34 hqw_34 hS => ?_)
            have hP : va_P D vwCl [(xo, oX xs xu xd xr xf), (xr, rA ca 4 16 (fun i => some (ra i))), (q_22, f4 (0, 2 * x0.toInt64, 2 * y0.toInt64, 2 * z0.toInt64)), (r_26, f4 (q_times (rq g js0) (0, 2 * x0.toInt64, 2 * y0.toInt64, 2 * z0.toInt64))), (r_29, f4 (q_mirror (rq g js0))), (r_32, f4 (q_times (q_times (rq g js0) (0, 2 * x0.toInt64, 2 * y0.toInt64, 2 * z0.toInt64)) (q_mirror (rq g js0))))] H := hP
            have hD : va_D A [(xo, oX xs xu xd xr xf), (xr, rA ca 4 16 (fun i => some (ra i))), (q_22, f4 (0, 2 * x0.toInt64, 2 * y0.toInt64, 2 * z0.toInt64)), (r_26, f4 (q_times (rq g js0) (0, 2 * x0.toInt64, 2 * y0.toInt64, 2 * z0.toInt64))), (r_29, f4 (q_mirror (rq g js0))), (r_32, f4 (q_times (q_times (rq g js0) (0, 2 * x0.toInt64, 2 * y0.toInt64, 2 * z0.toInt64)) (q_mirror (rq g js0))))] := hD
            refine lv_astore (lv' := [(7, .ref r_32), (6, .ref (ra js0)), (0, .ref xo), (1, .int (nI js0)), (2, .int x0), (3, .int y0), (4, .int z0), (5, .int (nI ji0))]) hx hb dX0_turned_115 hl (by decide) rfl (fun ls hl => ?_)
            refine lv_aload hx hb dX0_turned_117 (lv_at hl 0 rfl) ?_
            refine lv_iload hx hb dX0_turned_119 (lv_at hl 7 rfl) ?_
            refine lv_iconst (v := 1) hx hb dX0_turned_121 (by decide) ?_
            refine lv_iadd hx hb dX0_turned_122 ?_
            refine k_calll (wr := [(xo, oX xs xu xd xr xf), (xr, rA ca 4 16 (fun i => some (ra i))), (q_22, f4 (0, 2 * x0.toInt64, 2 * y0.toInt64, 2 * z0.toInt64)), (r_26, f4 (q_times (rq g js0) (0, 2 * x0.toInt64, 2 * y0.toInt64, 2 * z0.toInt64))), (r_29, f4 (q_mirror (rq g js0))), (r_32, f4 (q_times (q_times (rq g js0) (0, 2 * x0.toInt64, 2 * y0.toInt64, 2 * z0.toInt64)) (q_mirror (rq g js0))))]) (va_runV (As := [.int ((nI ji0) + 1)]) (rest := []) ⟨hx, hb, hml, hown, hts⟩ (ct_X1_part hk l D ca H.size r_32 ((nI ji0) + 1) (q_times (q_times (rq g js0) (0, 2 * x0.toInt64, 2 * y0.toInt64, 2 * z0.toInt64)) (q_mirror (rq g js0)))) (cwV 1 hts (lw_V q339 q262 q813 q20 q264) rfl rfl rfl (by decide +kernel) ⟨Nat.le_of_ble_eq_true rfl, Nat.le_of_ble_eq_true rfl⟩) (k_preV hk hK hN hP hD [] (by decide) rfl (Fo.of hP 5 rfl) hP rfl (q0 := 5) rfl) rfl rfl hl.1 rfl (lv_room (Nat.le_of_ble_eq_true rfl)) dX0_turned_123 ⟨Nat.le_of_ble_eq_true rfl, Nat.le_of_ble_eq_true rfl⟩) hP hD hS hA [] [0, 1, 2, 3, 4, 5] rfl rfl (by decide) (by decide) (fun r_35 u_36 H locs w_37 hP hD hxw_37 hzw_37 hqw_37 hS => ?_)
            obtain rfl : r_35 = q_part (q_times (q_times (rq g js0) (0, 2 * x0.toInt64, 2 * y0.toInt64, 2 * z0.toInt64)) (q_mirror (rq g js0))) ((nI ji0) + 1) := w_37
            refine lv_ldc2 hx hb hown (hts _ q135) dX0_turned_126 ?_
            refine lv_ldiv hx hb dX0_turned_129 (by decide) ?_
            exact k_lret () hx hb hr hlocks (by have he := turned_z (hR.hz hjs0) (bd_up (hR.bd hjs0) (by decide)) (in_100 c_8) (in_100 c_12) (in_100 c_16) (i := ji0) hji0; rw [← ent_g g js0 ji0 0 hji0 (by decide), ← ent_g g js0 ji0 1 hji0 (by decide), ← ent_g g js0 ji0 2 hji0 (by decide)] at he; rw [show nI ji0 + 1 = nI (ji0 + 1) from eq_add rfl rfl, he]; simp [m_turned, c_4, c_8, c_12, c_16, c_20, nI_clamp (show js0 < 2 ^ 31 by omega), nI_clamp (show ji0 < 2 ^ 31 by omega)]) (hP.sub [0, 1] rfl) (hD.sub [0, 1] (by decide) rfl) trivial hS (Nat.le_of_ble_eq_true rfl) (Nat.le_of_ble_eq_true rfl) dX0_turned_130
          · have c_20 := bI_z0 c_20
            refine lv_ldc2 hx hb hown (hts _ q134) dX0_turned_63 ?_
            exact k_lret () hx hb hr hlocks (by simp [m_turned, c_4, c_8, c_12, c_16, c_20, nI_clamp (show js0 < 2 ^ 31 by omega)]) hP hD trivial hS (Nat.le_of_ble_eq_true rfl) (Nat.le_of_ble_eq_true rfl) dX0_turned_66
set_option maxHeartbeats 4000000 in
set_option maxRecDepth 100000 in
theorem ct_X0_factor (l : Launch) (D : va_G) (ca : Nat → ClassId) (zH : Nat) (xo xs xu xd xr xf : Nat) (ra : Nat → Nat) (g : AI) (nf : Nat) (fa : Nat → Nat) (fv : Nat → Q4) (fc : AL) (s0 k0 : Int32) (hnf : nf ≤ 12) (hfv : ∀ i, i < nf → fv i = fq fc i) : Met l yX0_factor (ws_ yX0_factor cX0_factor 3 (some .int)) ({ frames := 3, cells := 0, slots := 0, locals := 69 }) (va_Pc [.ref xo, .int s0, .int k0] (pr_ NW D ca [(xo, oX xs xu xd xr xf), (xr, rA ca 4 16 (fun i => some (ra i))), (xf, rA ca 4 nf (fun i => some (fa i)))] zH (fun H => Rg D H ra g ∧ Fg D H fa fv nf))) (qI D (fun (r : Int32) (u : (Nat → Nat) × AI) => (r, u.2) = m_factor g nf fc s0 k0) (fun u => [(xo, oX xs xu xd xr xf), (xr, rA ca 4 16 (fun i => some (u.1 i))), (xf, rA ca 4 nf (fun i => some (fa i)))]) (fun u H => Rg D H u.1 u.2) (va_A [(xo, oX xs xu xd xr xf), (xr, rA ca 4 16 (fun i => some (ra i))), (xf, rA ca 4 nf (fun i => some (fa i)))] zH)) 0 0 (va_A [(xo, oX xs xu xd xr xf), (xr, rA ca 4 16 (fun i => some (ra i))), (xf, rA ca 4 nf (fun i => some (fa i)))] zH) := by
  have hk := NW_ok
  refine k_ofW (Qc := qI D (fun (r : Int32) (u : (Nat → Nat) × AI) => (r, u.2) = m_factor g nf fc s0 k0) (fun u => [(xo, oX xs xu xd xr xf), (xr, rA ca 4 16 (fun i => some (u.1 i))), (xf, rA ca 4 nf (fun i => some (fa i)))]) (fun u H => Rg D H u.1 u.2)) (by decide) (Nat.le_of_ble_eq_true rfl) ?_
  intro p e s m below meth c ls A H hH hx hb hr hts hown hlocks hnm hml hsz hP hD hK hN hA hAn hS hro hl
  have hl : lv_has ls 3 [(0, .ref xo), (1, .int s0), (2, .int k0)] := hl
  have hOF := k_outF hK (hH ▸ hP) (okc (oko 0 (by decide)) (okc (oka 4 (by decide)) (okc (oka 4 (by decide)) (okn)))) hAn
  have hOS := k_outS hK (hH ▸ hP) (okc (oko 0 (by decide)) (okc (oka 4 (by decide)) (okc (oka 4 (by decide)) (okn)))) hAn
  obtain ⟨hRg, hFg⟩ := hro
  refine lv_iload_n hx hb dX0_factor_0 rfl (lv_at hl 1 rfl) ?_
  refine k_calli (wr := [(xo, oX xs xu xd xr xf), (xr, rA ca 4 16 (fun i => some (ra i))), (xf, rA ca 4 nf (fun i => some (fa i)))]) (va_runS (As := [.int s0]) (rest := []) ⟨hx, hb, hml, hown, hts⟩ (ct_X0_isRegister hk l D ca H.size s0) (va_cwS 1 hts (lw_S q313 q314 q19 q315) rfl rfl rfl (by decide +kernel) ⟨Nat.le_of_ble_eq_true rfl, Nat.le_of_ble_eq_true rfl⟩) (k_pre hk hK hN hP hD [] (by decide) rfl trivial) rfl rfl hl.1 rfl (lv_room (Nat.le_of_ble_eq_true rfl)) dX0_factor_1 ⟨Nat.le_of_ble_eq_true rfl, Nat.le_of_ble_eq_true rfl⟩) hP hD hS hA [] [0, 1, 2] rfl rfl (by decide) (by decide) (fun r_1 u_2 H locs w_3 hP hD hxw_3 hzw_3 hqw_3 hS => ?_)
  obtain rfl : r_1 = bI (p_in s0.toInt64 0 15) := w_3
  refine lv_if_ne (tgt := 9) hx hb dX0_factor_4 (by decide) (fun c_4 => ?_) (fun c_4 => ?_)
  · have c_4 := bI_z1 c_4
    obtain ⟨js0, hjs0, rfl⟩ := in_nI (n := 16) (by decide) c_4
    refine lv_iload_n hx hb dX0_factor_9 rfl (lv_at hl 2 rfl) ?_
    refine lv_i2l (v := k0.toInt64) hx hb dX0_factor_10 rfl ?_
    refine lv_lconst (v := 0) hx hb dX0_factor_11 (by decide) ?_
    refine lv_aload_n hx hb dX0_factor_12 rfl (lv_at hl 0 rfl) ?_
    refine va_get (D := D) (ci := 0) (v := .ref xf) (C := RX0) (T := TX0) (N := 5) hx hb hts in_X0 hown hK hP 0 rfl rfl 4 (by decide) (hts _ q297) (fun _ h9 => h9) rfl dX0_factor_13 ?_
    refine va_alen (v := (nI nf)) hx hb hK hP 2 4 rfl rfl rfl dX0_factor_16 ?_
    refine lv_iconst (v := 1) hx hb dX0_factor_17 (by decide) ?_
    refine lv_isub hx hb dX0_factor_18 ?_
    refine lv_i2l (v := ((nI nf) - 1).toInt64) hx hb dX0_factor_19 rfl ?_
    refine k_calli (wr := [(xo, oX xs xu xd xr xf), (xr, rA ca 4 16 (fun i => some (ra i))), (xf, rA ca 4 nf (fun i => some (fa i)))]) (va_runS (As := [.long k0.toInt64, .long 0, .long (((nI nf) - 1).toInt64)]) (rest := []) ⟨hx, hb, hml, hown, hts⟩ (ct_X0_isIn hk l D ca H.size k0.toInt64 0 (((nI nf) - 1).toInt64)) (va_cwS 3 hts (lw_S q131 q132 q19 q133) rfl rfl rfl (by decide +kernel) ⟨Nat.le_of_ble_eq_true rfl, Nat.le_of_ble_eq_true rfl⟩) (k_pre hk hK hN hP hD [] (by decide) rfl trivial) rfl rfl hl.1 rfl (lv_room (Nat.le_of_ble_eq_true rfl)) dX0_factor_20 ⟨Nat.le_of_ble_eq_true rfl, Nat.le_of_ble_eq_true rfl⟩) hP hD hS hA [] [0, 1, 2] rfl rfl (by decide) (by decide) (fun r_5 u_6 H locs w_7 hP hD hxw_7 hzw_7 hqw_7 hS => ?_)
    obtain rfl : r_5 = bI (p_in k0.toInt64 0 (((nI nf) - 1).toInt64)) := w_7
    refine lv_if_ne (tgt := 29) hx hb dX0_factor_23 (by decide) (fun c_8 => ?_) (fun c_8 => ?_)
    · have c_8 := bI_z1 c_8
      obtain ⟨jk0, hjk0, rfl⟩ := in_nIv hnf c_8
      refine lv_aload_n hx hb dX0_factor_29 rfl (lv_at hl 0 rfl) ?_
      refine lv_iload_n hx hb dX0_factor_30 rfl (lv_at hl 1 rfl) ?_
      refine lv_aload_n hx hb dX0_factor_31 rfl (lv_at hl 0 rfl) ?_
      refine va_get (D := D) (ci := 0) (v := .ref xf) (C := RX0) (T := TX0) (N := 5) hx hb hts in_X0 hown hK hP 0 rfl rfl 4 (by decide) (hts _ q297) (fun _ h9 => h9) rfl dX0_factor_32 ?_
      refine lv_iload_n hx hb dX0_factor_35 rfl (lv_at hl 2 rfl) ?_
      refine va_aldq hx hb hK hP 2 4 rfl rfl (vin_nI (a := jk0) rfl (by omega) (by omega)) dX0_factor_36 ?_
      refine W.eq (g2 := F0 m 37 ls [.ref (fa jk0), .int (nI js0), .ref xo]) (by rw [nI_clamp (show jk0 < 2 ^ 31 by omega)]; rfl) ?_
      have hG_9 := hFg jk0 (by omega)
      have nG_9 := hOF _ _ hG_9
      refine k_calli (wr := [(xf, rA ca 4 nf (fun i => some (fa i)))]) (va_runV (As := [.int (nI js0), .ref (fa jk0)]) (rest := []) ⟨hx, hb, hml, hown, hts⟩ (ct_X0_hold l D ca H.size xo xs xu xd xr xf (fa jk0) js0 ra g (fv jk0) (by omega)) (cwV 2 hts (lw_V q320 q322 qs2 q19 q323) rfl rfl rfl (by decide +kernel) ⟨Nat.le_of_ble_eq_true rfl, Nat.le_of_ble_eq_true rfl⟩) (k_preV hk hK hN hP hD [0, 1] (by decide) rfl ⟨(hG_9.keep hS nG_9), (hRg.keep hS hOF)⟩ hP rfl (q0 := 0) rfl) rfl rfl hl.1 rfl (lv_room (Nat.le_of_ble_eq_true rfl)) dX0_factor_37 ⟨Nat.le_of_ble_eq_true rfl, Nat.le_of_ble_eq_true rfl⟩) hP hD hS hA [0, 1] [2] rfl rfl (by decide) (by decide) (fun r_10 u_11 H locs w_12 hP hD hxw_12 hzw_12 hqw_12 hS => ?_)
      have hP : va_P D vwCl [(xf, rA ca 4 nf (fun i => some (fa i))), (xo, oX xs xu xd xr xf), (xr, rA ca 4 16 (fun i => some (u_11 i)))] H := hP
      have hD : va_D A [(xf, rA ca 4 nf (fun i => some (fa i))), (xo, oX xs xu xd xr xf), (xr, rA ca 4 16 (fun i => some (u_11 i)))] := hD
      obtain rfl : r_10 = if q_low (fv jk0) then 0 else -3 := w_12
      refine lv_if_ge (tgt := 48) hx hb dX0_factor_40 (by decide) (fun c_13 => ?_) (fun c_13 => ?_)
      · have c_13 := low_ge c_13
        refine lv_aload_n hx hb dX0_factor_48 rfl (lv_at hl 0 rfl) ?_
        refine va_get (D := D) (ci := 0) (v := .ref xf) (C := RX0) (T := TX0) (N := 5) hx hb hts in_X0 hown hK hP 1 rfl rfl 4 (by decide) (hts _ q297) (fun _ h9 => h9) rfl dX0_factor_49 ?_
        refine lv_iload_n hx hb dX0_factor_52 rfl (lv_at hl 2 rfl) ?_
        refine va_aldq hx hb hK hP 0 4 rfl rfl (vin_nI (a := jk0) rfl (by omega) (by omega)) dX0_factor_53 ?_
        refine W.eq (g2 := F0 m 54 ls [.ref (fa jk0)]) (by rw [nI_clamp (show jk0 < 2 ^ 31 by omega)]; rfl) ?_
        have hPo := hP
        refine k_calll (wr := [(xf, rA ca 4 nf (fun i => some (fa i))), (xo, oX xs xu xd xr xf), (xr, rA ca 4 16 (fun i => some (u_11 i)))]) (va_runV (As := []) (rest := []) ⟨hx, hb, hml, hown, hts⟩ (ct_X1_norm l D ca H.size (fa jk0) (fv jk0)) (cwV 0 hts (lw_V q350 q351 q352 q20 q353) rfl rfl rfl (by decide +kernel) ⟨Nat.le_of_ble_eq_true rfl, Nat.le_of_ble_eq_true rfl⟩) (k_preV hk hK hN hP hD [] (by decide) rfl (hG_9.keep hS nG_9) (hG_9.keep hS nG_9) rfl (q0 := 0) rfl) rfl rfl hl.1 rfl (lv_room (Nat.le_of_ble_eq_true rfl)) dX0_factor_54 ⟨Nat.le_of_ble_eq_true rfl, Nat.le_of_ble_eq_true rfl⟩) hP hD hS hA [] [0, 1, 2] rfl rfl (by decide) (by decide) (fun r_14 u_15 H locs w_16 hP hD hxw_16 hzw_16 hqw_16 hS => ?_)
        have hxw_12 := Rg.call hK (wc := []) (k_sub hPo [] rfl) (okn) hqw_16 hxw_12
        obtain rfl : r_14 = q_norm (fv jk0) := w_16
        refine lv_l2i (v := (q_norm (fv jk0)).toInt32) hx hb dX0_factor_57 rfl ?_
        exact k_iret (u_11, h_g g js0 (fv jk0)) hx hb hr hlocks (by have hlo := c_13; rw [hfv jk0 hjk0] at hlo; simp [m_factor, h_g, hlo, hfv jk0 hjk0, c_4, c_8, nI_clamp (show js0 < 2 ^ 31 by omega), nI_clamp (show jk0 < 2 ^ 31 by omega)]) (hP.sub [1, 2, 0] rfl) (hD.sub [1, 2, 0] (by decide) rfl) hxw_12 hS (Nat.le_of_ble_eq_true rfl) (Nat.le_of_ble_eq_true rfl) dX0_factor_58
      · have c_13 := low_lt c_13
        refine lv_bipush (v := (-3)) hx hb dX0_factor_43 (by decide) ?_
        refine lv_goto (tgt := 58) hx hb dX0_factor_45 (by decide) ?_
        exact k_iret (u_11, h_g g js0 (fv jk0)) hx hb hr hlocks (by have hlo := c_13; rw [hfv jk0 hjk0] at hlo; simp [m_factor, h_g, hlo, hfv jk0 hjk0, c_4, c_8, nI_clamp (show js0 < 2 ^ 31 by omega), nI_clamp (show jk0 < 2 ^ 31 by omega)]) (hP.sub [1, 2, 0] rfl) (hD.sub [1, 2, 0] (by decide) rfl) hxw_12 hS (Nat.le_of_ble_eq_true rfl) (Nat.le_of_ble_eq_true rfl) dX0_factor_58
    · have c_8 := bI_z0 c_8
      refine lv_bipush (v := (-2)) hx hb dX0_factor_26 (by decide) ?_
      exact k_iret (ra, g) hx hb hr hlocks (by simp [m_factor, c_4, c_8, nI_clamp (show js0 < 2 ^ 31 by omega)]) hP hD (hRg.keep hS hOF) hS (Nat.le_of_ble_eq_true rfl) (Nat.le_of_ble_eq_true rfl) dX0_factor_28
  · have c_4 := bI_z0 c_4
    refine lv_iconst (v := (-1)) hx hb dX0_factor_7 (by decide) ?_
    exact k_iret (ra, g) hx hb hr hlocks (by simp [m_factor, c_4]) hP hD (hRg.keep hS hOF) hS (Nat.le_of_ble_eq_true rfl) (Nat.le_of_ble_eq_true rfl) dX0_factor_8
