set_option maxHeartbeats 4000000 in
set_option maxRecDepth 100000 in
theorem ct_X0_divisor (l : Launch) (D : va_G) (ca : Nat → ClassId) (zH : Nat) (xo xs xu xd xr xf : Nat) (ua : Nat → Nat) (un : AI) (e0 e1 : Nat) (ra : Nat → Nat) (g : AI) (s0 t0 u0 d0 : Int32) (hR : okR g) : Met l yX0_divisor (ws_ yX0_divisor cX0_divisor 6 (some .int)) ({ frames := 7, cells := 224, slots := 896, locals := 167 }) (va_Pc [.ref xo, .int s0, .int t0, .int u0, .int d0] (pr_ NW D ca [(xo, oX xs xu xd xr xf), (xu, rA ca 4 24 (fun i => some (ua i))), (xd, rA ca 5 2 (sdf e0 e1)), (xr, rA ca 4 16 (fun i => some (ra i)))] zH (fun H => Ug D H ua un ∧ Sd D H e0 e1 ∧ Rg D H ra g))) (qI D (fun (r : Int32) (u : (Nat → Nat) × AI) => (r, u.2) = m_divisor g un s0 t0 u0 d0) (fun u => [(xo, oX xs xu xd xr xf), (xu, rA ca 4 24 (fun i => some (ua i))), (xd, rA ca 5 2 (sdf e0 e1)), (xr, rA ca 4 16 (fun i => some (u.1 i)))]) (fun u H => Rg D H u.1 u.2) (va_A [(xo, oX xs xu xd xr xf), (xu, rA ca 4 24 (fun i => some (ua i))), (xd, rA ca 5 2 (sdf e0 e1)), (xr, rA ca 4 16 (fun i => some (ra i)))] zH)) 224 896 (va_A [(xo, oX xs xu xd xr xf), (xu, rA ca 4 24 (fun i => some (ua i))), (xd, rA ca 5 2 (sdf e0 e1)), (xr, rA ca 4 16 (fun i => some (ra i)))] zH) := by
  have hk := NW_ok
  refine k_ofW (Qc := qI D (fun (r : Int32) (u : (Nat → Nat) × AI) => (r, u.2) = m_divisor g un s0 t0 u0 d0) (fun u => [(xo, oX xs xu xd xr xf), (xu, rA ca 4 24 (fun i => some (ua i))), (xd, rA ca 5 2 (sdf e0 e1)), (xr, rA ca 4 16 (fun i => some (u.1 i)))]) (fun u H => Rg D H u.1 u.2)) (by decide) (Nat.le_of_ble_eq_true rfl) ?_
  intro p e s m below meth c ls A H hH hx hb hr hts hown hlocks hnm hml hsz hP hD hK hN hA hAn hS hro hl
  have hl : lv_has ls 6 [(0, .ref xo), (1, .int s0), (2, .int t0), (3, .int u0), (4, .int d0)] := hl
  have hOF := k_outF hK (hH ▸ hP) (okc (oko 0 (by decide)) (okc (oka 4 (by decide)) (okc (oka 5 (by decide)) (okc (oka 4 (by decide)) (okn))))) hAn
  have hOS := k_outS hK (hH ▸ hP) (okc (oko 0 (by decide)) (okc (oka 4 (by decide)) (okc (oka 5 (by decide)) (okc (oka 4 (by decide)) (okn))))) hAn
  obtain ⟨hUg, hSd, hRg⟩ := hro
  refine lv_iload_n hx hb dX0_divisor_0 rfl (lv_at hl 1 rfl) ?_
  refine k_calli (wr := [(xo, oX xs xu xd xr xf), (xu, rA ca 4 24 (fun i => some (ua i))), (xd, rA ca 5 2 (sdf e0 e1)), (xr, rA ca 4 16 (fun i => some (ra i)))]) (va_runS (As := [.int s0]) (rest := []) ⟨hx, hb, hml, hown, hts⟩ (ct_X0_isRegister hk l D ca H.size s0) (va_cwS 1 hts (lw_S q313 q314 q19 q315) rfl rfl rfl (by decide +kernel) ⟨Nat.le_of_ble_eq_true rfl, Nat.le_of_ble_eq_true rfl⟩) (k_pre hk hK hN hP hD [] (by decide) rfl trivial) rfl rfl hl.1 rfl (lv_room (Nat.le_of_ble_eq_true rfl)) dX0_divisor_1 ⟨Nat.le_of_ble_eq_true rfl, Nat.le_of_ble_eq_true rfl⟩) hP hD hS hA [] [0, 1, 2, 3] rfl rfl (by decide) (by decide) (fun r_1 u_2 H locs w_3 hP hD hxw_3 hzw_3 hqw_3 hS => ?_)
  obtain rfl : r_1 = bI (p_in s0.toInt64 0 15) := w_3
  refine lv_if_eq (tgt := 29) hx hb dX0_divisor_4 (by decide) (fun c_4 => ?_) (fun c_4 => ?_)
  · have c_4 := bI_z0 c_4
    refine lv_iconst (v := (-1)) hx hb dX0_divisor_29 (by decide) ?_
    exact k_iret (ra, g) hx hb hr hlocks (by simp [m_divisor, c_4]) hP hD (hRg.keep hS hOF) hS (Nat.le_of_ble_eq_true rfl) (Nat.le_of_ble_eq_true rfl) dX0_divisor_30
  · have c_4 := bI_z1 c_4
    obtain ⟨js0, hjs0, rfl⟩ := in_nI (n := 16) (by decide) c_4
    refine lv_iload_n hx hb dX0_divisor_7 rfl (lv_at hl 2 rfl) ?_
    refine k_calli (wr := [(xo, oX xs xu xd xr xf), (xu, rA ca 4 24 (fun i => some (ua i))), (xd, rA ca 5 2 (sdf e0 e1)), (xr, rA ca 4 16 (fun i => some (ra i)))]) (va_runS (As := [.int t0]) (rest := []) ⟨hx, hb, hml, hown, hts⟩ (ct_X0_isRegister hk l D ca H.size t0) (va_cwS 1 hts (lw_S q313 q314 q19 q315) rfl rfl rfl (by decide +kernel) ⟨Nat.le_of_ble_eq_true rfl, Nat.le_of_ble_eq_true rfl⟩) (k_pre hk hK hN hP hD [] (by decide) rfl trivial) rfl rfl hl.1 rfl (lv_room (Nat.le_of_ble_eq_true rfl)) dX0_divisor_8 ⟨Nat.le_of_ble_eq_true rfl, Nat.le_of_ble_eq_true rfl⟩) hP hD hS hA [] [0, 1, 2, 3] rfl rfl (by decide) (by decide) (fun r_5 u_6 H locs w_7 hP hD hxw_7 hzw_7 hqw_7 hS => ?_)
    obtain rfl : r_5 = bI (p_in t0.toInt64 0 15) := w_7
    refine lv_if_eq (tgt := 29) hx hb dX0_divisor_11 (by decide) (fun c_8 => ?_) (fun c_8 => ?_)
    · have c_8 := bI_z0 c_8
      refine lv_iconst (v := (-1)) hx hb dX0_divisor_29 (by decide) ?_
      exact k_iret (ra, g) hx hb hr hlocks (by simp [m_divisor, c_4, c_8, nI_clamp (show js0 < 2 ^ 31 by omega)]) hP hD (hRg.keep hS hOF) hS (Nat.le_of_ble_eq_true rfl) (Nat.le_of_ble_eq_true rfl) dX0_divisor_30
    · have c_8 := bI_z1 c_8
      obtain ⟨jt0, hjt0, rfl⟩ := in_nI (n := 16) (by decide) c_8
      refine lv_iload_n hx hb dX0_divisor_14 rfl (lv_at hl 3 rfl) ?_
      refine k_calli (wr := [(xo, oX xs xu xd xr xf), (xu, rA ca 4 24 (fun i => some (ua i))), (xd, rA ca 5 2 (sdf e0 e1)), (xr, rA ca 4 16 (fun i => some (ra i)))]) (va_runS (As := [.int u0]) (rest := []) ⟨hx, hb, hml, hown, hts⟩ (ct_X0_isRegister hk l D ca H.size u0) (va_cwS 1 hts (lw_S q313 q314 q19 q315) rfl rfl rfl (by decide +kernel) ⟨Nat.le_of_ble_eq_true rfl, Nat.le_of_ble_eq_true rfl⟩) (k_pre hk hK hN hP hD [] (by decide) rfl trivial) rfl rfl hl.1 rfl (lv_room (Nat.le_of_ble_eq_true rfl)) dX0_divisor_15 ⟨Nat.le_of_ble_eq_true rfl, Nat.le_of_ble_eq_true rfl⟩) hP hD hS hA [] [0, 1, 2, 3] rfl rfl (by decide) (by decide) (fun r_9 u_10 H locs w_11 hP hD hxw_11 hzw_11 hqw_11 hS => ?_)
      obtain rfl : r_9 = bI (p_in u0.toInt64 0 15) := w_11
      refine lv_if_eq (tgt := 29) hx hb dX0_divisor_18 (by decide) (fun c_12 => ?_) (fun c_12 => ?_)
      · have c_12 := bI_z0 c_12
        refine lv_iconst (v := (-1)) hx hb dX0_divisor_29 (by decide) ?_
        exact k_iret (ra, g) hx hb hr hlocks (by simp [m_divisor, c_4, c_8, c_12, nI_clamp (show js0 < 2 ^ 31 by omega), nI_clamp (show jt0 < 2 ^ 31 by omega)]) hP hD (hRg.keep hS hOF) hS (Nat.le_of_ble_eq_true rfl) (Nat.le_of_ble_eq_true rfl) dX0_divisor_30
      · have c_12 := bI_z1 c_12
        obtain ⟨ju0, hju0, rfl⟩ := in_nI (n := 16) (by decide) c_12
        refine lv_iload hx hb dX0_divisor_21 (lv_at hl 4 rfl) ?_
        refine k_calli (wr := [(xo, oX xs xu xd xr xf), (xu, rA ca 4 24 (fun i => some (ua i))), (xd, rA ca 5 2 (sdf e0 e1)), (xr, rA ca 4 16 (fun i => some (ra i)))]) (va_runS (As := [.int d0]) (rest := []) ⟨hx, hb, hml, hown, hts⟩ (ct_X0_isSide hk l D ca H.size d0) (va_cwS 1 hts (lw_S q404 q405 q19 q406) rfl rfl rfl (by decide +kernel) ⟨Nat.le_of_ble_eq_true rfl, Nat.le_of_ble_eq_true rfl⟩) (k_pre hk hK hN hP hD [] (by decide) rfl trivial) rfl rfl hl.1 rfl (lv_room (Nat.le_of_ble_eq_true rfl)) dX0_divisor_23 ⟨Nat.le_of_ble_eq_true rfl, Nat.le_of_ble_eq_true rfl⟩) hP hD hS hA [] [0, 1, 2, 3] rfl rfl (by decide) (by decide) (fun r_13 u_14 H locs w_15 hP hD hxw_15 hzw_15 hqw_15 hS => ?_)
        obtain rfl : r_13 = bI (p_in d0.toInt64 0 1) := w_15
        refine lv_if_ne (tgt := 31) hx hb dX0_divisor_26 (by decide) (fun c_16 => ?_) (fun c_16 => ?_)
        · have c_16 := bI_z1 c_16
          obtain ⟨jd0, hjd0, rfl⟩ := in_nI (n := 2) (by decide) c_16
          refine lv_aload_n hx hb dX0_divisor_31 rfl (lv_at hl 0 rfl) ?_
          refine va_get (D := D) (ci := 0) (v := .ref xr) (C := RX0) (T := TX0) (N := 5) hx hb hts in_X0 hown hK hP 0 rfl rfl 3 (by decide) (hts _ q296) (fun _ h9 => h9) rfl dX0_divisor_32 ?_
          refine lv_iload_n hx hb dX0_divisor_35 rfl (lv_at hl 2 rfl) ?_
          refine va_aldq hx hb hK hP 3 4 rfl rfl (vin_nI (a := jt0) rfl (by omega) (by omega)) dX0_divisor_36 ?_
          refine W.eq (g2 := F0 m 37 ls [.ref (ra jt0)]) (by rw [nI_clamp (show jt0 < 2 ^ 31 by omega)]; rfl) ?_
          have hG_17 := hRg jt0 (by omega)
          have nG_17 := hOF _ _ hG_17
          refine k_calli (wr := [(xo, oX xs xu xd xr xf), (xu, rA ca 4 24 (fun i => some (ua i))), (xd, rA ca 5 2 (sdf e0 e1)), (xr, rA ca 4 16 (fun i => some (ra i)))]) (kd_runV (x := yF_isNought) (owner := "FourParts$Parts") (As := []) (rest := []) ⟨hx, hb, hml, hown, hts⟩ (ct_X7_isNought l D ca H.size (ra jt0) (rq g jt0)) qI_ret rfl (lw_meth q363) rfl rfl rfl ⟨Nat.le_of_ble_eq_true rfl, Nat.le_of_ble_eq_true rfl⟩ (hN.1 _ (List.mem_of_getElem? (i := 3) rfl)) (hN.1 _ (List.mem_of_getElem? (i := 6) rfl)) (va_Decl.abs (hN.2.2.1 _ (List.mem_of_getElem? (i := 0) rfl))) ⟨by decide, by decide⟩ hN.2.2.2.2.2.2.2.2.2.1 (hts _ q361) (by decide +kernel) (k_preV hk hK hN hP hD [] (by decide) rfl (hG_17.keep hS nG_17) (hG_17.keep hS nG_17) rfl (q0 := 0) rfl) rfl rfl hl.1 rfl (lv_room (Nat.le_of_ble_eq_true rfl)) dX0_divisor_37 ⟨Nat.le_of_ble_eq_true rfl, Nat.le_of_ble_eq_true rfl⟩) hP hD hS hA [] [0, 1, 2, 3] rfl rfl (by decide) (by decide) (fun r_18 u_19 H locs w_20 hP hD hxw_20 hzw_20 hqw_20 hS => ?_)
          obtain rfl : r_18 = bI (q_nz (rq g jt0)) := w_20
          have hP : va_P D vwCl [(xo, oX xs xu xd xr xf), (xu, rA ca 4 24 (fun i => some (ua i))), (xd, rA ca 5 2 (sdf e0 e1)), (xr, rA ca 4 16 (fun i => some (ra i)))] H := hP
          have hD : va_D A [(xo, oX xs xu xd xr xf), (xu, rA ca 4 24 (fun i => some (ua i))), (xd, rA ca 5 2 (sdf e0 e1)), (xr, rA ca 4 16 (fun i => some (ra i)))] := hD
          refine lv_if_eq (tgt := 58) hx hb dX0_divisor_40 (by decide) (fun c_21 => ?_) (fun c_21 => ?_)
          · have c_21 := bI_z0 c_21
            have c_21 := (null_z (hR.sq hjt0)).2.symm.trans c_21
            refine lv_aload_n hx hb dX0_divisor_58 rfl (lv_at hl 0 rfl) ?_
            refine va_get (D := D) (ci := 0) (v := .ref xd) (C := RX0) (T := TX0) (N := 5) hx hb hts in_X0 hown hK hP 0 rfl rfl 2 (by decide) (hts _ q295) (fun _ h9 => h9) rfl dX0_divisor_59 ?_
            refine lv_iload hx hb dX0_divisor_62 (lv_at hl 4 rfl) ?_
            rcases (show jd0 = 0 ∨ jd0 = 1 by omega) with rfl | rfl
            · refine va_aldq hx hb hK hP 2 5 rfl rfl (vin_nI (a := 0) rfl (by omega) (by omega)) dX0_divisor_64 ?_
              refine W.eq (g2 := F0 m 65 ls [.ref e0]) (by rw [nI_clamp (show 0 < 2 ^ 31 by omega)]; rfl) ?_
              have hE_22 := hSd.1
              have nE_22 := hOS _ _ (Or.inl rfl) hE_22
              refine lv_aload_n hx hb dX0_divisor_65 rfl (lv_at hl 0 rfl) ?_
              refine va_get (D := D) (ci := 0) (v := .ref xr) (C := RX0) (T := TX0) (N := 5) hx hb hts in_X0 hown hK hP 0 rfl rfl 3 (by decide) (hts _ q296) (fun _ h9 => h9) rfl dX0_divisor_66 ?_
              refine lv_iload_n hx hb dX0_divisor_69 rfl (lv_at hl 2 rfl) ?_
              refine va_aldq hx hb hK hP 3 4 rfl rfl (vin_nI (a := jt0) rfl (by omega) (by omega)) dX0_divisor_70 ?_
              refine W.eq (g2 := F0 m 71 ls [.ref (ra jt0), .ref e0]) (by rw [nI_clamp (show jt0 < 2 ^ 31 by omega)]; rfl) ?_
              refine lv_aload_n hx hb dX0_divisor_71 rfl (lv_at hl 0 rfl) ?_
              refine va_get (D := D) (ci := 0) (v := .ref xr) (C := RX0) (T := TX0) (N := 5) hx hb hts in_X0 hown hK hP 0 rfl rfl 3 (by decide) (hts _ q296) (fun _ h9 => h9) rfl dX0_divisor_72 ?_
              refine lv_iload_n hx hb dX0_divisor_75 rfl (lv_at hl 3 rfl) ?_
              refine va_aldq hx hb hK hP 3 4 rfl rfl (vin_nI (a := ju0) rfl (by omega) (by omega)) dX0_divisor_76 ?_
              refine W.eq (g2 := F0 m 77 ls [.ref (ra ju0), .ref (ra jt0), .ref e0]) (by rw [nI_clamp (show ju0 < 2 ^ 31 by omega)]; rfl) ?_
              have hG_23 := hRg ju0 (by omega)
              have nG_23 := hOF _ _ hG_23
              refine lv_aload_n hx hb dX0_divisor_77 rfl (lv_at hl 0 rfl) ?_
              refine va_get (D := D) (ci := 0) (v := .ref xu) (C := RX0) (T := TX0) (N := 5) hx hb hts in_X0 hown hK hP 0 rfl rfl 1 (by decide) (hts _ q294) (fun _ h9 => h9) rfl dX0_divisor_78 ?_
              refine k_callr (wr := [(xo, oX xs xu xd xr xf), (xu, rA ca 4 24 (fun i => some (ua i))), (xd, rA ca 5 2 (sdf e0 e1)), (xr, rA ca 4 16 (fun i => some (ra i)))]) (va_runU (x := yX2_divisor) (As := [.ref (ra jt0), .ref (ra ju0), .ref xu]) (rest := []) ⟨hx, hb, hml, hown, hts⟩ (ct_X2_divisor_R l D ca H.size e0 (ra jt0) (ra ju0) xu (rq g jt0) (rq g ju0) ua un (eucBoth_2 (euc_runs 40 (hR.hz hjt0) (hR.hz hju0) (hR.sq hjt0) (hR.sq hju0) (by have := hR.sq hju0; omega)))) (va_cwU (C := "FourParts$Right") (owner := "FourParts$Side") (x := yX2_divisor) 3 hts (lw_app (fun w hw => by simp only [List.mem_cons, List.not_mem_nil, or_false] at hw; rcases hw with e | e | e | e | e <;> rw [e] <;> first | exact q459 | exact q461 | exact q463 | exact q460 | exact q21) (lw_meth q464)) rfl rfl rfl rfl (by decide +kernel) ⟨Nat.le_of_ble_eq_true rfl, Nat.le_of_ble_eq_true rfl⟩) (k_preV hk hK hN hP hD [] (by decide) rfl ⟨(hE_22.keep hS nE_22), (hG_17.keep hS nG_17), (hG_23.keep hS nG_23), ⟨k_sub hP [1] rfl, hUg.keep hS hOF⟩⟩ (hE_22.keep hS nE_22) rfl (q0 := 0) rfl) rfl rfl hl.1 rfl (lv_room (Nat.le_of_ble_eq_true rfl)) dX0_divisor_81 ⟨Nat.le_of_ble_eq_true rfl, Nat.le_of_ble_eq_true rfl⟩) hP hD hS hA [] [0, 1, 2, 3] rfl rfl (by decide) (by decide) (fun u_25 r_24 H locs w_26 hP hD hxw_26 hzw_26 hqw_26 hS => ?_)
              obtain ⟨dv_27, hdv_27⟩ : ∃ x : Q4, x = (bst un 0 (eucC 0 40 (rq g jt0) (rq g ju0)) 24) := ⟨_, rfl⟩
              rw [← hdv_27] at hxw_26
              refine lv_astore (lv' := [(5, .ref r_24), (0, .ref xo), (1, .int (nI js0)), (2, .int (nI jt0)), (3, .int (nI ju0)), (4, .int (nI 0))]) hx hb dX0_divisor_84 hl (by decide) rfl (fun ls hl => ?_)
              refine lv_aload_n hx hb dX0_divisor_86 rfl (lv_at hl 1 rfl) ?_
              refine lv_iload_n hx hb dX0_divisor_87 rfl (lv_at hl 2 rfl) ?_
              refine lv_aload hx hb dX0_divisor_88 (lv_at hl 0 rfl) ?_
              have hPo := hP
              refine k_calli (wr := [(xu, rA ca 4 24 (fun i => some (ua i))), (xd, rA ca 5 2 (sdf e0 e1))]) (va_runV (As := [.int (nI js0), .ref r_24]) (rest := []) ⟨hx, hb, hml, hown, hts⟩ (ct_X0_hold l D ca H.size xo xs xu xd xr xf r_24 js0 ra g dv_27 (by omega)) (cwV 2 hts (lw_V q320 q322 qs2 q19 q323) rfl rfl rfl (by decide +kernel) ⟨Nat.le_of_ble_eq_true rfl, Nat.le_of_ble_eq_true rfl⟩) (k_preV hk hK hN hP hD [0, 3] (by decide) rfl ⟨hxw_26, (hRg.keep hS hOF)⟩ hP rfl (q0 := 0) rfl) rfl rfl hl.1 rfl (lv_room (Nat.le_of_ble_eq_true rfl)) dX0_divisor_90 ⟨Nat.le_of_ble_eq_true rfl, Nat.le_of_ble_eq_true rfl⟩) hP hD hS hA [0, 3] [1, 2] rfl rfl (by decide) (by decide) (fun r_28 u_29 H locs w_30 hP hD hxw_30 hzw_30 hqw_30 hS => ?_)
              have hP : va_P D vwCl [(xu, rA ca 4 24 (fun i => some (ua i))), (xd, rA ca 5 2 (sdf e0 e1)), (xo, oX xs xu xd xr xf), (xr, rA ca 4 16 (fun i => some (u_29 i)))] H := hP
              have hD : va_D A [(xu, rA ca 4 24 (fun i => some (ua i))), (xd, rA ca 5 2 (sdf e0 e1)), (xo, oX xs xu xd xr xf), (xr, rA ca 4 16 (fun i => some (u_29 i)))] := hD
              have hxw_26 := fo_call hK (wc := [(xo, oX xs xu xd xr xf), (xr, rA ca 4 16 (fun i => some (ra i)))]) (k_sub hPo [0, 3] rfl) (okc (oko 0 (by decide)) (okc (oka 4 (by decide)) (okn))) hqw_30 hxw_26
              obtain rfl : r_28 = if q_low dv_27 then 0 else -3 := w_30
              refine lv_if_ge (tgt := 101) hx hb dX0_divisor_93 (by decide) (fun c_31 => ?_) (fun c_31 => ?_)
              · have c_31 := low_ge c_31
                refine lv_aload hx hb dX0_divisor_101 (lv_at hl 0 rfl) ?_
                have hPo := hP
                refine k_calll (wr := [(xu, rA ca 4 24 (fun i => some (ua i))), (xd, rA ca 5 2 (sdf e0 e1)), (xo, oX xs xu xd xr xf), (xr, rA ca 4 16 (fun i => some (u_29 i)))]) (va_runV (As := []) (rest := []) ⟨hx, hb, hml, hown, hts⟩ (ct_X1_norm l D ca H.size r_24 dv_27) (cwV 0 hts (lw_V q350 q351 q352 q20 q353) rfl rfl rfl (by decide +kernel) ⟨Nat.le_of_ble_eq_true rfl, Nat.le_of_ble_eq_true rfl⟩) (k_preV hk hK hN hP hD [] (by decide) rfl hxw_26 hxw_26 rfl (q0 := 0) rfl) rfl rfl hl.1 rfl (lv_room (Nat.le_of_ble_eq_true rfl)) dX0_divisor_103 ⟨Nat.le_of_ble_eq_true rfl, Nat.le_of_ble_eq_true rfl⟩) hP hD hS hA [] [0, 1, 2, 3] rfl rfl (by decide) (by decide) (fun r_32 u_33 H locs w_34 hP hD hxw_34 hzw_34 hqw_34 hS => ?_)
                have hxw_26 := hxw_26.mov (hqw_34 _ hxw_26.lt (va_A_nil hxw_26.lt))
                have hxw_30 := Rg.call hK (wc := []) (k_sub hPo [] rfl) (okn) hqw_34 hxw_30
                obtain rfl : r_32 = q_norm dv_27 := w_34
                refine lv_l2i (v := (q_norm dv_27).toInt32) hx hb dX0_divisor_106 rfl ?_
                exact k_iret (u_29, h_g g js0 dv_27) hx hb hr hlocks (by have he := eucBoth_3 (sd := 0) (euc_runs 40 (hR.hz hjt0) (hR.hz hju0) (hR.sq hjt0) (hR.sq hju0) (by have := hR.sq hju0; omega)); rw [he] at hdv_27; rw [m_divisor, if_pos c_4, if_pos c_8, if_pos c_12, if_pos c_16, nI_clamp (show js0 < 2 ^ 31 by omega), nI_clamp (show jt0 < 2 ^ 31 by omega), nI_clamp (show ju0 < 2 ^ 31 by omega), show nI 0 = 0 from rfl, if_neg (show ¬ (q_null (rq g jt0) && q_null (rq g ju0)) = true from by simp [c_21]), ← hdv_27, if_pos c_31]; simp only [h_g, c_31, if_true]) (hP.sub [2, 0, 1, 3] rfl) (hD.sub [2, 0, 1, 3] (by decide) rfl) hxw_30 hS (Nat.le_of_ble_eq_true rfl) (Nat.le_of_ble_eq_true rfl) dX0_divisor_107
              · have c_31 := low_lt c_31
                refine lv_bipush (v := (-3)) hx hb dX0_divisor_96 (by decide) ?_
                refine lv_goto (tgt := 107) hx hb dX0_divisor_98 (by decide) ?_
                exact k_iret (u_29, h_g g js0 dv_27) hx hb hr hlocks (by have he := eucBoth_3 (sd := 0) (euc_runs 40 (hR.hz hjt0) (hR.hz hju0) (hR.sq hjt0) (hR.sq hju0) (by have := hR.sq hju0; omega)); rw [he] at hdv_27; rw [m_divisor, if_pos c_4, if_pos c_8, if_pos c_12, if_pos c_16, nI_clamp (show js0 < 2 ^ 31 by omega), nI_clamp (show jt0 < 2 ^ 31 by omega), nI_clamp (show ju0 < 2 ^ 31 by omega), show nI 0 = 0 from rfl, if_neg (show ¬ (q_null (rq g jt0) && q_null (rq g ju0)) = true from by simp [c_21]), ← hdv_27, if_neg (show ¬ q_low dv_27 = true from by rw [c_31]; decide)]; simp only [h_g, c_31, Bool.false_eq_true, if_false]) (hP.sub [2, 0, 1, 3] rfl) (hD.sub [2, 0, 1, 3] (by decide) rfl) hxw_30 hS (Nat.le_of_ble_eq_true rfl) (Nat.le_of_ble_eq_true rfl) dX0_divisor_107
            · refine va_aldq hx hb hK hP 2 5 rfl rfl (vin_nI (a := 1) rfl (by omega) (by omega)) dX0_divisor_64 ?_
              refine W.eq (g2 := F0 m 65 ls [.ref e1]) (by rw [nI_clamp (show 1 < 2 ^ 31 by omega)]; rfl) ?_
              have hE_35 := hSd.2
              have nE_35 := hOS _ _ (Or.inr rfl) hE_35
              refine lv_aload_n hx hb dX0_divisor_65 rfl (lv_at hl 0 rfl) ?_
              refine va_get (D := D) (ci := 0) (v := .ref xr) (C := RX0) (T := TX0) (N := 5) hx hb hts in_X0 hown hK hP 0 rfl rfl 3 (by decide) (hts _ q296) (fun _ h9 => h9) rfl dX0_divisor_66 ?_
              refine lv_iload_n hx hb dX0_divisor_69 rfl (lv_at hl 2 rfl) ?_
              refine va_aldq hx hb hK hP 3 4 rfl rfl (vin_nI (a := jt0) rfl (by omega) (by omega)) dX0_divisor_70 ?_
              refine W.eq (g2 := F0 m 71 ls [.ref (ra jt0), .ref e1]) (by rw [nI_clamp (show jt0 < 2 ^ 31 by omega)]; rfl) ?_
              refine lv_aload_n hx hb dX0_divisor_71 rfl (lv_at hl 0 rfl) ?_
              refine va_get (D := D) (ci := 0) (v := .ref xr) (C := RX0) (T := TX0) (N := 5) hx hb hts in_X0 hown hK hP 0 rfl rfl 3 (by decide) (hts _ q296) (fun _ h9 => h9) rfl dX0_divisor_72 ?_
              refine lv_iload_n hx hb dX0_divisor_75 rfl (lv_at hl 3 rfl) ?_
              refine va_aldq hx hb hK hP 3 4 rfl rfl (vin_nI (a := ju0) rfl (by omega) (by omega)) dX0_divisor_76 ?_
              refine W.eq (g2 := F0 m 77 ls [.ref (ra ju0), .ref (ra jt0), .ref e1]) (by rw [nI_clamp (show ju0 < 2 ^ 31 by omega)]; rfl) ?_
              have hG_36 := hRg ju0 (by omega)
              have nG_36 := hOF _ _ hG_36
              refine lv_aload_n hx hb dX0_divisor_77 rfl (lv_at hl 0 rfl) ?_
              refine va_get (D := D) (ci := 0) (v := .ref xu) (C := RX0) (T := TX0) (N := 5) hx hb hts in_X0 hown hK hP 0 rfl rfl 1 (by decide) (hts _ q294) (fun _ h9 => h9) rfl dX0_divisor_78 ?_
              refine k_callr (wr := [(xo, oX xs xu xd xr xf), (xu, rA ca 4 24 (fun i => some (ua i))), (xd, rA ca 5 2 (sdf e0 e1)), (xr, rA ca 4 16 (fun i => some (ra i)))]) (va_runU (x := yX2_divisor) (As := [.ref (ra jt0), .ref (ra ju0), .ref xu]) (rest := []) ⟨hx, hb, hml, hown, hts⟩ (ct_X2_divisor_L l D ca H.size e1 (ra jt0) (ra ju0) xu (rq g jt0) (rq g ju0) ua un (eucBoth_2 (euc_runs 40 (hR.hz hjt0) (hR.hz hju0) (hR.sq hjt0) (hR.sq hju0) (by have := hR.sq hju0; omega)))) (va_cwU (C := "FourParts$Left") (owner := "FourParts$Side") (x := yX2_divisor) 3 hts (lw_app (fun w hw => by simp only [List.mem_cons, List.not_mem_nil, or_false] at hw; rcases hw with e | e | e | e | e <;> rw [e] <;> first | exact q459 | exact q461 | exact q462 | exact q460 | exact q21) (lw_meth q464)) rfl rfl rfl rfl (by decide +kernel) ⟨Nat.le_of_ble_eq_true rfl, Nat.le_of_ble_eq_true rfl⟩) (k_preV hk hK hN hP hD [] (by decide) rfl ⟨(hE_35.keep hS nE_35), (hG_17.keep hS nG_17), (hG_36.keep hS nG_36), ⟨k_sub hP [1] rfl, hUg.keep hS hOF⟩⟩ (hE_35.keep hS nE_35) rfl (q0 := 0) rfl) rfl rfl hl.1 rfl (lv_room (Nat.le_of_ble_eq_true rfl)) dX0_divisor_81 ⟨Nat.le_of_ble_eq_true rfl, Nat.le_of_ble_eq_true rfl⟩) hP hD hS hA [] [0, 1, 2, 3] rfl rfl (by decide) (by decide) (fun u_38 r_37 H locs w_39 hP hD hxw_39 hzw_39 hqw_39 hS => ?_)
              obtain ⟨dv_40, hdv_40⟩ : ∃ x : Q4, x = (bst un 1 (eucC 1 40 (rq g jt0) (rq g ju0)) 24) := ⟨_, rfl⟩
              rw [← hdv_40] at hxw_39
              refine lv_astore (lv' := [(5, .ref r_37), (0, .ref xo), (1, .int (nI js0)), (2, .int (nI jt0)), (3, .int (nI ju0)), (4, .int (nI 1))]) hx hb dX0_divisor_84 hl (by decide) rfl (fun ls hl => ?_)
              refine lv_aload_n hx hb dX0_divisor_86 rfl (lv_at hl 1 rfl) ?_
              refine lv_iload_n hx hb dX0_divisor_87 rfl (lv_at hl 2 rfl) ?_
              refine lv_aload hx hb dX0_divisor_88 (lv_at hl 0 rfl) ?_
              have hPo := hP
              refine k_calli (wr := [(xu, rA ca 4 24 (fun i => some (ua i))), (xd, rA ca 5 2 (sdf e0 e1))]) (va_runV (As := [.int (nI js0), .ref r_37]) (rest := []) ⟨hx, hb, hml, hown, hts⟩ (ct_X0_hold l D ca H.size xo xs xu xd xr xf r_37 js0 ra g dv_40 (by omega)) (cwV 2 hts (lw_V q320 q322 qs2 q19 q323) rfl rfl rfl (by decide +kernel) ⟨Nat.le_of_ble_eq_true rfl, Nat.le_of_ble_eq_true rfl⟩) (k_preV hk hK hN hP hD [0, 3] (by decide) rfl ⟨hxw_39, (hRg.keep hS hOF)⟩ hP rfl (q0 := 0) rfl) rfl rfl hl.1 rfl (lv_room (Nat.le_of_ble_eq_true rfl)) dX0_divisor_90 ⟨Nat.le_of_ble_eq_true rfl, Nat.le_of_ble_eq_true rfl⟩) hP hD hS hA [0, 3] [1, 2] rfl rfl (by decide) (by decide) (fun r_41 u_42 H locs w_43 hP hD hxw_43 hzw_43 hqw_43 hS => ?_)
              have hP : va_P D vwCl [(xu, rA ca 4 24 (fun i => some (ua i))), (xd, rA ca 5 2 (sdf e0 e1)), (xo, oX xs xu xd xr xf), (xr, rA ca 4 16 (fun i => some (u_42 i)))] H := hP
              have hD : va_D A [(xu, rA ca 4 24 (fun i => some (ua i))), (xd, rA ca 5 2 (sdf e0 e1)), (xo, oX xs xu xd xr xf), (xr, rA ca 4 16 (fun i => some (u_42 i)))] := hD
              have hxw_39 := fo_call hK (wc := [(xo, oX xs xu xd xr xf), (xr, rA ca 4 16 (fun i => some (ra i)))]) (k_sub hPo [0, 3] rfl) (okc (oko 0 (by decide)) (okc (oka 4 (by decide)) (okn))) hqw_43 hxw_39
              obtain rfl : r_41 = if q_low dv_40 then 0 else -3 := w_43
              refine lv_if_ge (tgt := 101) hx hb dX0_divisor_93 (by decide) (fun c_44 => ?_) (fun c_44 => ?_)
              · have c_44 := low_ge c_44
                refine lv_aload hx hb dX0_divisor_101 (lv_at hl 0 rfl) ?_
                have hPo := hP
                refine k_calll (wr := [(xu, rA ca 4 24 (fun i => some (ua i))), (xd, rA ca 5 2 (sdf e0 e1)), (xo, oX xs xu xd xr xf), (xr, rA ca 4 16 (fun i => some (u_42 i)))]) (va_runV (As := []) (rest := []) ⟨hx, hb, hml, hown, hts⟩ (ct_X1_norm l D ca H.size r_37 dv_40) (cwV 0 hts (lw_V q350 q351 q352 q20 q353) rfl rfl rfl (by decide +kernel) ⟨Nat.le_of_ble_eq_true rfl, Nat.le_of_ble_eq_true rfl⟩) (k_preV hk hK hN hP hD [] (by decide) rfl hxw_39 hxw_39 rfl (q0 := 0) rfl) rfl rfl hl.1 rfl (lv_room (Nat.le_of_ble_eq_true rfl)) dX0_divisor_103 ⟨Nat.le_of_ble_eq_true rfl, Nat.le_of_ble_eq_true rfl⟩) hP hD hS hA [] [0, 1, 2, 3] rfl rfl (by decide) (by decide) (fun r_45 u_46 H locs w_47 hP hD hxw_47 hzw_47 hqw_47 hS => ?_)
                have hxw_39 := hxw_39.mov (hqw_47 _ hxw_39.lt (va_A_nil hxw_39.lt))
                have hxw_43 := Rg.call hK (wc := []) (k_sub hPo [] rfl) (okn) hqw_47 hxw_43
                obtain rfl : r_45 = q_norm dv_40 := w_47
                refine lv_l2i (v := (q_norm dv_40).toInt32) hx hb dX0_divisor_106 rfl ?_
                exact k_iret (u_42, h_g g js0 dv_40) hx hb hr hlocks (by have he := eucBoth_3 (sd := 1) (euc_runs 40 (hR.hz hjt0) (hR.hz hju0) (hR.sq hjt0) (hR.sq hju0) (by have := hR.sq hju0; omega)); rw [he] at hdv_40; rw [m_divisor, if_pos c_4, if_pos c_8, if_pos c_12, if_pos c_16, nI_clamp (show js0 < 2 ^ 31 by omega), nI_clamp (show jt0 < 2 ^ 31 by omega), nI_clamp (show ju0 < 2 ^ 31 by omega), show nI 1 = 1 from rfl, if_neg (show ¬ (q_null (rq g jt0) && q_null (rq g ju0)) = true from by simp [c_21]), ← hdv_40, if_pos c_44]; simp only [h_g, c_44, if_true]) (hP.sub [2, 0, 1, 3] rfl) (hD.sub [2, 0, 1, 3] (by decide) rfl) hxw_43 hS (Nat.le_of_ble_eq_true rfl) (Nat.le_of_ble_eq_true rfl) dX0_divisor_107
              · have c_44 := low_lt c_44
                refine lv_bipush (v := (-3)) hx hb dX0_divisor_96 (by decide) ?_
                refine lv_goto (tgt := 107) hx hb dX0_divisor_98 (by decide) ?_
                exact k_iret (u_42, h_g g js0 dv_40) hx hb hr hlocks (by have he := eucBoth_3 (sd := 1) (euc_runs 40 (hR.hz hjt0) (hR.hz hju0) (hR.sq hjt0) (hR.sq hju0) (by have := hR.sq hju0; omega)); rw [he] at hdv_40; rw [m_divisor, if_pos c_4, if_pos c_8, if_pos c_12, if_pos c_16, nI_clamp (show js0 < 2 ^ 31 by omega), nI_clamp (show jt0 < 2 ^ 31 by omega), nI_clamp (show ju0 < 2 ^ 31 by omega), show nI 1 = 1 from rfl, if_neg (show ¬ (q_null (rq g jt0) && q_null (rq g ju0)) = true from by simp [c_21]), ← hdv_40, if_neg (show ¬ q_low dv_40 = true from by rw [c_44]; decide)]; simp only [h_g, c_44, Bool.false_eq_true, if_false]) (hP.sub [2, 0, 1, 3] rfl) (hD.sub [2, 0, 1, 3] (by decide) rfl) hxw_43 hS (Nat.le_of_ble_eq_true rfl) (Nat.le_of_ble_eq_true rfl) dX0_divisor_107
          · have c_21 := bI_z1 c_21
            have c_21 := (null_z (hR.sq hjt0)).2.symm.trans c_21
            refine lv_aload_n hx hb dX0_divisor_43 rfl (lv_at hl 0 rfl) ?_
            refine va_get (D := D) (ci := 0) (v := .ref xr) (C := RX0) (T := TX0) (N := 5) hx hb hts in_X0 hown hK hP 0 rfl rfl 3 (by decide) (hts _ q296) (fun _ h9 => h9) rfl dX0_divisor_44 ?_
            refine lv_iload_n hx hb dX0_divisor_47 rfl (lv_at hl 3 rfl) ?_
            refine va_aldq hx hb hK hP 3 4 rfl rfl (vin_nI (a := ju0) rfl (by omega) (by omega)) dX0_divisor_48 ?_
            refine W.eq (g2 := F0 m 49 ls [.ref (ra ju0)]) (by rw [nI_clamp (show ju0 < 2 ^ 31 by omega)]; rfl) ?_
            have hG_48 := hRg ju0 (by omega)
            have nG_48 := hOF _ _ hG_48
            refine k_calli (wr := [(xo, oX xs xu xd xr xf), (xu, rA ca 4 24 (fun i => some (ua i))), (xd, rA ca 5 2 (sdf e0 e1)), (xr, rA ca 4 16 (fun i => some (ra i)))]) (kd_runV (x := yF_isNought) (owner := "FourParts$Parts") (As := []) (rest := []) ⟨hx, hb, hml, hown, hts⟩ (ct_X7_isNought l D ca H.size (ra ju0) (rq g ju0)) qI_ret rfl (lw_meth q363) rfl rfl rfl ⟨Nat.le_of_ble_eq_true rfl, Nat.le_of_ble_eq_true rfl⟩ (hN.1 _ (List.mem_of_getElem? (i := 3) rfl)) (hN.1 _ (List.mem_of_getElem? (i := 6) rfl)) (va_Decl.abs (hN.2.2.1 _ (List.mem_of_getElem? (i := 0) rfl))) ⟨by decide, by decide⟩ hN.2.2.2.2.2.2.2.2.2.1 (hts _ q361) (by decide +kernel) (k_preV hk hK hN hP hD [] (by decide) rfl (hG_48.keep hS nG_48) (hG_48.keep hS nG_48) rfl (q0 := 0) rfl) rfl rfl hl.1 rfl (lv_room (Nat.le_of_ble_eq_true rfl)) dX0_divisor_49 ⟨Nat.le_of_ble_eq_true rfl, Nat.le_of_ble_eq_true rfl⟩) hP hD hS hA [] [0, 1, 2, 3] rfl rfl (by decide) (by decide) (fun r_49 u_50 H locs w_51 hP hD hxw_51 hzw_51 hqw_51 hS => ?_)
            obtain rfl : r_49 = bI (q_nz (rq g ju0)) := w_51
            have hP : va_P D vwCl [(xo, oX xs xu xd xr xf), (xu, rA ca 4 24 (fun i => some (ua i))), (xd, rA ca 5 2 (sdf e0 e1)), (xr, rA ca 4 16 (fun i => some (ra i)))] H := hP
            have hD : va_D A [(xo, oX xs xu xd xr xf), (xu, rA ca 4 24 (fun i => some (ua i))), (xd, rA ca 5 2 (sdf e0 e1)), (xr, rA ca 4 16 (fun i => some (ra i)))] := hD
            refine lv_if_eq (tgt := 58) hx hb dX0_divisor_52 (by decide) (fun c_52 => ?_) (fun c_52 => ?_)
            · have c_52 := bI_z0 c_52
              have c_52 := (null_z (hR.sq hju0)).2.symm.trans c_52
              refine lv_aload_n hx hb dX0_divisor_58 rfl (lv_at hl 0 rfl) ?_
              refine va_get (D := D) (ci := 0) (v := .ref xd) (C := RX0) (T := TX0) (N := 5) hx hb hts in_X0 hown hK hP 0 rfl rfl 2 (by decide) (hts _ q295) (fun _ h9 => h9) rfl dX0_divisor_59 ?_
              refine lv_iload hx hb dX0_divisor_62 (lv_at hl 4 rfl) ?_
              rcases (show jd0 = 0 ∨ jd0 = 1 by omega) with rfl | rfl
              · refine va_aldq hx hb hK hP 2 5 rfl rfl (vin_nI (a := 0) rfl (by omega) (by omega)) dX0_divisor_64 ?_
                refine W.eq (g2 := F0 m 65 ls [.ref e0]) (by rw [nI_clamp (show 0 < 2 ^ 31 by omega)]; rfl) ?_
                have hE_53 := hSd.1
                have nE_53 := hOS _ _ (Or.inl rfl) hE_53
                refine lv_aload_n hx hb dX0_divisor_65 rfl (lv_at hl 0 rfl) ?_
                refine va_get (D := D) (ci := 0) (v := .ref xr) (C := RX0) (T := TX0) (N := 5) hx hb hts in_X0 hown hK hP 0 rfl rfl 3 (by decide) (hts _ q296) (fun _ h9 => h9) rfl dX0_divisor_66 ?_
                refine lv_iload_n hx hb dX0_divisor_69 rfl (lv_at hl 2 rfl) ?_
                refine va_aldq hx hb hK hP 3 4 rfl rfl (vin_nI (a := jt0) rfl (by omega) (by omega)) dX0_divisor_70 ?_
                refine W.eq (g2 := F0 m 71 ls [.ref (ra jt0), .ref e0]) (by rw [nI_clamp (show jt0 < 2 ^ 31 by omega)]; rfl) ?_
                refine lv_aload_n hx hb dX0_divisor_71 rfl (lv_at hl 0 rfl) ?_
                refine va_get (D := D) (ci := 0) (v := .ref xr) (C := RX0) (T := TX0) (N := 5) hx hb hts in_X0 hown hK hP 0 rfl rfl 3 (by decide) (hts _ q296) (fun _ h9 => h9) rfl dX0_divisor_72 ?_
                refine lv_iload_n hx hb dX0_divisor_75 rfl (lv_at hl 3 rfl) ?_
                refine va_aldq hx hb hK hP 3 4 rfl rfl (vin_nI (a := ju0) rfl (by omega) (by omega)) dX0_divisor_76 ?_
                refine W.eq (g2 := F0 m 77 ls [.ref (ra ju0), .ref (ra jt0), .ref e0]) (by rw [nI_clamp (show ju0 < 2 ^ 31 by omega)]; rfl) ?_
                refine lv_aload_n hx hb dX0_divisor_77 rfl (lv_at hl 0 rfl) ?_
                refine va_get (D := D) (ci := 0) (v := .ref xu) (C := RX0) (T := TX0) (N := 5) hx hb hts in_X0 hown hK hP 0 rfl rfl 1 (by decide) (hts _ q294) (fun _ h9 => h9) rfl dX0_divisor_78 ?_
                refine k_callr (wr := [(xo, oX xs xu xd xr xf), (xu, rA ca 4 24 (fun i => some (ua i))), (xd, rA ca 5 2 (sdf e0 e1)), (xr, rA ca 4 16 (fun i => some (ra i)))]) (va_runU (x := yX2_divisor) (As := [.ref (ra jt0), .ref (ra ju0), .ref xu]) (rest := []) ⟨hx, hb, hml, hown, hts⟩ (ct_X2_divisor_R l D ca H.size e0 (ra jt0) (ra ju0) xu (rq g jt0) (rq g ju0) ua un (eucBoth_2 (euc_runs 40 (hR.hz hjt0) (hR.hz hju0) (hR.sq hjt0) (hR.sq hju0) (by have := hR.sq hju0; omega)))) (va_cwU (C := "FourParts$Right") (owner := "FourParts$Side") (x := yX2_divisor) 3 hts (lw_app (fun w hw => by simp only [List.mem_cons, List.not_mem_nil, or_false] at hw; rcases hw with e | e | e | e | e <;> rw [e] <;> first | exact q459 | exact q461 | exact q463 | exact q460 | exact q21) (lw_meth q464)) rfl rfl rfl rfl (by decide +kernel) ⟨Nat.le_of_ble_eq_true rfl, Nat.le_of_ble_eq_true rfl⟩) (k_preV hk hK hN hP hD [] (by decide) rfl ⟨(hE_53.keep hS nE_53), (hG_17.keep hS nG_17), (hG_48.keep hS nG_48), ⟨k_sub hP [1] rfl, hUg.keep hS hOF⟩⟩ (hE_53.keep hS nE_53) rfl (q0 := 0) rfl) rfl rfl hl.1 rfl (lv_room (Nat.le_of_ble_eq_true rfl)) dX0_divisor_81 ⟨Nat.le_of_ble_eq_true rfl, Nat.le_of_ble_eq_true rfl⟩) hP hD hS hA [] [0, 1, 2, 3] rfl rfl (by decide) (by decide) (fun u_55 r_54 H locs w_56 hP hD hxw_56 hzw_56 hqw_56 hS => ?_)
                obtain ⟨dv_57, hdv_57⟩ : ∃ x : Q4, x = (bst un 0 (eucC 0 40 (rq g jt0) (rq g ju0)) 24) := ⟨_, rfl⟩
                rw [← hdv_57] at hxw_56
                refine lv_astore (lv' := [(5, .ref r_54), (0, .ref xo), (1, .int (nI js0)), (2, .int (nI jt0)), (3, .int (nI ju0)), (4, .int (nI 0))]) hx hb dX0_divisor_84 hl (by decide) rfl (fun ls hl => ?_)
                refine lv_aload_n hx hb dX0_divisor_86 rfl (lv_at hl 1 rfl) ?_
                refine lv_iload_n hx hb dX0_divisor_87 rfl (lv_at hl 2 rfl) ?_
                refine lv_aload hx hb dX0_divisor_88 (lv_at hl 0 rfl) ?_
                have hPo := hP
                refine k_calli (wr := [(xu, rA ca 4 24 (fun i => some (ua i))), (xd, rA ca 5 2 (sdf e0 e1))]) (va_runV (As := [.int (nI js0), .ref r_54]) (rest := []) ⟨hx, hb, hml, hown, hts⟩ (ct_X0_hold l D ca H.size xo xs xu xd xr xf r_54 js0 ra g dv_57 (by omega)) (cwV 2 hts (lw_V q320 q322 qs2 q19 q323) rfl rfl rfl (by decide +kernel) ⟨Nat.le_of_ble_eq_true rfl, Nat.le_of_ble_eq_true rfl⟩) (k_preV hk hK hN hP hD [0, 3] (by decide) rfl ⟨hxw_56, (hRg.keep hS hOF)⟩ hP rfl (q0 := 0) rfl) rfl rfl hl.1 rfl (lv_room (Nat.le_of_ble_eq_true rfl)) dX0_divisor_90 ⟨Nat.le_of_ble_eq_true rfl, Nat.le_of_ble_eq_true rfl⟩) hP hD hS hA [0, 3] [1, 2] rfl rfl (by decide) (by decide) (fun r_58 u_59 H locs w_60 hP hD hxw_60 hzw_60 hqw_60 hS => ?_)
                have hP : va_P D vwCl [(xu, rA ca 4 24 (fun i => some (ua i))), (xd, rA ca 5 2 (sdf e0 e1)), (xo, oX xs xu xd xr xf), (xr, rA ca 4 16 (fun i => some (u_59 i)))] H := hP
                have hD : va_D A [(xu, rA ca 4 24 (fun i => some (ua i))), (xd, rA ca 5 2 (sdf e0 e1)), (xo, oX xs xu xd xr xf), (xr, rA ca 4 16 (fun i => some (u_59 i)))] := hD
                have hxw_56 := fo_call hK (wc := [(xo, oX xs xu xd xr xf), (xr, rA ca 4 16 (fun i => some (ra i)))]) (k_sub hPo [0, 3] rfl) (okc (oko 0 (by decide)) (okc (oka 4 (by decide)) (okn))) hqw_60 hxw_56
                obtain rfl : r_58 = if q_low dv_57 then 0 else -3 := w_60
                refine lv_if_ge (tgt := 101) hx hb dX0_divisor_93 (by decide) (fun c_61 => ?_) (fun c_61 => ?_)
                · have c_61 := low_ge c_61
                  refine lv_aload hx hb dX0_divisor_101 (lv_at hl 0 rfl) ?_
                  have hPo := hP
                  refine k_calll (wr := [(xu, rA ca 4 24 (fun i => some (ua i))), (xd, rA ca 5 2 (sdf e0 e1)), (xo, oX xs xu xd xr xf), (xr, rA ca 4 16 (fun i => some (u_59 i)))]) (va_runV (As := []) (rest := []) ⟨hx, hb, hml, hown, hts⟩ (ct_X1_norm l D ca H.size r_54 dv_57) (cwV 0 hts (lw_V q350 q351 q352 q20 q353) rfl rfl rfl (by decide +kernel) ⟨Nat.le_of_ble_eq_true rfl, Nat.le_of_ble_eq_true rfl⟩) (k_preV hk hK hN hP hD [] (by decide) rfl hxw_56 hxw_56 rfl (q0 := 0) rfl) rfl rfl hl.1 rfl (lv_room (Nat.le_of_ble_eq_true rfl)) dX0_divisor_103 ⟨Nat.le_of_ble_eq_true rfl, Nat.le_of_ble_eq_true rfl⟩) hP hD hS hA [] [0, 1, 2, 3] rfl rfl (by decide) (by decide) (fun r_62 u_63 H locs w_64 hP hD hxw_64 hzw_64 hqw_64 hS => ?_)
                  have hxw_56 := hxw_56.mov (hqw_64 _ hxw_56.lt (va_A_nil hxw_56.lt))
                  have hxw_60 := Rg.call hK (wc := []) (k_sub hPo [] rfl) (okn) hqw_64 hxw_60
                  obtain rfl : r_62 = q_norm dv_57 := w_64
                  refine lv_l2i (v := (q_norm dv_57).toInt32) hx hb dX0_divisor_106 rfl ?_
                  exact k_iret (u_59, h_g g js0 dv_57) hx hb hr hlocks (by have he := eucBoth_3 (sd := 0) (euc_runs 40 (hR.hz hjt0) (hR.hz hju0) (hR.sq hjt0) (hR.sq hju0) (by have := hR.sq hju0; omega)); rw [he] at hdv_57; rw [m_divisor, if_pos c_4, if_pos c_8, if_pos c_12, if_pos c_16, nI_clamp (show js0 < 2 ^ 31 by omega), nI_clamp (show jt0 < 2 ^ 31 by omega), nI_clamp (show ju0 < 2 ^ 31 by omega), show nI 0 = 0 from rfl, if_neg (show ¬ (q_null (rq g jt0) && q_null (rq g ju0)) = true from by rw [c_21, c_52]; decide), ← hdv_57, if_pos c_61]; simp only [h_g, c_61, if_true]) (hP.sub [2, 0, 1, 3] rfl) (hD.sub [2, 0, 1, 3] (by decide) rfl) hxw_60 hS (Nat.le_of_ble_eq_true rfl) (Nat.le_of_ble_eq_true rfl) dX0_divisor_107
                · have c_61 := low_lt c_61
                  refine lv_bipush (v := (-3)) hx hb dX0_divisor_96 (by decide) ?_
                  refine lv_goto (tgt := 107) hx hb dX0_divisor_98 (by decide) ?_
                  exact k_iret (u_59, h_g g js0 dv_57) hx hb hr hlocks (by have he := eucBoth_3 (sd := 0) (euc_runs 40 (hR.hz hjt0) (hR.hz hju0) (hR.sq hjt0) (hR.sq hju0) (by have := hR.sq hju0; omega)); rw [he] at hdv_57; rw [m_divisor, if_pos c_4, if_pos c_8, if_pos c_12, if_pos c_16, nI_clamp (show js0 < 2 ^ 31 by omega), nI_clamp (show jt0 < 2 ^ 31 by omega), nI_clamp (show ju0 < 2 ^ 31 by omega), show nI 0 = 0 from rfl, if_neg (show ¬ (q_null (rq g jt0) && q_null (rq g ju0)) = true from by rw [c_21, c_52]; decide), ← hdv_57, if_neg (show ¬ q_low dv_57 = true from by rw [c_61]; decide)]; simp only [h_g, c_61, Bool.false_eq_true, if_false]) (hP.sub [2, 0, 1, 3] rfl) (hD.sub [2, 0, 1, 3] (by decide) rfl) hxw_60 hS (Nat.le_of_ble_eq_true rfl) (Nat.le_of_ble_eq_true rfl) dX0_divisor_107
              · refine va_aldq hx hb hK hP 2 5 rfl rfl (vin_nI (a := 1) rfl (by omega) (by omega)) dX0_divisor_64 ?_
                refine W.eq (g2 := F0 m 65 ls [.ref e1]) (by rw [nI_clamp (show 1 < 2 ^ 31 by omega)]; rfl) ?_
                have hE_65 := hSd.2
                have nE_65 := hOS _ _ (Or.inr rfl) hE_65
                refine lv_aload_n hx hb dX0_divisor_65 rfl (lv_at hl 0 rfl) ?_
                refine va_get (D := D) (ci := 0) (v := .ref xr) (C := RX0) (T := TX0) (N := 5) hx hb hts in_X0 hown hK hP 0 rfl rfl 3 (by decide) (hts _ q296) (fun _ h9 => h9) rfl dX0_divisor_66 ?_
                refine lv_iload_n hx hb dX0_divisor_69 rfl (lv_at hl 2 rfl) ?_
                refine va_aldq hx hb hK hP 3 4 rfl rfl (vin_nI (a := jt0) rfl (by omega) (by omega)) dX0_divisor_70 ?_
                refine W.eq (g2 := F0 m 71 ls [.ref (ra jt0), .ref e1]) (by rw [nI_clamp (show jt0 < 2 ^ 31 by omega)]; rfl) ?_
                refine lv_aload_n hx hb dX0_divisor_71 rfl (lv_at hl 0 rfl) ?_
                refine va_get (D := D) (ci := 0) (v := .ref xr) (C := RX0) (T := TX0) (N := 5) hx hb hts in_X0 hown hK hP 0 rfl rfl 3 (by decide) (hts _ q296) (fun _ h9 => h9) rfl dX0_divisor_72 ?_
                refine lv_iload_n hx hb dX0_divisor_75 rfl (lv_at hl 3 rfl) ?_
                refine va_aldq hx hb hK hP 3 4 rfl rfl (vin_nI (a := ju0) rfl (by omega) (by omega)) dX0_divisor_76 ?_
                refine W.eq (g2 := F0 m 77 ls [.ref (ra ju0), .ref (ra jt0), .ref e1]) (by rw [nI_clamp (show ju0 < 2 ^ 31 by omega)]; rfl) ?_
                refine lv_aload_n hx hb dX0_divisor_77 rfl (lv_at hl 0 rfl) ?_
                refine va_get (D := D) (ci := 0) (v := .ref xu) (C := RX0) (T := TX0) (N := 5) hx hb hts in_X0 hown hK hP 0 rfl rfl 1 (by decide) (hts _ q294) (fun _ h9 => h9) rfl dX0_divisor_78 ?_
                refine k_callr (wr := [(xo, oX xs xu xd xr xf), (xu, rA ca 4 24 (fun i => some (ua i))), (xd, rA ca 5 2 (sdf e0 e1)), (xr, rA ca 4 16 (fun i => some (ra i)))]) (va_runU (x := yX2_divisor) (As := [.ref (ra jt0), .ref (ra ju0), .ref xu]) (rest := []) ⟨hx, hb, hml, hown, hts⟩ (ct_X2_divisor_L l D ca H.size e1 (ra jt0) (ra ju0) xu (rq g jt0) (rq g ju0) ua un (eucBoth_2 (euc_runs 40 (hR.hz hjt0) (hR.hz hju0) (hR.sq hjt0) (hR.sq hju0) (by have := hR.sq hju0; omega)))) (va_cwU (C := "FourParts$Left") (owner := "FourParts$Side") (x := yX2_divisor) 3 hts (lw_app (fun w hw => by simp only [List.mem_cons, List.not_mem_nil, or_false] at hw; rcases hw with e | e | e | e | e <;> rw [e] <;> first | exact q459 | exact q461 | exact q462 | exact q460 | exact q21) (lw_meth q464)) rfl rfl rfl rfl (by decide +kernel) ⟨Nat.le_of_ble_eq_true rfl, Nat.le_of_ble_eq_true rfl⟩) (k_preV hk hK hN hP hD [] (by decide) rfl ⟨(hE_65.keep hS nE_65), (hG_17.keep hS nG_17), (hG_48.keep hS nG_48), ⟨k_sub hP [1] rfl, hUg.keep hS hOF⟩⟩ (hE_65.keep hS nE_65) rfl (q0 := 0) rfl) rfl rfl hl.1 rfl (lv_room (Nat.le_of_ble_eq_true rfl)) dX0_divisor_81 ⟨Nat.le_of_ble_eq_true rfl, Nat.le_of_ble_eq_true rfl⟩) hP hD hS hA [] [0, 1, 2, 3] rfl rfl (by decide) (by decide) (fun u_67 r_66 H locs w_68 hP hD hxw_68 hzw_68 hqw_68 hS => ?_)
                obtain ⟨dv_69, hdv_69⟩ : ∃ x : Q4, x = (bst un 1 (eucC 1 40 (rq g jt0) (rq g ju0)) 24) := ⟨_, rfl⟩
                rw [← hdv_69] at hxw_68
                refine lv_astore (lv' := [(5, .ref r_66), (0, .ref xo), (1, .int (nI js0)), (2, .int (nI jt0)), (3, .int (nI ju0)), (4, .int (nI 1))]) hx hb dX0_divisor_84 hl (by decide) rfl (fun ls hl => ?_)
                refine lv_aload_n hx hb dX0_divisor_86 rfl (lv_at hl 1 rfl) ?_
                refine lv_iload_n hx hb dX0_divisor_87 rfl (lv_at hl 2 rfl) ?_
                refine lv_aload hx hb dX0_divisor_88 (lv_at hl 0 rfl) ?_
                have hPo := hP
                refine k_calli (wr := [(xu, rA ca 4 24 (fun i => some (ua i))), (xd, rA ca 5 2 (sdf e0 e1))]) (va_runV (As := [.int (nI js0), .ref r_66]) (rest := []) ⟨hx, hb, hml, hown, hts⟩ (ct_X0_hold l D ca H.size xo xs xu xd xr xf r_66 js0 ra g dv_69 (by omega)) (cwV 2 hts (lw_V q320 q322 qs2 q19 q323) rfl rfl rfl (by decide +kernel) ⟨Nat.le_of_ble_eq_true rfl, Nat.le_of_ble_eq_true rfl⟩) (k_preV hk hK hN hP hD [0, 3] (by decide) rfl ⟨hxw_68, (hRg.keep hS hOF)⟩ hP rfl (q0 := 0) rfl) rfl rfl hl.1 rfl (lv_room (Nat.le_of_ble_eq_true rfl)) dX0_divisor_90 ⟨Nat.le_of_ble_eq_true rfl, Nat.le_of_ble_eq_true rfl⟩) hP hD hS hA [0, 3] [1, 2] rfl rfl (by decide) (by decide) (fun r_70 u_71 H locs w_72 hP hD hxw_72 hzw_72 hqw_72 hS => ?_)
                have hP : va_P D vwCl [(xu, rA ca 4 24 (fun i => some (ua i))), (xd, rA ca 5 2 (sdf e0 e1)), (xo, oX xs xu xd xr xf), (xr, rA ca 4 16 (fun i => some (u_71 i)))] H := hP
                have hD : va_D A [(xu, rA ca 4 24 (fun i => some (ua i))), (xd, rA ca 5 2 (sdf e0 e1)), (xo, oX xs xu xd xr xf), (xr, rA ca 4 16 (fun i => some (u_71 i)))] := hD
                have hxw_68 := fo_call hK (wc := [(xo, oX xs xu xd xr xf), (xr, rA ca 4 16 (fun i => some (ra i)))]) (k_sub hPo [0, 3] rfl) (okc (oko 0 (by decide)) (okc (oka 4 (by decide)) (okn))) hqw_72 hxw_68
                obtain rfl : r_70 = if q_low dv_69 then 0 else -3 := w_72
                refine lv_if_ge (tgt := 101) hx hb dX0_divisor_93 (by decide) (fun c_73 => ?_) (fun c_73 => ?_)
                · have c_73 := low_ge c_73
                  refine lv_aload hx hb dX0_divisor_101 (lv_at hl 0 rfl) ?_
                  have hPo := hP
                  refine k_calll (wr := [(xu, rA ca 4 24 (fun i => some (ua i))), (xd, rA ca 5 2 (sdf e0 e1)), (xo, oX xs xu xd xr xf), (xr, rA ca 4 16 (fun i => some (u_71 i)))]) (va_runV (As := []) (rest := []) ⟨hx, hb, hml, hown, hts⟩ (ct_X1_norm l D ca H.size r_66 dv_69) (cwV 0 hts (lw_V q350 q351 q352 q20 q353) rfl rfl rfl (by decide +kernel) ⟨Nat.le_of_ble_eq_true rfl, Nat.le_of_ble_eq_true rfl⟩) (k_preV hk hK hN hP hD [] (by decide) rfl hxw_68 hxw_68 rfl (q0 := 0) rfl) rfl rfl hl.1 rfl (lv_room (Nat.le_of_ble_eq_true rfl)) dX0_divisor_103 ⟨Nat.le_of_ble_eq_true rfl, Nat.le_of_ble_eq_true rfl⟩) hP hD hS hA [] [0, 1, 2, 3] rfl rfl (by decide) (by decide) (fun r_74 u_75 H locs w_76 hP hD hxw_76 hzw_76 hqw_76 hS => ?_)
                  have hxw_68 := hxw_68.mov (hqw_76 _ hxw_68.lt (va_A_nil hxw_68.lt))
                  have hxw_72 := Rg.call hK (wc := []) (k_sub hPo [] rfl) (okn) hqw_76 hxw_72
                  obtain rfl : r_74 = q_norm dv_69 := w_76
                  refine lv_l2i (v := (q_norm dv_69).toInt32) hx hb dX0_divisor_106 rfl ?_
                  exact k_iret (u_71, h_g g js0 dv_69) hx hb hr hlocks (by have he := eucBoth_3 (sd := 1) (euc_runs 40 (hR.hz hjt0) (hR.hz hju0) (hR.sq hjt0) (hR.sq hju0) (by have := hR.sq hju0; omega)); rw [he] at hdv_69; rw [m_divisor, if_pos c_4, if_pos c_8, if_pos c_12, if_pos c_16, nI_clamp (show js0 < 2 ^ 31 by omega), nI_clamp (show jt0 < 2 ^ 31 by omega), nI_clamp (show ju0 < 2 ^ 31 by omega), show nI 1 = 1 from rfl, if_neg (show ¬ (q_null (rq g jt0) && q_null (rq g ju0)) = true from by rw [c_21, c_52]; decide), ← hdv_69, if_pos c_73]; simp only [h_g, c_73, if_true]) (hP.sub [2, 0, 1, 3] rfl) (hD.sub [2, 0, 1, 3] (by decide) rfl) hxw_72 hS (Nat.le_of_ble_eq_true rfl) (Nat.le_of_ble_eq_true rfl) dX0_divisor_107
                · have c_73 := low_lt c_73
                  refine lv_bipush (v := (-3)) hx hb dX0_divisor_96 (by decide) ?_
                  refine lv_goto (tgt := 107) hx hb dX0_divisor_98 (by decide) ?_
                  exact k_iret (u_71, h_g g js0 dv_69) hx hb hr hlocks (by have he := eucBoth_3 (sd := 1) (euc_runs 40 (hR.hz hjt0) (hR.hz hju0) (hR.sq hjt0) (hR.sq hju0) (by have := hR.sq hju0; omega)); rw [he] at hdv_69; rw [m_divisor, if_pos c_4, if_pos c_8, if_pos c_12, if_pos c_16, nI_clamp (show js0 < 2 ^ 31 by omega), nI_clamp (show jt0 < 2 ^ 31 by omega), nI_clamp (show ju0 < 2 ^ 31 by omega), show nI 1 = 1 from rfl, if_neg (show ¬ (q_null (rq g jt0) && q_null (rq g ju0)) = true from by rw [c_21, c_52]; decide), ← hdv_69, if_neg (show ¬ q_low dv_69 = true from by rw [c_73]; decide)]; simp only [h_g, c_73, Bool.false_eq_true, if_false]) (hP.sub [2, 0, 1, 3] rfl) (hD.sub [2, 0, 1, 3] (by decide) rfl) hxw_72 hS (Nat.le_of_ble_eq_true rfl) (Nat.le_of_ble_eq_true rfl) dX0_divisor_107
            · have c_52 := bI_z1 c_52
              have c_52 := (null_z (hR.sq hju0)).2.symm.trans c_52
              refine lv_bipush (v := (-2)) hx hb dX0_divisor_55 (by decide) ?_
              exact k_iret (ra, g) hx hb hr hlocks (by simp [m_divisor, c_4, c_8, c_12, c_16, c_21, c_52, nI_clamp (show js0 < 2 ^ 31 by omega), nI_clamp (show jt0 < 2 ^ 31 by omega), nI_clamp (show ju0 < 2 ^ 31 by omega), nI_clamp (show jd0 < 2 ^ 31 by omega)]) hP hD (hRg.keep hS hOF) hS (Nat.le_of_ble_eq_true rfl) (Nat.le_of_ble_eq_true rfl) dX0_divisor_57
        · have c_16 := bI_z0 c_16
          refine lv_iconst (v := (-1)) hx hb dX0_divisor_29 (by decide) ?_
          exact k_iret (ra, g) hx hb hr hlocks (by simp [m_divisor, c_4, c_8, c_12, c_16, nI_clamp (show js0 < 2 ^ 31 by omega), nI_clamp (show jt0 < 2 ^ 31 by omega), nI_clamp (show ju0 < 2 ^ 31 by omega)]) hP hD (hRg.keep hS hOF) hS (Nat.le_of_ble_eq_true rfl) (Nat.le_of_ble_eq_true rfl) dX0_divisor_30
