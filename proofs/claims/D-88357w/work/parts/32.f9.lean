theorem low_ge {b : Bool} (h : (0 : Int32) ≤ if b = true then 0 else -3) : b = true := by
  cases b
  · exact absurd h (by decide)
  · rfl
theorem low_lt {b : Bool} (h : ¬ (0 : Int32) ≤ if b = true then 0 else -3) : b = false := by
  cases b
  · rfl
  · exact absurd (by decide) h
theorem nz_n {v : Q4} (hz : Hz (z4 v)) (h2 : z_sq (z4 v) < 2 ^ 31) (h : q_null v = false) : 0 < 2 * q_norm v := by
  have h1 := z_norm (bd_z h2) (by decide) hz
  have h0 := z_sq_nn (z4 v)
  have h3 : z_sq (z4 v) ≠ 0 := fun e => by
    rw [(null_z h2).1.mpr e] at h
    exact absurd h (by decide)
  exact n_pos (by omega) (by omega)
theorem pos_ne {n : Int64} (h : 0 < n) : ¬ n = 0 := fun e => by rw [e] at h; exact absurd h (by decide)
theorem wq_comm {g : AI} {i j : Nat} {v w : Q4} (h : i ≠ j) : wq (wq g i v) j w = wq (wq g j w) i v := by
  funext q
  simp only [wq, upd]
  by_cases h1 : q / 4 = i
  · simp only [show ¬ q = 4 * j by omega, show ¬ q = 4 * j + 1 by omega, show ¬ q = 4 * j + 2 by omega, show ¬ q = 4 * j + 3 by omega, if_false]
  · simp only [show ¬ q = 4 * i by omega, show ¬ q = 4 * i + 1 by omega, show ¬ q = 4 * i + 2 by omega, show ¬ q = 4 * i + 3 by omega, if_false]
set_option maxHeartbeats 4000000 in
set_option maxRecDepth 100000 in
theorem ct_X0_work (l : Launch) (D : va_G) (ca : Nat → ClassId) (zH : Nat) (xo xs xu xd xr xf : Nat) (ra : Nat → Nat) (g : AI) (s0 h0 t0 u0 : Int32)  : Met l yX0_work (ws_ yX0_work cX0_work 6 (some .int)) ({ frames := 3, cells := 1, slots := 4, locals := 71 }) (va_Pc [.ref xo, .int s0, .int h0, .int t0, .int u0] (pr_ NW D ca [(xo, oX xs xu xd xr xf), (xr, rA ca 4 16 (fun i => some (ra i)))] zH (fun H => Rg D H ra g))) (qI D (fun (r : Int32) (u : (Nat → Nat) × AI) => (r, u.2) = m_work g s0 h0 t0 u0) (fun u => [(xo, oX xs xu xd xr xf), (xr, rA ca 4 16 (fun i => some (u.1 i)))]) (fun u H => Rg D H u.1 u.2) (va_A [(xo, oX xs xu xd xr xf), (xr, rA ca 4 16 (fun i => some (ra i)))] zH)) 1 4 (va_A [(xo, oX xs xu xd xr xf), (xr, rA ca 4 16 (fun i => some (ra i)))] zH) := by
  have hk := NW_ok
  refine k_ofW (Qc := qI D (fun (r : Int32) (u : (Nat → Nat) × AI) => (r, u.2) = m_work g s0 h0 t0 u0) (fun u => [(xo, oX xs xu xd xr xf), (xr, rA ca 4 16 (fun i => some (u.1 i)))]) (fun u H => Rg D H u.1 u.2)) (by decide) (Nat.le_of_ble_eq_true rfl) ?_
  intro p e s m below meth c ls A H hH hx hb hr hts hown hlocks hnm hml hsz hP hD hK hN hA hAn hS hro hl
  have hl : lv_has ls 6 [(0, .ref xo), (1, .int s0), (2, .int h0), (3, .int t0), (4, .int u0)] := hl
  have hOF := k_outF hK (hH ▸ hP) (okc (oko 0 (by decide)) (okc (oka 4 (by decide)) (okn))) hAn
  have hOS := k_outS hK (hH ▸ hP) (okc (oko 0 (by decide)) (okc (oka 4 (by decide)) (okn))) hAn
  have hRg := hro
  refine lv_iload_n hx hb dX0_work_0 rfl (lv_at hl 1 rfl) ?_
  refine k_calli (wr := [(xo, oX xs xu xd xr xf), (xr, rA ca 4 16 (fun i => some (ra i)))]) (va_runS (As := [.int s0]) (rest := []) ⟨hx, hb, hml, hown, hts⟩ (ct_X0_isRegister hk l D ca H.size s0) (va_cwS 1 hts (lw_S q313 q314 q19 q315) rfl rfl rfl (by decide +kernel) ⟨Nat.le_of_ble_eq_true rfl, Nat.le_of_ble_eq_true rfl⟩) (k_pre hk hK hN hP hD [] (by decide) rfl trivial) rfl rfl hl.1 rfl (lv_room (Nat.le_of_ble_eq_true rfl)) dX0_work_1 ⟨Nat.le_of_ble_eq_true rfl, Nat.le_of_ble_eq_true rfl⟩) hP hD hS hA [] [0, 1] rfl rfl (by decide) (by decide) (fun r_1 u_2 H locs w_3 hP hD hxw_3 hzw_3 hqw_3 hS => ?_)
  obtain rfl : r_1 = bI (p_in s0.toInt64 0 15) := w_3
  refine lv_if_eq (tgt := 39) hx hb dX0_work_4 (by decide) (fun c_4 => ?_) (fun c_4 => ?_)
  · have c_4 := bI_z0 c_4
    refine lv_iconst (v := (-1)) hx hb dX0_work_39 (by decide) ?_
    exact k_iret (ra, g) hx hb hr hlocks (by simp [m_work, plus_add, plus_sub, c_4, show (nI 0).toNatClampNeg = 0 from by decide, show (nI 1).toNatClampNeg = 1 from by decide, show (nI 2).toNatClampNeg = 2 from by decide, show (nI 3).toNatClampNeg = 3 from by decide]) hP hD (hRg.keep hS hOF) hS (Nat.le_of_ble_eq_true rfl) (Nat.le_of_ble_eq_true rfl) dX0_work_40
  · have c_4 := bI_z1 c_4
    obtain ⟨js0, hjs0, rfl⟩ := in_nI (n := 16) (by decide) c_4
    refine lv_iload_n hx hb dX0_work_7 rfl (lv_at hl 2 rfl) ?_
    refine lv_i2l (v := h0.toInt64) hx hb dX0_work_8 rfl ?_
    refine lv_lconst (v := 0) hx hb dX0_work_9 (by decide) ?_
    refine lv_ldc2 hx hb hown (hts _ q384) dX0_work_10 ?_
    refine k_calli (wr := [(xo, oX xs xu xd xr xf), (xr, rA ca 4 16 (fun i => some (ra i)))]) (va_runS (As := [.long h0.toInt64, .long 0, .long 3]) (rest := []) ⟨hx, hb, hml, hown, hts⟩ (ct_X0_isIn hk l D ca H.size h0.toInt64 0 3) (va_cwS 3 hts (lw_S q131 q132 q19 q133) rfl rfl rfl (by decide +kernel) ⟨Nat.le_of_ble_eq_true rfl, Nat.le_of_ble_eq_true rfl⟩) (k_pre hk hK hN hP hD [] (by decide) rfl trivial) rfl rfl hl.1 rfl (lv_room (Nat.le_of_ble_eq_true rfl)) dX0_work_13 ⟨Nat.le_of_ble_eq_true rfl, Nat.le_of_ble_eq_true rfl⟩) hP hD hS hA [] [0, 1] rfl rfl (by decide) (by decide) (fun r_5 u_6 H locs w_7 hP hD hxw_7 hzw_7 hqw_7 hS => ?_)
    obtain rfl : r_5 = bI (p_in h0.toInt64 0 3) := w_7
    refine lv_if_eq (tgt := 39) hx hb dX0_work_16 (by decide) (fun c_8 => ?_) (fun c_8 => ?_)
    · have c_8 := bI_z0 c_8
      refine lv_iconst (v := (-1)) hx hb dX0_work_39 (by decide) ?_
      exact k_iret (ra, g) hx hb hr hlocks (by simp [m_work, plus_add, plus_sub, c_4, c_8, nI_clamp (show js0 < 2 ^ 31 by omega), show (nI 0).toNatClampNeg = 0 from by decide, show (nI 1).toNatClampNeg = 1 from by decide, show (nI 2).toNatClampNeg = 2 from by decide, show (nI 3).toNatClampNeg = 3 from by decide]) hP hD (hRg.keep hS hOF) hS (Nat.le_of_ble_eq_true rfl) (Nat.le_of_ble_eq_true rfl) dX0_work_40
    · have c_8 := bI_z1 c_8
      obtain ⟨jh0, hjh0, rfl⟩ := in_nI (n := 4) (by decide) c_8
      refine lv_iload_n hx hb dX0_work_19 rfl (lv_at hl 3 rfl) ?_
      refine k_calli (wr := [(xo, oX xs xu xd xr xf), (xr, rA ca 4 16 (fun i => some (ra i)))]) (va_runS (As := [.int t0]) (rest := []) ⟨hx, hb, hml, hown, hts⟩ (ct_X0_isRegister hk l D ca H.size t0) (va_cwS 1 hts (lw_S q313 q314 q19 q315) rfl rfl rfl (by decide +kernel) ⟨Nat.le_of_ble_eq_true rfl, Nat.le_of_ble_eq_true rfl⟩) (k_pre hk hK hN hP hD [] (by decide) rfl trivial) rfl rfl hl.1 rfl (lv_room (Nat.le_of_ble_eq_true rfl)) dX0_work_20 ⟨Nat.le_of_ble_eq_true rfl, Nat.le_of_ble_eq_true rfl⟩) hP hD hS hA [] [0, 1] rfl rfl (by decide) (by decide) (fun r_9 u_10 H locs w_11 hP hD hxw_11 hzw_11 hqw_11 hS => ?_)
      obtain rfl : r_9 = bI (p_in t0.toInt64 0 15) := w_11
      refine lv_if_eq (tgt := 39) hx hb dX0_work_23 (by decide) (fun c_12 => ?_) (fun c_12 => ?_)
      · have c_12 := bI_z0 c_12
        refine lv_iconst (v := (-1)) hx hb dX0_work_39 (by decide) ?_
        exact k_iret (ra, g) hx hb hr hlocks (by simp [m_work, plus_add, plus_sub, c_4, c_8, c_12, nI_clamp (show js0 < 2 ^ 31 by omega), nI_clamp (show jh0 < 2 ^ 31 by omega), show (nI 0).toNatClampNeg = 0 from by decide, show (nI 1).toNatClampNeg = 1 from by decide, show (nI 2).toNatClampNeg = 2 from by decide, show (nI 3).toNatClampNeg = 3 from by decide]) hP hD (hRg.keep hS hOF) hS (Nat.le_of_ble_eq_true rfl) (Nat.le_of_ble_eq_true rfl) dX0_work_40
      · have c_12 := bI_z1 c_12
        obtain ⟨jt0, hjt0, rfl⟩ := in_nI (n := 16) (by decide) c_12
        refine lv_iload_n hx hb dX0_work_26 rfl (lv_at hl 2 rfl) ?_
        refine lv_iconst (v := 3) hx hb dX0_work_27 (by decide) ?_
        refine lv_icmp_ge (tgt := 41) hx hb dX0_work_28 (by decide) (fun c_13 => ?_) (fun c_13 => ?_)
        · have c_13 := le_y (a := 3) (b := jh0) rfl rfl (by omega) (by omega) c_13
          refine lv_aload_n hx hb dX0_work_41 rfl (lv_at hl 0 rfl) ?_
          refine va_get (D := D) (ci := 0) (v := .ref xr) (C := RX0) (T := TX0) (N := 5) hx hb hts in_X0 hown hK hP 0 rfl rfl 3 (by decide) (hts _ q296) (fun _ h9 => h9) rfl dX0_work_42 ?_
          refine lv_iload_n hx hb dX0_work_45 rfl (lv_at hl 3 rfl) ?_
          refine va_aldq hx hb hK hP 1 4 rfl rfl (vin_nI (a := jt0) rfl (by omega) (by omega)) dX0_work_46 ?_
          refine W.eq (g2 := F0 m 47 ls [.ref (ra jt0)]) (by rw [nI_clamp (show jt0 < 2 ^ 31 by omega)]; rfl) ?_
          have hG_14 := hRg jt0 (by omega)
          have nG_14 := hOF _ _ hG_14
          refine lv_astore (lv' := [(5, .ref (ra jt0)), (0, .ref xo), (1, .int (nI js0)), (2, .int (nI jh0)), (3, .int (nI jt0)), (4, .int u0)]) hx hb dX0_work_47 hl (by decide) rfl (fun ls hl => ?_)
          refine lv_iload_n hx hb dX0_work_49 rfl (lv_at hl 3 rfl) ?_
          obtain rfl : jh0 = 3 := by omega
          · refine lv_tableOut (tgt := 134) hx hb dX0_work_50 (by decide) (by decide) ?_
            refine lv_aload_n hx hb dX0_work_134 rfl (lv_at hl 1 rfl) ?_
            refine lv_iload_n hx hb dX0_work_135 rfl (lv_at hl 2 rfl) ?_
            refine lv_aload hx hb dX0_work_136 (lv_at hl 0 rfl) ?_
            refine k_callr (wr := [(xo, oX xs xu xd xr xf), (xr, rA ca 4 16 (fun i => some (ra i)))]) (va_runV (As := []) (rest := [.int (nI js0), .ref xo]) ⟨hx, hb, hml, hown, hts⟩ (ct_X1_mirror hk l D ca H.size (ra jt0) (rq g jt0)) (cwV 0 hts (lw_V q395 q396 q397 q20 q398) rfl rfl rfl (by decide +kernel) ⟨Nat.le_of_ble_eq_true rfl, Nat.le_of_ble_eq_true rfl⟩) (k_preV hk hK hN hP hD [] (by decide) rfl (hG_14.keep hS nG_14) (hG_14.keep hS nG_14) rfl (q0 := 0) rfl) rfl rfl hl.1 rfl (lv_room (Nat.le_of_ble_eq_true rfl)) dX0_work_138 ⟨Nat.le_of_ble_eq_true rfl, Nat.le_of_ble_eq_true rfl⟩) hP hD hS hA [] [0, 1] rfl rfl (by decide) (by decide) (fun u_16 r_15 H locs w_17 hP hD hxw_17 hzw_17 hqw_17 hS => ?_)
            have hP : va_P D vwCl [(xo, oX xs xu xd xr xf), (xr, rA ca 4 16 (fun i => some (ra i))), (r_15, f4 (q_mirror (rq g jt0)))] H := hP
            have hD : va_D A [(xo, oX xs xu xd xr xf), (xr, rA ca 4 16 (fun i => some (ra i))), (r_15, f4 (q_mirror (rq g jt0)))] := hD
            refine k_calli (wr := [(r_15, f4 (q_mirror (rq g jt0)))]) (va_runV (As := [.int (nI js0), .ref r_15]) (rest := []) ⟨hx, hb, hml, hown, hts⟩ (ct_X0_hold l D ca H.size xo xs xu xd xr xf r_15 js0 ra g (q_mirror (rq g jt0)) (by omega)) (cwV 2 hts (lw_V q320 q322 qs2 q19 q323) rfl rfl rfl (by decide +kernel) ⟨Nat.le_of_ble_eq_true rfl, Nat.le_of_ble_eq_true rfl⟩) (k_preV hk hK hN hP hD [0, 1] (by decide) rfl ⟨(Fo.of hP 2 rfl), (hRg.keep hS hOF)⟩ hP rfl (q0 := 0) rfl) rfl rfl hl.1 rfl (lv_room (Nat.le_of_ble_eq_true rfl)) dX0_work_141 ⟨Nat.le_of_ble_eq_true rfl, Nat.le_of_ble_eq_true rfl⟩) hP hD hS hA [0, 1] [2] rfl rfl (by decide) (by decide) (fun r_18 u_19 H locs w_20 hP hD hxw_20 hzw_20 hqw_20 hS => ?_)
            have hP : va_P D vwCl [(r_15, f4 (q_mirror (rq g jt0))), (xo, oX xs xu xd xr xf), (xr, rA ca 4 16 (fun i => some (u_19 i)))] H := hP
            have hD : va_D A [(r_15, f4 (q_mirror (rq g jt0))), (xo, oX xs xu xd xr xf), (xr, rA ca 4 16 (fun i => some (u_19 i)))] := hD
            obtain rfl : r_18 = if q_low (q_mirror (rq g jt0)) then 0 else -3 := w_20
            exact k_iret (u_19, h_g g js0 (q_mirror (rq g jt0))) hx hb hr hlocks (by simp [m_work, plus_add, plus_sub, c_4, c_8, c_12, nI_clamp (show js0 < 2 ^ 31 by omega), nI_clamp (show jt0 < 2 ^ 31 by omega), show (nI 0).toNatClampNeg = 0 from by decide, show (nI 1).toNatClampNeg = 1 from by decide, show (nI 2).toNatClampNeg = 2 from by decide, show (nI 3).toNatClampNeg = 3 from by decide]) (hP.sub [1, 2] rfl) (hD.sub [1, 2] (by decide) rfl) hxw_20 hS (Nat.le_of_ble_eq_true rfl) (Nat.le_of_ble_eq_true rfl) dX0_work_144
        · have c_13 := le_no (a := 3) (b := jh0) rfl rfl (by omega) (by omega) c_13
          refine lv_iload hx hb dX0_work_31 (lv_at hl 4 rfl) ?_
          refine k_calli (wr := [(xo, oX xs xu xd xr xf), (xr, rA ca 4 16 (fun i => some (ra i)))]) (va_runS (As := [.int u0]) (rest := []) ⟨hx, hb, hml, hown, hts⟩ (ct_X0_isRegister hk l D ca H.size u0) (va_cwS 1 hts (lw_S q313 q314 q19 q315) rfl rfl rfl (by decide +kernel) ⟨Nat.le_of_ble_eq_true rfl, Nat.le_of_ble_eq_true rfl⟩) (k_pre hk hK hN hP hD [] (by decide) rfl trivial) rfl rfl hl.1 rfl (lv_room (Nat.le_of_ble_eq_true rfl)) dX0_work_33 ⟨Nat.le_of_ble_eq_true rfl, Nat.le_of_ble_eq_true rfl⟩) hP hD hS hA [] [0, 1] rfl rfl (by decide) (by decide) (fun r_21 u_22 H locs w_23 hP hD hxw_23 hzw_23 hqw_23 hS => ?_)
          obtain rfl : r_21 = bI (p_in u0.toInt64 0 15) := w_23
          refine lv_if_ne (tgt := 41) hx hb dX0_work_36 (by decide) (fun c_24 => ?_) (fun c_24 => ?_)
          · have c_24 := bI_z1 c_24
            obtain ⟨ju0, hju0, rfl⟩ := in_nI (n := 16) (by decide) c_24
            refine lv_aload_n hx hb dX0_work_41 rfl (lv_at hl 0 rfl) ?_
            refine va_get (D := D) (ci := 0) (v := .ref xr) (C := RX0) (T := TX0) (N := 5) hx hb hts in_X0 hown hK hP 0 rfl rfl 3 (by decide) (hts _ q296) (fun _ h9 => h9) rfl dX0_work_42 ?_
            refine lv_iload_n hx hb dX0_work_45 rfl (lv_at hl 3 rfl) ?_
            refine va_aldq hx hb hK hP 1 4 rfl rfl (vin_nI (a := jt0) rfl (by omega) (by omega)) dX0_work_46 ?_
            refine W.eq (g2 := F0 m 47 ls [.ref (ra jt0)]) (by rw [nI_clamp (show jt0 < 2 ^ 31 by omega)]; rfl) ?_
            have hG_25 := hRg jt0 (by omega)
            have nG_25 := hOF _ _ hG_25
            refine lv_astore (lv' := [(5, .ref (ra jt0)), (0, .ref xo), (1, .int (nI js0)), (2, .int (nI jh0)), (3, .int (nI jt0)), (4, .int (nI ju0))]) hx hb dX0_work_47 hl (by decide) rfl (fun ls hl => ?_)
            refine lv_iload_n hx hb dX0_work_49 rfl (lv_at hl 3 rfl) ?_
            rcases (show jh0 = 0 ∨ jh0 = 1 ∨ jh0 = 2 by omega) with rfl | rfl | rfl
            · refine lv_tableIn (tgt := 76) (off := 26) hx hb dX0_work_50 (by decide) (by decide) (by decide) (by decide) ?_
              refine lv_aload_n hx hb dX0_work_76 rfl (lv_at hl 1 rfl) ?_
              refine lv_iload_n hx hb dX0_work_77 rfl (lv_at hl 2 rfl) ?_
              refine lv_aload hx hb dX0_work_78 (lv_at hl 0 rfl) ?_
              refine lv_aload_n hx hb dX0_work_80 rfl (lv_at hl 1 rfl) ?_
              refine va_get (D := D) (ci := 0) (v := .ref xr) (C := RX0) (T := TX0) (N := 5) hx hb hts in_X0 hown hK hP 0 rfl rfl 3 (by decide) (hts _ q296) (fun _ h9 => h9) rfl dX0_work_81 ?_
              refine lv_iload hx hb dX0_work_84 (lv_at hl 5 rfl) ?_
              refine va_aldq hx hb hK hP 1 4 rfl rfl (vin_nI (a := ju0) rfl (by omega) (by omega)) dX0_work_86 ?_
              refine W.eq (g2 := F0 m 87 ls [.ref (ra ju0), .ref (ra jt0), .int (nI js0), .ref xo]) (by rw [nI_clamp (show ju0 < 2 ^ 31 by omega)]; rfl) ?_
              have hG_26 := hRg ju0 (by omega)
              have nG_26 := hOF _ _ hG_26
              refine lv_lconst (v := 1) hx hb dX0_work_87 (by decide) ?_
              refine k_callr (wr := [(xo, oX xs xu xd xr xf), (xr, rA ca 4 16 (fun i => some (ra i)))]) (va_runV (As := [.ref (ra ju0), .long 1]) (rest := [.int (nI js0), .ref xo]) ⟨hx, hb, hml, hown, hts⟩ (ct_X1_plus hk l D ca H.size (ra jt0) (ra ju0) 1 (rq g jt0) (rq g ju0)) (cwV 2 hts (lw_V q385 q386 q387 q20 q388) rfl rfl rfl (by decide +kernel) ⟨Nat.le_of_ble_eq_true rfl, Nat.le_of_ble_eq_true rfl⟩) (k_preV hk hK hN hP hD [] (by decide) rfl ⟨(hG_25.keep hS nG_25), (hG_26.keep hS nG_26)⟩ (hG_25.keep hS nG_25) rfl (q0 := 0) rfl) rfl rfl hl.1 rfl (lv_room (Nat.le_of_ble_eq_true rfl)) dX0_work_88 ⟨Nat.le_of_ble_eq_true rfl, Nat.le_of_ble_eq_true rfl⟩) hP hD hS hA [] [0, 1] rfl rfl (by decide) (by decide) (fun u_28 r_27 H locs w_29 hP hD hxw_29 hzw_29 hqw_29 hS => ?_)
              have hP : va_P D vwCl [(xo, oX xs xu xd xr xf), (xr, rA ca 4 16 (fun i => some (ra i))), (r_27, f4 (q_plus (rq g jt0) (rq g ju0) 1))] H := hP
              have hD : va_D A [(xo, oX xs xu xd xr xf), (xr, rA ca 4 16 (fun i => some (ra i))), (r_27, f4 (q_plus (rq g jt0) (rq g ju0) 1))] := hD
              refine k_calli (wr := [(r_27, f4 (q_plus (rq g jt0) (rq g ju0) 1))]) (va_runV (As := [.int (nI js0), .ref r_27]) (rest := []) ⟨hx, hb, hml, hown, hts⟩ (ct_X0_hold l D ca H.size xo xs xu xd xr xf r_27 js0 ra g (q_plus (rq g jt0) (rq g ju0) 1) (by omega)) (cwV 2 hts (lw_V q320 q322 qs2 q19 q323) rfl rfl rfl (by decide +kernel) ⟨Nat.le_of_ble_eq_true rfl, Nat.le_of_ble_eq_true rfl⟩) (k_preV hk hK hN hP hD [0, 1] (by decide) rfl ⟨(Fo.of hP 2 rfl), (hRg.keep hS hOF)⟩ hP rfl (q0 := 0) rfl) rfl rfl hl.1 rfl (lv_room (Nat.le_of_ble_eq_true rfl)) dX0_work_91 ⟨Nat.le_of_ble_eq_true rfl, Nat.le_of_ble_eq_true rfl⟩) hP hD hS hA [0, 1] [2] rfl rfl (by decide) (by decide) (fun r_30 u_31 H locs w_32 hP hD hxw_32 hzw_32 hqw_32 hS => ?_)
              have hP : va_P D vwCl [(r_27, f4 (q_plus (rq g jt0) (rq g ju0) 1)), (xo, oX xs xu xd xr xf), (xr, rA ca 4 16 (fun i => some (u_31 i)))] H := hP
              have hD : va_D A [(r_27, f4 (q_plus (rq g jt0) (rq g ju0) 1)), (xo, oX xs xu xd xr xf), (xr, rA ca 4 16 (fun i => some (u_31 i)))] := hD
              obtain rfl : r_30 = if q_low (q_plus (rq g jt0) (rq g ju0) 1) then 0 else -3 := w_32
              exact k_iret (u_31, h_g g js0 (q_plus (rq g jt0) (rq g ju0) 1)) hx hb hr hlocks (by simp [m_work, plus_add, plus_sub, c_4, c_8, c_12, c_24, nI_clamp (show js0 < 2 ^ 31 by omega), nI_clamp (show jt0 < 2 ^ 31 by omega), nI_clamp (show ju0 < 2 ^ 31 by omega), show (nI 0).toNatClampNeg = 0 from by decide, show (nI 1).toNatClampNeg = 1 from by decide, show (nI 2).toNatClampNeg = 2 from by decide, show (nI 3).toNatClampNeg = 3 from by decide]) (hP.sub [1, 2] rfl) (hD.sub [1, 2] (by decide) rfl) hxw_32 hS (Nat.le_of_ble_eq_true rfl) (Nat.le_of_ble_eq_true rfl) dX0_work_94
            · refine lv_tableIn (tgt := 95) (off := 45) hx hb dX0_work_50 (by decide) (by decide) (by decide) (by decide) ?_
              refine lv_aload_n hx hb dX0_work_95 rfl (lv_at hl 1 rfl) ?_
              refine lv_iload_n hx hb dX0_work_96 rfl (lv_at hl 2 rfl) ?_
              refine lv_aload hx hb dX0_work_97 (lv_at hl 0 rfl) ?_
              refine lv_aload_n hx hb dX0_work_99 rfl (lv_at hl 1 rfl) ?_
              refine va_get (D := D) (ci := 0) (v := .ref xr) (C := RX0) (T := TX0) (N := 5) hx hb hts in_X0 hown hK hP 0 rfl rfl 3 (by decide) (hts _ q296) (fun _ h9 => h9) rfl dX0_work_100 ?_
              refine lv_iload hx hb dX0_work_103 (lv_at hl 5 rfl) ?_
              refine va_aldq hx hb hK hP 1 4 rfl rfl (vin_nI (a := ju0) rfl (by omega) (by omega)) dX0_work_105 ?_
              refine W.eq (g2 := F0 m 106 ls [.ref (ra ju0), .ref (ra jt0), .int (nI js0), .ref xo]) (by rw [nI_clamp (show ju0 < 2 ^ 31 by omega)]; rfl) ?_
              have hG_33 := hRg ju0 (by omega)
              have nG_33 := hOF _ _ hG_33
              refine lv_ldc2 hx hb hown (hts _ q134) dX0_work_106 ?_
              refine k_callr (wr := [(xo, oX xs xu xd xr xf), (xr, rA ca 4 16 (fun i => some (ra i)))]) (va_runV (As := [.ref (ra ju0), .long (-1)]) (rest := [.int (nI js0), .ref xo]) ⟨hx, hb, hml, hown, hts⟩ (ct_X1_plus hk l D ca H.size (ra jt0) (ra ju0) (-1) (rq g jt0) (rq g ju0)) (cwV 2 hts (lw_V q385 q386 q387 q20 q388) rfl rfl rfl (by decide +kernel) ⟨Nat.le_of_ble_eq_true rfl, Nat.le_of_ble_eq_true rfl⟩) (k_preV hk hK hN hP hD [] (by decide) rfl ⟨(hG_25.keep hS nG_25), (hG_33.keep hS nG_33)⟩ (hG_25.keep hS nG_25) rfl (q0 := 0) rfl) rfl rfl hl.1 rfl (lv_room (Nat.le_of_ble_eq_true rfl)) dX0_work_109 ⟨Nat.le_of_ble_eq_true rfl, Nat.le_of_ble_eq_true rfl⟩) hP hD hS hA [] [0, 1] rfl rfl (by decide) (by decide) (fun u_35 r_34 H locs w_36 hP hD hxw_36 hzw_36 hqw_36 hS => ?_)
              have hP : va_P D vwCl [(xo, oX xs xu xd xr xf), (xr, rA ca 4 16 (fun i => some (ra i))), (r_34, f4 (q_plus (rq g jt0) (rq g ju0) (-1)))] H := hP
              have hD : va_D A [(xo, oX xs xu xd xr xf), (xr, rA ca 4 16 (fun i => some (ra i))), (r_34, f4 (q_plus (rq g jt0) (rq g ju0) (-1)))] := hD
              refine k_calli (wr := [(r_34, f4 (q_plus (rq g jt0) (rq g ju0) (-1)))]) (va_runV (As := [.int (nI js0), .ref r_34]) (rest := []) ⟨hx, hb, hml, hown, hts⟩ (ct_X0_hold l D ca H.size xo xs xu xd xr xf r_34 js0 ra g (q_plus (rq g jt0) (rq g ju0) (-1)) (by omega)) (cwV 2 hts (lw_V q320 q322 qs2 q19 q323) rfl rfl rfl (by decide +kernel) ⟨Nat.le_of_ble_eq_true rfl, Nat.le_of_ble_eq_true rfl⟩) (k_preV hk hK hN hP hD [0, 1] (by decide) rfl ⟨(Fo.of hP 2 rfl), (hRg.keep hS hOF)⟩ hP rfl (q0 := 0) rfl) rfl rfl hl.1 rfl (lv_room (Nat.le_of_ble_eq_true rfl)) dX0_work_112 ⟨Nat.le_of_ble_eq_true rfl, Nat.le_of_ble_eq_true rfl⟩) hP hD hS hA [0, 1] [2] rfl rfl (by decide) (by decide) (fun r_37 u_38 H locs w_39 hP hD hxw_39 hzw_39 hqw_39 hS => ?_)
              have hP : va_P D vwCl [(r_34, f4 (q_plus (rq g jt0) (rq g ju0) (-1))), (xo, oX xs xu xd xr xf), (xr, rA ca 4 16 (fun i => some (u_38 i)))] H := hP
              have hD : va_D A [(r_34, f4 (q_plus (rq g jt0) (rq g ju0) (-1))), (xo, oX xs xu xd xr xf), (xr, rA ca 4 16 (fun i => some (u_38 i)))] := hD
              obtain rfl : r_37 = if q_low (q_plus (rq g jt0) (rq g ju0) (-1)) then 0 else -3 := w_39
              exact k_iret (u_38, h_g g js0 (q_plus (rq g jt0) (rq g ju0) (-1))) hx hb hr hlocks (by simp [m_work, plus_add, plus_sub, c_4, c_8, c_12, c_24, nI_clamp (show js0 < 2 ^ 31 by omega), nI_clamp (show jt0 < 2 ^ 31 by omega), nI_clamp (show ju0 < 2 ^ 31 by omega), show (nI 0).toNatClampNeg = 0 from by decide, show (nI 1).toNatClampNeg = 1 from by decide, show (nI 2).toNatClampNeg = 2 from by decide, show (nI 3).toNatClampNeg = 3 from by decide]) (hP.sub [1, 2] rfl) (hD.sub [1, 2] (by decide) rfl) hxw_39 hS (Nat.le_of_ble_eq_true rfl) (Nat.le_of_ble_eq_true rfl) dX0_work_115
            · refine lv_tableIn (tgt := 116) (off := 66) hx hb dX0_work_50 (by decide) (by decide) (by decide) (by decide) ?_
              refine lv_aload_n hx hb dX0_work_116 rfl (lv_at hl 1 rfl) ?_
              refine lv_iload_n hx hb dX0_work_117 rfl (lv_at hl 2 rfl) ?_
              refine lv_aload hx hb dX0_work_118 (lv_at hl 0 rfl) ?_
              refine lv_aload_n hx hb dX0_work_120 rfl (lv_at hl 1 rfl) ?_
              refine va_get (D := D) (ci := 0) (v := .ref xr) (C := RX0) (T := TX0) (N := 5) hx hb hts in_X0 hown hK hP 0 rfl rfl 3 (by decide) (hts _ q296) (fun _ h9 => h9) rfl dX0_work_121 ?_
              refine lv_iload hx hb dX0_work_124 (lv_at hl 5 rfl) ?_
              refine va_aldq hx hb hK hP 1 4 rfl rfl (vin_nI (a := ju0) rfl (by omega) (by omega)) dX0_work_126 ?_
              refine W.eq (g2 := F0 m 127 ls [.ref (ra ju0), .ref (ra jt0), .int (nI js0), .ref xo]) (by rw [nI_clamp (show ju0 < 2 ^ 31 by omega)]; rfl) ?_
              have hG_40 := hRg ju0 (by omega)
              have nG_40 := hOF _ _ hG_40
              refine k_callr (wr := [(xo, oX xs xu xd xr xf), (xr, rA ca 4 16 (fun i => some (ra i)))]) (va_runV (As := [.ref (ra ju0)]) (rest := [.int (nI js0), .ref xo]) ⟨hx, hb, hml, hown, hts⟩ (ct_X1_times hk l D ca H.size (ra jt0) (ra ju0) (rq g jt0) (rq g ju0)) (cwV 1 hts (lw_V q391 q392 q393 q20 q394) rfl rfl rfl (by decide +kernel) ⟨Nat.le_of_ble_eq_true rfl, Nat.le_of_ble_eq_true rfl⟩) (k_preV hk hK hN hP hD [] (by decide) rfl ⟨(hG_25.keep hS nG_25), (hG_40.keep hS nG_40)⟩ (hG_25.keep hS nG_25) rfl (q0 := 0) rfl) rfl rfl hl.1 rfl (lv_room (Nat.le_of_ble_eq_true rfl)) dX0_work_127 ⟨Nat.le_of_ble_eq_true rfl, Nat.le_of_ble_eq_true rfl⟩) hP hD hS hA [] [0, 1] rfl rfl (by decide) (by decide) (fun u_42 r_41 H locs w_43 hP hD hxw_43 hzw_43 hqw_43 hS => ?_)
              have hP : va_P D vwCl [(xo, oX xs xu xd xr xf), (xr, rA ca 4 16 (fun i => some (ra i))), (r_41, f4 (q_times (rq g jt0) (rq g ju0)))] H := hP
              have hD : va_D A [(xo, oX xs xu xd xr xf), (xr, rA ca 4 16 (fun i => some (ra i))), (r_41, f4 (q_times (rq g jt0) (rq g ju0)))] := hD
              refine k_calli (wr := [(r_41, f4 (q_times (rq g jt0) (rq g ju0)))]) (va_runV (As := [.int (nI js0), .ref r_41]) (rest := []) ⟨hx, hb, hml, hown, hts⟩ (ct_X0_hold l D ca H.size xo xs xu xd xr xf r_41 js0 ra g (q_times (rq g jt0) (rq g ju0)) (by omega)) (cwV 2 hts (lw_V q320 q322 qs2 q19 q323) rfl rfl rfl (by decide +kernel) ⟨Nat.le_of_ble_eq_true rfl, Nat.le_of_ble_eq_true rfl⟩) (k_preV hk hK hN hP hD [0, 1] (by decide) rfl ⟨(Fo.of hP 2 rfl), (hRg.keep hS hOF)⟩ hP rfl (q0 := 0) rfl) rfl rfl hl.1 rfl (lv_room (Nat.le_of_ble_eq_true rfl)) dX0_work_130 ⟨Nat.le_of_ble_eq_true rfl, Nat.le_of_ble_eq_true rfl⟩) hP hD hS hA [0, 1] [2] rfl rfl (by decide) (by decide) (fun r_44 u_45 H locs w_46 hP hD hxw_46 hzw_46 hqw_46 hS => ?_)
              have hP : va_P D vwCl [(r_41, f4 (q_times (rq g jt0) (rq g ju0))), (xo, oX xs xu xd xr xf), (xr, rA ca 4 16 (fun i => some (u_45 i)))] H := hP
              have hD : va_D A [(r_41, f4 (q_times (rq g jt0) (rq g ju0))), (xo, oX xs xu xd xr xf), (xr, rA ca 4 16 (fun i => some (u_45 i)))] := hD
              obtain rfl : r_44 = if q_low (q_times (rq g jt0) (rq g ju0)) then 0 else -3 := w_46
              exact k_iret (u_45, h_g g js0 (q_times (rq g jt0) (rq g ju0))) hx hb hr hlocks (by simp [m_work, plus_add, plus_sub, c_4, c_8, c_12, c_24, nI_clamp (show js0 < 2 ^ 31 by omega), nI_clamp (show jt0 < 2 ^ 31 by omega), nI_clamp (show ju0 < 2 ^ 31 by omega), show (nI 0).toNatClampNeg = 0 from by decide, show (nI 1).toNatClampNeg = 1 from by decide, show (nI 2).toNatClampNeg = 2 from by decide, show (nI 3).toNatClampNeg = 3 from by decide]) (hP.sub [1, 2] rfl) (hD.sub [1, 2] (by decide) rfl) hxw_46 hS (Nat.le_of_ble_eq_true rfl) (Nat.le_of_ble_eq_true rfl) dX0_work_133
          · have c_24 := bI_z0 c_24
            refine lv_iconst (v := (-1)) hx hb dX0_work_39 (by decide) ?_
            exact k_iret (ra, g) hx hb hr hlocks (by simp [m_work, c_4, c_8, c_12, c_24, nI_clamp (show js0 < 2 ^ 31 by omega), nI_clamp (show jh0 < 2 ^ 31 by omega), nI_clamp (show jt0 < 2 ^ 31 by omega), show jh0 ≠ 3 by omega]) hP hD (hRg.keep hS hOF) hS (Nat.le_of_ble_eq_true rfl) (Nat.le_of_ble_eq_true rfl) dX0_work_40
set_option maxHeartbeats 4000000 in
set_option maxRecDepth 100000 in
theorem ct_X0_unit (l : Launch) (D : va_G) (ca : Nat → ClassId) (zH : Nat) (xo xs xu xd xr xf : Nat) (ua : Nat → Nat) (un : AI) (e0 e1 : Nat) (ra : Nat → Nat) (g : AI) (s0 t0 u0 d0 : Int32)  : Met l yX0_unit (ws_ yX0_unit cX0_unit 5 (some .int)) ({ frames := 5, cells := 1, slots := 4, locals := 113 }) (va_Pc [.ref xo, .int s0, .int t0, .int u0, .int d0] (pr_ NW D ca [(xo, oX xs xu xd xr xf), (xu, rA ca 4 24 (fun i => some (ua i))), (xd, rA ca 5 2 (sdf e0 e1)), (xr, rA ca 4 16 (fun i => some (ra i)))] zH (fun H => Ug D H ua un ∧ Sd D H e0 e1 ∧ Rg D H ra g))) (qI D (fun (r : Int32) (u : (Nat → Nat) × AI) => (r, u.2) = m_unit g un s0 t0 u0 d0) (fun u => [(xo, oX xs xu xd xr xf), (xu, rA ca 4 24 (fun i => some (ua i))), (xd, rA ca 5 2 (sdf e0 e1)), (xr, rA ca 4 16 (fun i => some (u.1 i)))]) (fun u H => Rg D H u.1 u.2) (va_A [(xo, oX xs xu xd xr xf), (xu, rA ca 4 24 (fun i => some (ua i))), (xd, rA ca 5 2 (sdf e0 e1)), (xr, rA ca 4 16 (fun i => some (ra i)))] zH)) 1 4 (va_A [(xo, oX xs xu xd xr xf), (xu, rA ca 4 24 (fun i => some (ua i))), (xd, rA ca 5 2 (sdf e0 e1)), (xr, rA ca 4 16 (fun i => some (ra i)))] zH) := by
  have hk := NW_ok
  refine k_ofW (Qc := qI D (fun (r : Int32) (u : (Nat → Nat) × AI) => (r, u.2) = m_unit g un s0 t0 u0 d0) (fun u => [(xo, oX xs xu xd xr xf), (xu, rA ca 4 24 (fun i => some (ua i))), (xd, rA ca 5 2 (sdf e0 e1)), (xr, rA ca 4 16 (fun i => some (u.1 i)))]) (fun u H => Rg D H u.1 u.2)) (by decide) (Nat.le_of_ble_eq_true rfl) ?_
  intro p e s m below meth c ls A H hH hx hb hr hts hown hlocks hnm hml hsz hP hD hK hN hA hAn hS hro hl
  have hl : lv_has ls 5 [(0, .ref xo), (1, .int s0), (2, .int t0), (3, .int u0), (4, .int d0)] := hl
  have hOF := k_outF hK (hH ▸ hP) (okc (oko 0 (by decide)) (okc (oka 4 (by decide)) (okc (oka 5 (by decide)) (okc (oka 4 (by decide)) (okn))))) hAn
  have hOS := k_outS hK (hH ▸ hP) (okc (oko 0 (by decide)) (okc (oka 4 (by decide)) (okc (oka 5 (by decide)) (okc (oka 4 (by decide)) (okn))))) hAn
  obtain ⟨hUg, hSd, hRg⟩ := hro
  refine lv_iload_n hx hb dX0_unit_0 rfl (lv_at hl 1 rfl) ?_
  refine k_calli (wr := [(xo, oX xs xu xd xr xf), (xu, rA ca 4 24 (fun i => some (ua i))), (xd, rA ca 5 2 (sdf e0 e1)), (xr, rA ca 4 16 (fun i => some (ra i)))]) (va_runS (As := [.int s0]) (rest := []) ⟨hx, hb, hml, hown, hts⟩ (ct_X0_isRegister hk l D ca H.size s0) (va_cwS 1 hts (lw_S q313 q314 q19 q315) rfl rfl rfl (by decide +kernel) ⟨Nat.le_of_ble_eq_true rfl, Nat.le_of_ble_eq_true rfl⟩) (k_pre hk hK hN hP hD [] (by decide) rfl trivial) rfl rfl hl.1 rfl (lv_room (Nat.le_of_ble_eq_true rfl)) dX0_unit_1 ⟨Nat.le_of_ble_eq_true rfl, Nat.le_of_ble_eq_true rfl⟩) hP hD hS hA [] [0, 1, 2, 3] rfl rfl (by decide) (by decide) (fun r_1 u_2 H locs w_3 hP hD hxw_3 hzw_3 hqw_3 hS => ?_)
  obtain rfl : r_1 = bI (p_in s0.toInt64 0 15) := w_3
  refine lv_if_eq (tgt := 34) hx hb dX0_unit_4 (by decide) (fun c_4 => ?_) (fun c_4 => ?_)
  · have c_4 := bI_z0 c_4
    refine lv_iconst (v := (-1)) hx hb dX0_unit_34 (by decide) ?_
    exact k_iret (ra, g) hx hb hr hlocks (by simp [m_unit, c_4]) hP hD (hRg.keep hS hOF) hS (Nat.le_of_ble_eq_true rfl) (Nat.le_of_ble_eq_true rfl) dX0_unit_35
  · have c_4 := bI_z1 c_4
    obtain ⟨js0, hjs0, rfl⟩ := in_nI (n := 16) (by decide) c_4
    refine lv_iload_n hx hb dX0_unit_7 rfl (lv_at hl 2 rfl) ?_
    refine k_calli (wr := [(xo, oX xs xu xd xr xf), (xu, rA ca 4 24 (fun i => some (ua i))), (xd, rA ca 5 2 (sdf e0 e1)), (xr, rA ca 4 16 (fun i => some (ra i)))]) (va_runS (As := [.int t0]) (rest := []) ⟨hx, hb, hml, hown, hts⟩ (ct_X0_isRegister hk l D ca H.size t0) (va_cwS 1 hts (lw_S q313 q314 q19 q315) rfl rfl rfl (by decide +kernel) ⟨Nat.le_of_ble_eq_true rfl, Nat.le_of_ble_eq_true rfl⟩) (k_pre hk hK hN hP hD [] (by decide) rfl trivial) rfl rfl hl.1 rfl (lv_room (Nat.le_of_ble_eq_true rfl)) dX0_unit_8 ⟨Nat.le_of_ble_eq_true rfl, Nat.le_of_ble_eq_true rfl⟩) hP hD hS hA [] [0, 1, 2, 3] rfl rfl (by decide) (by decide) (fun r_5 u_6 H locs w_7 hP hD hxw_7 hzw_7 hqw_7 hS => ?_)
    obtain rfl : r_5 = bI (p_in t0.toInt64 0 15) := w_7
    refine lv_if_eq (tgt := 34) hx hb dX0_unit_11 (by decide) (fun c_8 => ?_) (fun c_8 => ?_)
    · have c_8 := bI_z0 c_8
      refine lv_iconst (v := (-1)) hx hb dX0_unit_34 (by decide) ?_
      exact k_iret (ra, g) hx hb hr hlocks (by simp [m_unit, c_4, c_8, nI_clamp (show js0 < 2 ^ 31 by omega)]) hP hD (hRg.keep hS hOF) hS (Nat.le_of_ble_eq_true rfl) (Nat.le_of_ble_eq_true rfl) dX0_unit_35
    · have c_8 := bI_z1 c_8
      obtain ⟨jt0, hjt0, rfl⟩ := in_nI (n := 16) (by decide) c_8
      refine lv_iload_n hx hb dX0_unit_14 rfl (lv_at hl 3 rfl) ?_
      refine lv_i2l (v := u0.toInt64) hx hb dX0_unit_15 rfl ?_
      refine lv_lconst (v := 0) hx hb dX0_unit_16 (by decide) ?_
      refine lv_ldc2 hx hb hown (hts _ q403) dX0_unit_17 ?_
      refine k_calli (wr := [(xo, oX xs xu xd xr xf), (xu, rA ca 4 24 (fun i => some (ua i))), (xd, rA ca 5 2 (sdf e0 e1)), (xr, rA ca 4 16 (fun i => some (ra i)))]) (va_runS (As := [.long u0.toInt64, .long 0, .long 23]) (rest := []) ⟨hx, hb, hml, hown, hts⟩ (ct_X0_isIn hk l D ca H.size u0.toInt64 0 23) (va_cwS 3 hts (lw_S q131 q132 q19 q133) rfl rfl rfl (by decide +kernel) ⟨Nat.le_of_ble_eq_true rfl, Nat.le_of_ble_eq_true rfl⟩) (k_pre hk hK hN hP hD [] (by decide) rfl trivial) rfl rfl hl.1 rfl (lv_room (Nat.le_of_ble_eq_true rfl)) dX0_unit_20 ⟨Nat.le_of_ble_eq_true rfl, Nat.le_of_ble_eq_true rfl⟩) hP hD hS hA [] [0, 1, 2, 3] rfl rfl (by decide) (by decide) (fun r_9 u_10 H locs w_11 hP hD hxw_11 hzw_11 hqw_11 hS => ?_)
      obtain rfl : r_9 = bI (p_in u0.toInt64 0 23) := w_11
      refine lv_if_eq (tgt := 34) hx hb dX0_unit_23 (by decide) (fun c_12 => ?_) (fun c_12 => ?_)
      · have c_12 := bI_z0 c_12
        refine lv_iconst (v := (-1)) hx hb dX0_unit_34 (by decide) ?_
        exact k_iret (ra, g) hx hb hr hlocks (by simp [m_unit, c_4, c_8, c_12, nI_clamp (show js0 < 2 ^ 31 by omega), nI_clamp (show jt0 < 2 ^ 31 by omega)]) hP hD (hRg.keep hS hOF) hS (Nat.le_of_ble_eq_true rfl) (Nat.le_of_ble_eq_true rfl) dX0_unit_35
      · have c_12 := bI_z1 c_12
        obtain ⟨ju0, hju0, rfl⟩ := in_nI (n := 24) (by decide) c_12
        refine lv_iload hx hb dX0_unit_26 (lv_at hl 4 rfl) ?_
        refine k_calli (wr := [(xo, oX xs xu xd xr xf), (xu, rA ca 4 24 (fun i => some (ua i))), (xd, rA ca 5 2 (sdf e0 e1)), (xr, rA ca 4 16 (fun i => some (ra i)))]) (va_runS (As := [.int d0]) (rest := []) ⟨hx, hb, hml, hown, hts⟩ (ct_X0_isSide hk l D ca H.size d0) (va_cwS 1 hts (lw_S q404 q405 q19 q406) rfl rfl rfl (by decide +kernel) ⟨Nat.le_of_ble_eq_true rfl, Nat.le_of_ble_eq_true rfl⟩) (k_pre hk hK hN hP hD [] (by decide) rfl trivial) rfl rfl hl.1 rfl (lv_room (Nat.le_of_ble_eq_true rfl)) dX0_unit_28 ⟨Nat.le_of_ble_eq_true rfl, Nat.le_of_ble_eq_true rfl⟩) hP hD hS hA [] [0, 1, 2, 3] rfl rfl (by decide) (by decide) (fun r_13 u_14 H locs w_15 hP hD hxw_15 hzw_15 hqw_15 hS => ?_)
        obtain rfl : r_13 = bI (p_in d0.toInt64 0 1) := w_15
        refine lv_if_ne (tgt := 36) hx hb dX0_unit_31 (by decide) (fun c_16 => ?_) (fun c_16 => ?_)
        · have c_16 := bI_z1 c_16
          obtain ⟨jd0, hjd0, rfl⟩ := in_nI (n := 2) (by decide) c_16
          refine lv_aload_n hx hb dX0_unit_36 rfl (lv_at hl 0 rfl) ?_
          refine lv_iload_n hx hb dX0_unit_37 rfl (lv_at hl 1 rfl) ?_
          refine lv_aload_n hx hb dX0_unit_38 rfl (lv_at hl 0 rfl) ?_
          refine va_get (D := D) (ci := 0) (v := .ref xd) (C := RX0) (T := TX0) (N := 5) hx hb hts in_X0 hown hK hP 0 rfl rfl 2 (by decide) (hts _ q295) (fun _ h9 => h9) rfl dX0_unit_39 ?_
          refine lv_iload hx hb dX0_unit_42 (lv_at hl 4 rfl) ?_
          rcases (show jd0 = 0 ∨ jd0 = 1 by omega) with rfl | rfl
          · refine va_aldq hx hb hK hP 2 5 rfl rfl (vin_nI (a := 0) rfl (by omega) (by omega)) dX0_unit_44 ?_
            refine W.eq (g2 := F0 m 45 ls [.ref e0, .int (nI js0), .ref xo]) (by rw [nI_clamp (show 0 < 2 ^ 31 by omega)]; rfl) ?_
            have hE_17 := hSd.1
            have nE_17 := hOS _ _ (Or.inl rfl) hE_17
            refine lv_aload_n hx hb dX0_unit_45 rfl (lv_at hl 0 rfl) ?_
            refine va_get (D := D) (ci := 0) (v := .ref xr) (C := RX0) (T := TX0) (N := 5) hx hb hts in_X0 hown hK hP 0 rfl rfl 3 (by decide) (hts _ q296) (fun _ h9 => h9) rfl dX0_unit_46 ?_
            refine lv_iload_n hx hb dX0_unit_49 rfl (lv_at hl 2 rfl) ?_
            refine va_aldq hx hb hK hP 3 4 rfl rfl (vin_nI (a := jt0) rfl (by omega) (by omega)) dX0_unit_50 ?_
            refine W.eq (g2 := F0 m 51 ls [.ref (ra jt0), .ref e0, .int (nI js0), .ref xo]) (by rw [nI_clamp (show jt0 < 2 ^ 31 by omega)]; rfl) ?_
            have hG_18 := hRg jt0 (by omega)
            have nG_18 := hOF _ _ hG_18
            refine lv_aload_n hx hb dX0_unit_51 rfl (lv_at hl 0 rfl) ?_
            refine va_get (D := D) (ci := 0) (v := .ref xu) (C := RX0) (T := TX0) (N := 5) hx hb hts in_X0 hown hK hP 0 rfl rfl 1 (by decide) (hts _ q294) (fun _ h9 => h9) rfl dX0_unit_52 ?_
            refine lv_iload_n hx hb dX0_unit_55 rfl (lv_at hl 3 rfl) ?_
            refine va_aldq hx hb hK hP 1 4 rfl rfl (vin_nI (a := ju0) rfl (by omega) (by omega)) dX0_unit_56 ?_
            refine W.eq (g2 := F0 m 57 ls [.ref (ua ju0), .ref (ra jt0), .ref e0, .int (nI js0), .ref xo]) (by rw [nI_clamp (show ju0 < 2 ^ 31 by omega)]; rfl) ?_
            have hG_19 := hUg ju0 (by omega)
            have nG_19 := hOF _ _ hG_19
            refine k_callr (wr := [(xo, oX xs xu xd xr xf), (xu, rA ca 4 24 (fun i => some (ua i))), (xd, rA ca 5 2 (sdf e0 e1)), (xr, rA ca 4 16 (fun i => some (ra i)))]) (va_runU (x := ySide_product) (As := [.ref (ra jt0), .ref (ua ju0)]) (rest := [.int (nI js0), .ref xo]) ⟨hx, hb, hml, hown, hts⟩ (ct_X3_product hk l D ca H.size e0 (ra jt0) (ua ju0) (rq g jt0) (rq un ju0)) (va_cwA (C := "FourParts$Right") (owner := "FourParts$Side") (x := ySide_product) 2 hts (lw_app (fun w hw => by simp only [List.mem_cons, List.not_mem_nil, or_false] at hw; rcases hw with e | e | e | e | e <;> rw [e] <;> first | exact q407 | exact q409 | exact q417 | exact q414 | exact q22) (lw_meth q415)) rfl rfl rfl (hN.2.2.1 _ (List.mem_of_getElem? (i := 1) rfl)) (by decide +kernel) ⟨Nat.le_of_ble_eq_true rfl, Nat.le_of_ble_eq_true rfl⟩) (k_preV hk hK hN hP hD [] (by decide) rfl ⟨(hG_18.keep hS nG_18), (hG_19.keep hS nG_19)⟩ (hE_17.keep hS nE_17) rfl (q0 := 0) rfl) rfl rfl hl.1 rfl (lv_room (Nat.le_of_ble_eq_true rfl)) dX0_unit_57 ⟨Nat.le_of_ble_eq_true rfl, Nat.le_of_ble_eq_true rfl⟩) hP hD hS hA [] [0, 1, 2, 3] rfl rfl (by decide) (by decide) (fun u_21 r_20 H locs w_22 hP hD hxw_22 hzw_22 hqw_22 hS => ?_)
            have hP : va_P D vwCl [(xo, oX xs xu xd xr xf), (xu, rA ca 4 24 (fun i => some (ua i))), (xd, rA ca 5 2 (sdf e0 e1)), (xr, rA ca 4 16 (fun i => some (ra i))), (r_20, f4 (q_times (rq g jt0) (rq un ju0)))] H := hP
            have hD : va_D A [(xo, oX xs xu xd xr xf), (xu, rA ca 4 24 (fun i => some (ua i))), (xd, rA ca 5 2 (sdf e0 e1)), (xr, rA ca 4 16 (fun i => some (ra i))), (r_20, f4 (q_times (rq g jt0) (rq un ju0)))] := hD
            refine k_calli (wr := [(xu, rA ca 4 24 (fun i => some (ua i))), (xd, rA ca 5 2 (sdf e0 e1)), (r_20, f4 (q_times (rq g jt0) (rq un ju0)))]) (va_runV (As := [.int (nI js0), .ref r_20]) (rest := []) ⟨hx, hb, hml, hown, hts⟩ (ct_X0_hold l D ca H.size xo xs xu xd xr xf r_20 js0 ra g (q_times (rq g jt0) (rq un ju0)) (by omega)) (cwV 2 hts (lw_V q320 q322 qs2 q19 q323) rfl rfl rfl (by decide +kernel) ⟨Nat.le_of_ble_eq_true rfl, Nat.le_of_ble_eq_true rfl⟩) (k_preV hk hK hN hP hD [0, 3] (by decide) rfl ⟨(Fo.of hP 4 rfl), (hRg.keep hS hOF)⟩ hP rfl (q0 := 0) rfl) rfl rfl hl.1 rfl (lv_room (Nat.le_of_ble_eq_true rfl)) dX0_unit_60 ⟨Nat.le_of_ble_eq_true rfl, Nat.le_of_ble_eq_true rfl⟩) hP hD hS hA [0, 3] [1, 2, 4] rfl rfl (by decide) (by decide) (fun r_23 u_24 H locs w_25 hP hD hxw_25 hzw_25 hqw_25 hS => ?_)
            have hP : va_P D vwCl [(xu, rA ca 4 24 (fun i => some (ua i))), (xd, rA ca 5 2 (sdf e0 e1)), (r_20, f4 (q_times (rq g jt0) (rq un ju0))), (xo, oX xs xu xd xr xf), (xr, rA ca 4 16 (fun i => some (u_24 i)))] H := hP
            have hD : va_D A [(xu, rA ca 4 24 (fun i => some (ua i))), (xd, rA ca 5 2 (sdf e0 e1)), (r_20, f4 (q_times (rq g jt0) (rq un ju0))), (xo, oX xs xu xd xr xf), (xr, rA ca 4 16 (fun i => some (u_24 i)))] := hD
            obtain rfl : r_23 = if q_low (q_times (rq g jt0) (rq un ju0)) then 0 else -3 := w_25
            exact k_iret (u_24, h_g g js0 (q_times (rq g jt0) (rq un ju0))) hx hb hr hlocks (by rw [m_unit, if_pos c_4, if_pos c_8, if_pos c_12, if_pos c_16, nI_clamp (show js0 < 2 ^ 31 by omega), nI_clamp (show jt0 < 2 ^ 31 by omega), nI_clamp (show ju0 < 2 ^ 31 by omega)]; rfl) (hP.sub [3, 0, 1, 4] rfl) (hD.sub [3, 0, 1, 4] (by decide) rfl) hxw_25 hS (Nat.le_of_ble_eq_true rfl) (Nat.le_of_ble_eq_true rfl) dX0_unit_63
          · refine va_aldq hx hb hK hP 2 5 rfl rfl (vin_nI (a := 1) rfl (by omega) (by omega)) dX0_unit_44 ?_
            refine W.eq (g2 := F0 m 45 ls [.ref e1, .int (nI js0), .ref xo]) (by rw [nI_clamp (show 1 < 2 ^ 31 by omega)]; rfl) ?_
            have hE_26 := hSd.2
            have nE_26 := hOS _ _ (Or.inr rfl) hE_26
            refine lv_aload_n hx hb dX0_unit_45 rfl (lv_at hl 0 rfl) ?_
            refine va_get (D := D) (ci := 0) (v := .ref xr) (C := RX0) (T := TX0) (N := 5) hx hb hts in_X0 hown hK hP 0 rfl rfl 3 (by decide) (hts _ q296) (fun _ h9 => h9) rfl dX0_unit_46 ?_
            refine lv_iload_n hx hb dX0_unit_49 rfl (lv_at hl 2 rfl) ?_
            refine va_aldq hx hb hK hP 3 4 rfl rfl (vin_nI (a := jt0) rfl (by omega) (by omega)) dX0_unit_50 ?_
            refine W.eq (g2 := F0 m 51 ls [.ref (ra jt0), .ref e1, .int (nI js0), .ref xo]) (by rw [nI_clamp (show jt0 < 2 ^ 31 by omega)]; rfl) ?_
            have hG_27 := hRg jt0 (by omega)
            have nG_27 := hOF _ _ hG_27
            refine lv_aload_n hx hb dX0_unit_51 rfl (lv_at hl 0 rfl) ?_
            refine va_get (D := D) (ci := 0) (v := .ref xu) (C := RX0) (T := TX0) (N := 5) hx hb hts in_X0 hown hK hP 0 rfl rfl 1 (by decide) (hts _ q294) (fun _ h9 => h9) rfl dX0_unit_52 ?_
            refine lv_iload_n hx hb dX0_unit_55 rfl (lv_at hl 3 rfl) ?_
            refine va_aldq hx hb hK hP 1 4 rfl rfl (vin_nI (a := ju0) rfl (by omega) (by omega)) dX0_unit_56 ?_
            refine W.eq (g2 := F0 m 57 ls [.ref (ua ju0), .ref (ra jt0), .ref e1, .int (nI js0), .ref xo]) (by rw [nI_clamp (show ju0 < 2 ^ 31 by omega)]; rfl) ?_
            have hG_28 := hUg ju0 (by omega)
            have nG_28 := hOF _ _ hG_28
            refine k_callr (wr := [(xo, oX xs xu xd xr xf), (xu, rA ca 4 24 (fun i => some (ua i))), (xd, rA ca 5 2 (sdf e0 e1)), (xr, rA ca 4 16 (fun i => some (ra i)))]) (va_runU (x := ySide_product) (As := [.ref (ra jt0), .ref (ua ju0)]) (rest := [.int (nI js0), .ref xo]) ⟨hx, hb, hml, hown, hts⟩ (ct_X4_product l D ca H.size e1 (ra jt0) (ua ju0) (rq g jt0) (rq un ju0)) (va_cwA (C := "FourParts$Left") (owner := "FourParts$Side") (x := ySide_product) 2 hts (lw_app (fun w hw => by simp only [List.mem_cons, List.not_mem_nil, or_false] at hw; rcases hw with e | e | e | e | e <;> rw [e] <;> first | exact q407 | exact q409 | exact q410 | exact q411 | exact q23) (lw_meth q412)) rfl rfl rfl (hN.2.2.1 _ (List.mem_of_getElem? (i := 1) rfl)) (by decide +kernel) ⟨Nat.le_of_ble_eq_true rfl, Nat.le_of_ble_eq_true rfl⟩) (k_preV hk hK hN hP hD [] (by decide) rfl ⟨(hE_26.keep hS nE_26), (hG_27.keep hS nG_27), (hG_28.keep hS nG_28)⟩ (hE_26.keep hS nE_26) rfl (q0 := 0) rfl) rfl rfl hl.1 rfl (lv_room (Nat.le_of_ble_eq_true rfl)) dX0_unit_57 ⟨Nat.le_of_ble_eq_true rfl, Nat.le_of_ble_eq_true rfl⟩) hP hD hS hA [] [0, 1, 2, 3] rfl rfl (by decide) (by decide) (fun u_30 r_29 H locs w_31 hP hD hxw_31 hzw_31 hqw_31 hS => ?_)
            have hP : va_P D vwCl [(xo, oX xs xu xd xr xf), (xu, rA ca 4 24 (fun i => some (ua i))), (xd, rA ca 5 2 (sdf e0 e1)), (xr, rA ca 4 16 (fun i => some (ra i))), (r_29, f4 (q_times (rq un ju0) (rq g jt0)))] H := hP
            have hD : va_D A [(xo, oX xs xu xd xr xf), (xu, rA ca 4 24 (fun i => some (ua i))), (xd, rA ca 5 2 (sdf e0 e1)), (xr, rA ca 4 16 (fun i => some (ra i))), (r_29, f4 (q_times (rq un ju0) (rq g jt0)))] := hD
            refine k_calli (wr := [(xu, rA ca 4 24 (fun i => some (ua i))), (xd, rA ca 5 2 (sdf e0 e1)), (r_29, f4 (q_times (rq un ju0) (rq g jt0)))]) (va_runV (As := [.int (nI js0), .ref r_29]) (rest := []) ⟨hx, hb, hml, hown, hts⟩ (ct_X0_hold l D ca H.size xo xs xu xd xr xf r_29 js0 ra g (q_times (rq un ju0) (rq g jt0)) (by omega)) (cwV 2 hts (lw_V q320 q322 qs2 q19 q323) rfl rfl rfl (by decide +kernel) ⟨Nat.le_of_ble_eq_true rfl, Nat.le_of_ble_eq_true rfl⟩) (k_preV hk hK hN hP hD [0, 3] (by decide) rfl ⟨(Fo.of hP 4 rfl), (hRg.keep hS hOF)⟩ hP rfl (q0 := 0) rfl) rfl rfl hl.1 rfl (lv_room (Nat.le_of_ble_eq_true rfl)) dX0_unit_60 ⟨Nat.le_of_ble_eq_true rfl, Nat.le_of_ble_eq_true rfl⟩) hP hD hS hA [0, 3] [1, 2, 4] rfl rfl (by decide) (by decide) (fun r_32 u_33 H locs w_34 hP hD hxw_34 hzw_34 hqw_34 hS => ?_)
            have hP : va_P D vwCl [(xu, rA ca 4 24 (fun i => some (ua i))), (xd, rA ca 5 2 (sdf e0 e1)), (r_29, f4 (q_times (rq un ju0) (rq g jt0))), (xo, oX xs xu xd xr xf), (xr, rA ca 4 16 (fun i => some (u_33 i)))] H := hP
            have hD : va_D A [(xu, rA ca 4 24 (fun i => some (ua i))), (xd, rA ca 5 2 (sdf e0 e1)), (r_29, f4 (q_times (rq un ju0) (rq g jt0))), (xo, oX xs xu xd xr xf), (xr, rA ca 4 16 (fun i => some (u_33 i)))] := hD
            obtain rfl : r_32 = if q_low (q_times (rq un ju0) (rq g jt0)) then 0 else -3 := w_34
            exact k_iret (u_33, h_g g js0 (q_times (rq un ju0) (rq g jt0))) hx hb hr hlocks (by rw [m_unit, if_pos c_4, if_pos c_8, if_pos c_12, if_pos c_16, nI_clamp (show js0 < 2 ^ 31 by omega), nI_clamp (show jt0 < 2 ^ 31 by omega), nI_clamp (show ju0 < 2 ^ 31 by omega)]; rfl) (hP.sub [3, 0, 1, 4] rfl) (hD.sub [3, 0, 1, 4] (by decide) rfl) hxw_34 hS (Nat.le_of_ble_eq_true rfl) (Nat.le_of_ble_eq_true rfl) dX0_unit_63
        · have c_16 := bI_z0 c_16
          refine lv_iconst (v := (-1)) hx hb dX0_unit_34 (by decide) ?_
          exact k_iret (ra, g) hx hb hr hlocks (by simp [m_unit, c_4, c_8, c_12, c_16, nI_clamp (show js0 < 2 ^ 31 by omega), nI_clamp (show jt0 < 2 ^ 31 by omega), nI_clamp (show ju0 < 2 ^ 31 by omega)]) hP hD (hRg.keep hS hOF) hS (Nat.le_of_ble_eq_true rfl) (Nat.le_of_ble_eq_true rfl) dX0_unit_35
