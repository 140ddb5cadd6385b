set_option maxHeartbeats 4000000 in
set_option maxRecDepth 100000 in
theorem ct_X5_factor {KN : State → Prop} (hk : KNok KN) (l : Launch) (D : va_G) (ca : Nat → ClassId) (zH : Nat) (o : Nat) (ad : Nat → Nat) (kf : Nat) (mo : Int32) (g : AI) (fc : AL) (x : Q4) (s0 k0 : Int32) (hkf : kf ≤ 12) : Met l yX5_factor (ws_ yX5_factor cX5_factor 4 (some .int)) ({ frames := 4, cells := 0, slots := 0, locals := 88 }) (va_Pc [.ref o, .int s0, .int k0] (pr_ KN D ca [(o, mO ad (nI kf) mo), (ad 3, aI ca 64 g), (ad 6, aL ca 48 fc), (ad 8, a4 ca x)] zH (fun _ => True))) (qI D (fun (r : Int32) (u : AI × Q4) => (r, u.1) = m_factor g kf fc s0 k0) (fun u => [(o, mO ad (nI kf) mo), (ad 3, aI ca 64 u.1), (ad 6, aL ca 48 fc), (ad 8, a4 ca u.2)]) (fun u H => True) (va_A [(o, mO ad (nI kf) mo), (ad 3, aI ca 64 g), (ad 6, aL ca 48 fc), (ad 8, a4 ca x)] zH)) 0 0 (va_A [(o, mO ad (nI kf) mo), (ad 3, aI ca 64 g), (ad 6, aL ca 48 fc), (ad 8, a4 ca x)] zH) := by
  refine k_ofW (Qc := qI D (fun (r : Int32) (u : AI × Q4) => (r, u.1) = m_factor g kf fc s0 k0) (fun u => [(o, mO ad (nI kf) mo), (ad 3, aI ca 64 u.1), (ad 6, aL ca 48 fc), (ad 8, a4 ca u.2)]) (fun u H => True)) (by decide) (Nat.le_of_ble_eq_true rfl) ?_
  intro p e s m below meth c ls A H hH hx hb hr hts hown hlocks hnm hml hsz hP hD hK hN hA hAn hS hro hl
  have hl : lv_has ls 4 [(0, .ref o), (1, .int s0), (2, .int k0)] := hl
  refine lv_iload_n hx hb dX5_factor_0 rfl (lv_at hl 1 rfl) ?_
  refine k_calli (wr := [(o, mO ad (nI kf) mo), (ad 3, aI ca 64 g), (ad 6, aL ca 48 fc), (ad 8, a4 ca x)]) (va_runS (As := [.int s0]) (rest := []) ⟨hx, hb, hml, hown, hts⟩ (ct_X5_isRegister hk l D ca H.size s0) (va_cwS 1 hts (lw_S q660 q661 q24 q662) rfl rfl rfl (by decide +kernel) ⟨Nat.le_of_ble_eq_true rfl, Nat.le_of_ble_eq_true rfl⟩) (k_pre hk hK hN hP hD [] (by decide) rfl trivial) rfl rfl hl.1 rfl (lv_room (Nat.le_of_ble_eq_true rfl)) dX5_factor_1 ⟨Nat.le_of_ble_eq_true rfl, Nat.le_of_ble_eq_true rfl⟩) hP hD hS hA [] [0, 1, 2, 3] rfl rfl (by decide) (by decide) (fun r_1 u_2 H locs w_3 hP hD hxw_3 hzw_3 hqw_3 hS => ?_)
  obtain rfl : r_1 = bI (p_in s0.toInt64 0 15) := w_3
  refine lv_if_ne (tgt := 9) hx hb dX5_factor_4 (by decide) (fun c_4 => ?_) (fun c_4 => ?_)
  · have c_4 := bI_z1 c_4
    obtain ⟨js0, hjs0, rfl⟩ := in_nI (n := 16) (by decide) c_4
    refine lv_iload_n hx hb dX5_factor_9 rfl (lv_at hl 2 rfl) ?_
    refine lv_i2l (v := k0.toInt64) hx hb dX5_factor_10 rfl ?_
    refine lv_lconst (v := 0) hx hb dX5_factor_11 (by decide) ?_
    refine lv_aload_n hx hb dX5_factor_12 rfl (lv_at hl 0 rfl) ?_
    refine va_get (D := D) (ci := 4) (v := .int (nI kf)) (C := RX5) (T := TX5) (N := 18) hx hb hts in_X5 hown hK hP 0 rfl rfl 5 (by decide) (hts _ q578) (fun _ h9 => h9) rfl dX5_factor_13 ?_
    refine lv_iconst (v := 1) hx hb dX5_factor_16 (by decide) ?_
    refine lv_isub hx hb dX5_factor_17 ?_
    refine lv_i2l (v := ((nI kf) - 1).toInt64) hx hb dX5_factor_18 rfl ?_
    refine k_calli (wr := [(o, mO ad (nI kf) mo), (ad 3, aI ca 64 g), (ad 6, aL ca 48 fc), (ad 8, a4 ca x)]) (va_runS (As := [.long k0.toInt64, .long 0, .long (((nI kf) - 1).toInt64)]) (rest := []) ⟨hx, hb, hml, hown, hts⟩ (ct_X5_in hk l D ca H.size k0.toInt64 0 (((nI kf) - 1).toInt64)) (va_cwS 3 hts (lw_S q635 q636 q24 q637) rfl rfl rfl (by decide +kernel) ⟨Nat.le_of_ble_eq_true rfl, Nat.le_of_ble_eq_true rfl⟩) (k_pre hk hK hN hP hD [] (by decide) rfl trivial) rfl rfl hl.1 rfl (lv_room (Nat.le_of_ble_eq_true rfl)) dX5_factor_19 ⟨Nat.le_of_ble_eq_true rfl, Nat.le_of_ble_eq_true rfl⟩) hP hD hS hA [] [0, 1, 2, 3] rfl rfl (by decide) (by decide) (fun r_5 u_6 H locs w_7 hP hD hxw_7 hzw_7 hqw_7 hS => ?_)
    obtain rfl : r_5 = bI (p_in k0.toInt64 0 (((nI kf) - 1).toInt64)) := w_7
    refine lv_if_ne (tgt := 28) hx hb dX5_factor_22 (by decide) (fun c_8 => ?_) (fun c_8 => ?_)
    · have c_8 := bI_z1 c_8
      obtain ⟨jk0, hjk0, rfl⟩ := in_nIv hkf c_8
      refine lv_iconst (v := 0) hx hb dX5_factor_28 (by decide) ?_
      refine lv_istore_n (lv' := [(3, .int 0), (0, .ref o), (1, .int (nI js0)), (2, .int (nI jk0))]) hx hb dX5_factor_29 rfl hl (by decide) rfl (fun ls hl => ?_)
      refine lv_iload_n hx hb dX5_factor_30 rfl (lv_at hl 0 rfl) ?_
      refine lv_iconst (v := 4) hx hb dX5_factor_31 (by decide) ?_
      refine lv_icmp_ge (tgt := 57) hx hb dX5_factor_32 (by decide) (fun c_9 => absurd c_9 (by decide)) (fun c_9 => ?_)
      refine lv_aload_n hx hb dX5_factor_35 rfl (lv_at hl 1 rfl) ?_
      refine va_get (D := D) (ci := 4) (v := .ref (ad 8)) (C := RX5) (T := TX5) (N := 18) hx hb hts in_X5 hown hK hP 0 rfl rfl 8 (by decide) (hts _ q581) (fun _ h9 => h9) rfl dX5_factor_36 ?_
      refine lv_iload_n hx hb dX5_factor_39 rfl (lv_at hl 0 rfl) ?_
      refine lv_aload_n hx hb dX5_factor_40 rfl (lv_at hl 1 rfl) ?_
      refine va_get (D := D) (ci := 4) (v := .ref (ad 6)) (C := RX5) (T := TX5) (N := 18) hx hb hts in_X5 hown hK hP 0 rfl rfl 6 (by decide) (hts _ q579) (fun _ h9 => h9) rfl dX5_factor_41 ?_
      refine lv_iconst (v := 4) hx hb dX5_factor_44 (by decide) ?_
      refine lv_iload_n hx hb dX5_factor_45 rfl (lv_at hl 3 rfl) ?_
      refine lv_imul hx hb dX5_factor_46 ?_
      refine lv_iload_n hx hb dX5_factor_47 rfl (lv_at hl 0 rfl) ?_
      refine lv_iadd hx hb dX5_factor_48 ?_
      refine va_lald hx hb hK hP 2 2 rfl rfl (vin_nI (a := 4 * jk0) (eq_add0 (eq_mul rfl rfl)) (by omega) (by omega)) dX5_factor_49 ?_
      refine lv_topl (fun z_10 ez_10 => ?_)
      obtain rfl : z_10 = fc (4 * jk0) := ez_10.trans (cl_nI (a := 4 * jk0) fc (eq_add0 (eq_mul rfl rfl)) (by omega))
      refine va_last hx hb hK hP hD hS 3 2 rfl rfl (vin (by decide)) dX5_factor_50 (fun H locs hP hD hS => ?_)
      rw [L4_s0] at hP hD
      have hP : va_P D vwCl [(o, mO ad (nI kf) mo), (ad 3, aI ca 64 g), (ad 6, aL ca 48 fc), (ad 8, a4 ca (fc (4 * jk0), x.2.1, x.2.2.1, x.2.2.2))] H := hP
      have hD : va_D A [(o, mO ad (nI kf) mo), (ad 3, aI ca 64 g), (ad 6, aL ca 48 fc), (ad 8, a4 ca (fc (4 * jk0), x.2.1, x.2.2.1, x.2.2.2))] := hD
      refine lv_iinc (v := 1) (lv' := [(3, .int 1), (0, .ref o), (1, .int (nI js0)), (2, .int (nI jk0))]) hx hb dX5_factor_51 hl (k := 0) rfl (by decide) (by decide) rfl (fun ls hl => ?_)
      refine lv_goto (tgt := 30) hx hb dX5_factor_54 (by decide) ?_
      refine lv_iload_n hx hb dX5_factor_30 rfl (lv_at hl 0 rfl) ?_
      refine lv_iconst (v := 4) hx hb dX5_factor_31 (by decide) ?_
      refine lv_icmp_ge (tgt := 57) hx hb dX5_factor_32 (by decide) (fun c_11 => absurd c_11 (by decide)) (fun c_11 => ?_)
      refine lv_aload_n hx hb dX5_factor_35 rfl (lv_at hl 1 rfl) ?_
      refine va_get (D := D) (ci := 4) (v := .ref (ad 8)) (C := RX5) (T := TX5) (N := 18) hx hb hts in_X5 hown hK hP 0 rfl rfl 8 (by decide) (hts _ q581) (fun _ h9 => h9) rfl dX5_factor_36 ?_
      refine lv_iload_n hx hb dX5_factor_39 rfl (lv_at hl 0 rfl) ?_
      refine lv_aload_n hx hb dX5_factor_40 rfl (lv_at hl 1 rfl) ?_
      refine va_get (D := D) (ci := 4) (v := .ref (ad 6)) (C := RX5) (T := TX5) (N := 18) hx hb hts in_X5 hown hK hP 0 rfl rfl 6 (by decide) (hts _ q579) (fun _ h9 => h9) rfl dX5_factor_41 ?_
      refine lv_iconst (v := 4) hx hb dX5_factor_44 (by decide) ?_
      refine lv_iload_n hx hb dX5_factor_45 rfl (lv_at hl 3 rfl) ?_
      refine lv_imul hx hb dX5_factor_46 ?_
      refine lv_iload_n hx hb dX5_factor_47 rfl (lv_at hl 0 rfl) ?_
      refine lv_iadd hx hb dX5_factor_48 ?_
      refine va_lald hx hb hK hP 2 2 rfl rfl (vin_nI (a := (4 * jk0) + 1) (eq_add (eq_mul rfl rfl) rfl) (by omega) (by omega)) dX5_factor_49 ?_
      refine lv_topl (fun z_12 ez_12 => ?_)
      obtain rfl : z_12 = fc ((4 * jk0) + 1) := ez_12.trans (cl_nI (a := (4 * jk0) + 1) fc (eq_add (eq_mul rfl rfl) rfl) (by omega))
      refine va_last hx hb hK hP hD hS 3 2 rfl rfl (vin (by decide)) dX5_factor_50 (fun H locs hP hD hS => ?_)
      rw [L4_s1] at hP hD
      have hP : va_P D vwCl [(o, mO ad (nI kf) mo), (ad 3, aI ca 64 g), (ad 6, aL ca 48 fc), (ad 8, a4 ca (fc (4 * jk0), fc ((4 * jk0) + 1), x.2.2.1, x.2.2.2))] H := hP
      have hD : va_D A [(o, mO ad (nI kf) mo), (ad 3, aI ca 64 g), (ad 6, aL ca 48 fc), (ad 8, a4 ca (fc (4 * jk0), fc ((4 * jk0) + 1), x.2.2.1, x.2.2.2))] := hD
      refine lv_iinc (v := 2) (lv' := [(3, .int 2), (0, .ref o), (1, .int (nI js0)), (2, .int (nI jk0))]) hx hb dX5_factor_51 hl (k := 0) rfl (by decide) (by decide) rfl (fun ls hl => ?_)
      refine lv_goto (tgt := 30) hx hb dX5_factor_54 (by decide) ?_
      refine lv_iload_n hx hb dX5_factor_30 rfl (lv_at hl 0 rfl) ?_
      refine lv_iconst (v := 4) hx hb dX5_factor_31 (by decide) ?_
      refine lv_icmp_ge (tgt := 57) hx hb dX5_factor_32 (by decide) (fun c_13 => absurd c_13 (by decide)) (fun c_13 => ?_)
      refine lv_aload_n hx hb dX5_factor_35 rfl (lv_at hl 1 rfl) ?_
      refine va_get (D := D) (ci := 4) (v := .ref (ad 8)) (C := RX5) (T := TX5) (N := 18) hx hb hts in_X5 hown hK hP 0 rfl rfl 8 (by decide) (hts _ q581) (fun _ h9 => h9) rfl dX5_factor_36 ?_
      refine lv_iload_n hx hb dX5_factor_39 rfl (lv_at hl 0 rfl) ?_
      refine lv_aload_n hx hb dX5_factor_40 rfl (lv_at hl 1 rfl) ?_
      refine va_get (D := D) (ci := 4) (v := .ref (ad 6)) (C := RX5) (T := TX5) (N := 18) hx hb hts in_X5 hown hK hP 0 rfl rfl 6 (by decide) (hts _ q579) (fun _ h9 => h9) rfl dX5_factor_41 ?_
      refine lv_iconst (v := 4) hx hb dX5_factor_44 (by decide) ?_
      refine lv_iload_n hx hb dX5_factor_45 rfl (lv_at hl 3 rfl) ?_
      refine lv_imul hx hb dX5_factor_46 ?_
      refine lv_iload_n hx hb dX5_factor_47 rfl (lv_at hl 0 rfl) ?_
      refine lv_iadd hx hb dX5_factor_48 ?_
      refine va_lald hx hb hK hP 2 2 rfl rfl (vin_nI (a := (4 * jk0) + 2) (eq_add (eq_mul rfl rfl) rfl) (by omega) (by omega)) dX5_factor_49 ?_
      refine lv_topl (fun z_14 ez_14 => ?_)
      obtain rfl : z_14 = fc ((4 * jk0) + 2) := ez_14.trans (cl_nI (a := (4 * jk0) + 2) fc (eq_add (eq_mul rfl rfl) rfl) (by omega))
      refine va_last hx hb hK hP hD hS 3 2 rfl rfl (vin (by decide)) dX5_factor_50 (fun H locs hP hD hS => ?_)
      rw [L4_s2] at hP hD
      have hP : va_P D vwCl [(o, mO ad (nI kf) mo), (ad 3, aI ca 64 g), (ad 6, aL ca 48 fc), (ad 8, a4 ca (fc (4 * jk0), fc ((4 * jk0) + 1), fc ((4 * jk0) + 2), x.2.2.2))] H := hP
      have hD : va_D A [(o, mO ad (nI kf) mo), (ad 3, aI ca 64 g), (ad 6, aL ca 48 fc), (ad 8, a4 ca (fc (4 * jk0), fc ((4 * jk0) + 1), fc ((4 * jk0) + 2), x.2.2.2))] := hD
      refine lv_iinc (v := 3) (lv' := [(3, .int 3), (0, .ref o), (1, .int (nI js0)), (2, .int (nI jk0))]) hx hb dX5_factor_51 hl (k := 0) rfl (by decide) (by decide) rfl (fun ls hl => ?_)
      refine lv_goto (tgt := 30) hx hb dX5_factor_54 (by decide) ?_
      refine lv_iload_n hx hb dX5_factor_30 rfl (lv_at hl 0 rfl) ?_
      refine lv_iconst (v := 4) hx hb dX5_factor_31 (by decide) ?_
      refine lv_icmp_ge (tgt := 57) hx hb dX5_factor_32 (by decide) (fun c_15 => absurd c_15 (by decide)) (fun c_15 => ?_)
      refine lv_aload_n hx hb dX5_factor_35 rfl (lv_at hl 1 rfl) ?_
      refine va_get (D := D) (ci := 4) (v := .ref (ad 8)) (C := RX5) (T := TX5) (N := 18) hx hb hts in_X5 hown hK hP 0 rfl rfl 8 (by decide) (hts _ q581) (fun _ h9 => h9) rfl dX5_factor_36 ?_
      refine lv_iload_n hx hb dX5_factor_39 rfl (lv_at hl 0 rfl) ?_
      refine lv_aload_n hx hb dX5_factor_40 rfl (lv_at hl 1 rfl) ?_
      refine va_get (D := D) (ci := 4) (v := .ref (ad 6)) (C := RX5) (T := TX5) (N := 18) hx hb hts in_X5 hown hK hP 0 rfl rfl 6 (by decide) (hts _ q579) (fun _ h9 => h9) rfl dX5_factor_41 ?_
      refine lv_iconst (v := 4) hx hb dX5_factor_44 (by decide) ?_
      refine lv_iload_n hx hb dX5_factor_45 rfl (lv_at hl 3 rfl) ?_
      refine lv_imul hx hb dX5_factor_46 ?_
      refine lv_iload_n hx hb dX5_factor_47 rfl (lv_at hl 0 rfl) ?_
      refine lv_iadd hx hb dX5_factor_48 ?_
      refine va_lald hx hb hK hP 2 2 rfl rfl (vin_nI (a := (4 * jk0) + 3) (eq_add (eq_mul rfl rfl) rfl) (by omega) (by omega)) dX5_factor_49 ?_
      refine lv_topl (fun z_16 ez_16 => ?_)
      obtain rfl : z_16 = fc ((4 * jk0) + 3) := ez_16.trans (cl_nI (a := (4 * jk0) + 3) fc (eq_add (eq_mul rfl rfl) rfl) (by omega))
      refine va_last hx hb hK hP hD hS 3 2 rfl rfl (vin (by decide)) dX5_factor_50 (fun H locs hP hD hS => ?_)
      rw [L4_s3] at hP hD
      have hP : va_P D vwCl [(o, mO ad (nI kf) mo), (ad 3, aI ca 64 g), (ad 6, aL ca 48 fc), (ad 8, a4 ca (fc (4 * jk0), fc ((4 * jk0) + 1), fc ((4 * jk0) + 2), fc ((4 * jk0) + 3)))] H := hP
      have hD : va_D A [(o, mO ad (nI kf) mo), (ad 3, aI ca 64 g), (ad 6, aL ca 48 fc), (ad 8, a4 ca (fc (4 * jk0), fc ((4 * jk0) + 1), fc ((4 * jk0) + 2), fc ((4 * jk0) + 3)))] := hD
      refine lv_iinc (v := 4) (lv' := [(3, .int 4), (0, .ref o), (1, .int (nI js0)), (2, .int (nI jk0))]) hx hb dX5_factor_51 hl (k := 0) rfl (by decide) (by decide) rfl (fun ls hl => ?_)
      refine lv_goto (tgt := 30) hx hb dX5_factor_54 (by decide) ?_
      refine lv_iload_n hx hb dX5_factor_30 rfl (lv_at hl 0 rfl) ?_
      refine lv_iconst (v := 4) hx hb dX5_factor_31 (by decide) ?_
      refine lv_icmp_ge (tgt := 57) hx hb dX5_factor_32 (by decide) (fun c_17 => ?_) (fun c_17 => absurd (by decide) c_17)
      refine lv_aload_n hx hb dX5_factor_57 rfl (lv_at hl 1 rfl) ?_
      refine lv_iload_n hx hb dX5_factor_58 rfl (lv_at hl 2 rfl) ?_
      refine lv_aload_n hx hb dX5_factor_59 rfl (lv_at hl 1 rfl) ?_
      refine va_get (D := D) (ci := 4) (v := .ref (ad 8)) (C := RX5) (T := TX5) (N := 18) hx hb hts in_X5 hown hK hP 0 rfl rfl 8 (by decide) (hts _ q581) (fun _ h9 => h9) rfl dX5_factor_60 ?_
      refine k_calli (wr := [(ad 6, aL ca 48 fc)]) (va_runV (As := [.int (nI js0), .ref (ad 8)]) (rest := []) ⟨hx, hb, hml, hown, hts⟩ (ct_X5_holds hk l D ca H.size o ad (nI kf) mo (ad 8) g (fc (4 * jk0), fc ((4 * jk0) + 1), fc ((4 * jk0) + 2), fc ((4 * jk0) + 3)) js0 (by omega)) (cwV 2 hts (lw_V q677 q679 qs8 q24 q680) rfl rfl rfl (by decide +kernel) ⟨Nat.le_of_ble_eq_true rfl, Nat.le_of_ble_eq_true rfl⟩) (k_preV hk hK hN hP hD [0, 1, 3] (by decide) rfl trivial hP rfl (q0 := 0) rfl) rfl rfl hl.1 rfl (lv_room (Nat.le_of_ble_eq_true rfl)) dX5_factor_63 ⟨Nat.le_of_ble_eq_true rfl, Nat.le_of_ble_eq_true rfl⟩) hP hD hS hA [0, 1, 3] [2] rfl rfl (by decide) (by decide) (fun r_18 u_19 H locs w_20 hP hD hxw_20 hzw_20 hqw_20 hS => ?_)
      have hP : va_P D vwCl [(ad 6, aL ca 48 fc), (o, mO ad (nI kf) mo), (ad 3, aI ca 64 u_19), (ad 8, a4 ca (fc (4 * jk0), fc ((4 * jk0) + 1), fc ((4 * jk0) + 2), fc ((4 * jk0) + 3)))] H := hP
      have hD : va_D A [(ad 6, aL ca 48 fc), (o, mO ad (nI kf) mo), (ad 3, aI ca 64 u_19), (ad 8, a4 ca (fc (4 * jk0), fc ((4 * jk0) + 1), fc ((4 * jk0) + 2), fc ((4 * jk0) + 3)))] := hD
      obtain ⟨rfl, rfl⟩ := w_20
      have hP : va_P D vwCl [(ad 6, aL ca 48 fc), (o, mO ad (nI kf) mo), (ad 3, aI ca 64 (h_g g js0 (fc (4 * jk0), fc ((4 * jk0) + 1), fc ((4 * jk0) + 2), fc ((4 * jk0) + 3)))), (ad 8, a4 ca (fc (4 * jk0), fc ((4 * jk0) + 1), fc ((4 * jk0) + 2), fc ((4 * jk0) + 3)))] H := hP
      have hD : va_D A [(ad 6, aL ca 48 fc), (o, mO ad (nI kf) mo), (ad 3, aI ca 64 (h_g g js0 (fc (4 * jk0), fc ((4 * jk0) + 1), fc ((4 * jk0) + 2), fc ((4 * jk0) + 3)))), (ad 8, a4 ca (fc (4 * jk0), fc ((4 * jk0) + 1), fc ((4 * jk0) + 2), fc ((4 * jk0) + 3)))] := hD
      refine lv_if_ne (tgt := 80) hx hb dX5_factor_66 (by decide) (fun c_21 => ?_) (fun c_21 => ?_)
      · refine lv_bipush (v := (-3)) hx hb dX5_factor_80 (by decide) ?_
        exact k_iret ((h_g g js0 (fc (4 * jk0), fc ((4 * jk0) + 1), fc ((4 * jk0) + 2), fc ((4 * jk0) + 3))), (fc (4 * jk0), fc ((4 * jk0) + 1), fc ((4 * jk0) + 2), fc ((4 * jk0) + 3))) hx hb hr hlocks (by have hz := c_21; have hq : q_low (fq fc jk0) = false := (by cases hq : q_low (fc (4 * jk0), fc ((4 * jk0) + 1), fc ((4 * jk0) + 2), fc ((4 * jk0) + 3)) <;> simp [hq] at hz ⊢ <;> exact hq); rw [m_factor, if_pos c_4, if_pos c_8, nI_clamp (show jk0 < 2 ^ 31 by omega), nI_clamp (show js0 < 2 ^ 31 by omega), hq]; simp [h_g, hq, fq] at hq ⊢ <;> simp [hq]) (hP.sub [1, 2, 0, 3] rfl) (hD.sub [1, 2, 0, 3] (by decide) rfl) trivial hS (Nat.le_of_ble_eq_true rfl) (Nat.le_of_ble_eq_true rfl) dX5_factor_82
      · refine lv_aload_n hx hb dX5_factor_69 rfl (lv_at hl 1 rfl) ?_
        refine va_get (D := D) (ci := 4) (v := .ref (ad 8)) (C := RX5) (T := TX5) (N := 18) hx hb hts in_X5 hown hK hP 1 rfl rfl 8 (by decide) (hts _ q581) (fun _ h9 => h9) rfl dX5_factor_70 ?_
        refine k_calll (wr := [(ad 6, aL ca 48 fc), (o, mO ad (nI kf) mo), (ad 3, aI ca 64 (h_g g js0 (fc (4 * jk0), fc ((4 * jk0) + 1), fc ((4 * jk0) + 2), fc ((4 * jk0) + 3))))]) (va_runS (As := [.ref (ad 8)]) (rest := []) ⟨hx, hb, hml, hown, hts⟩ (ct_X5_norm hk l D ca H.size (ad 8) (fc (4 * jk0), fc ((4 * jk0) + 1), fc ((4 * jk0) + 2), fc ((4 * jk0) + 3))) (va_cwS 1 hts (lw_S q698 q699 q24 q700) rfl rfl rfl (by decide +kernel) ⟨Nat.le_of_ble_eq_true rfl, Nat.le_of_ble_eq_true rfl⟩) (k_pre hk hK hN hP hD [3] (by decide) rfl trivial) rfl rfl hl.1 rfl (lv_room (Nat.le_of_ble_eq_true rfl)) dX5_factor_73 ⟨Nat.le_of_ble_eq_true rfl, Nat.le_of_ble_eq_true rfl⟩) hP hD hS hA [3] [0, 1, 2] rfl rfl (by decide) (by decide) (fun r_22 u_23 H locs w_24 hP hD hxw_24 hzw_24 hqw_24 hS => ?_)
        have hP : va_P D vwCl [(ad 6, aL ca 48 fc), (o, mO ad (nI kf) mo), (ad 3, aI ca 64 (h_g g js0 (fc (4 * jk0), fc ((4 * jk0) + 1), fc ((4 * jk0) + 2), fc ((4 * jk0) + 3)))), (ad 8, a4 ca (fc (4 * jk0), fc ((4 * jk0) + 1), fc ((4 * jk0) + 2), fc ((4 * jk0) + 3)))] H := hP
        have hD : va_D A [(ad 6, aL ca 48 fc), (o, mO ad (nI kf) mo), (ad 3, aI ca 64 (h_g g js0 (fc (4 * jk0), fc ((4 * jk0) + 1), fc ((4 * jk0) + 2), fc ((4 * jk0) + 3)))), (ad 8, a4 ca (fc (4 * jk0), fc ((4 * jk0) + 1), fc ((4 * jk0) + 2), fc ((4 * jk0) + 3)))] := hD
        obtain rfl : r_22 = q_norm (fc (4 * jk0), fc ((4 * jk0) + 1), fc ((4 * jk0) + 2), fc ((4 * jk0) + 3)) := w_24
        refine lv_l2i (v := (q_norm (fc (4 * jk0), fc ((4 * jk0) + 1), fc ((4 * jk0) + 2), fc ((4 * jk0) + 3))).toInt32) hx hb dX5_factor_76 rfl ?_
        refine lv_goto (tgt := 82) hx hb dX5_factor_77 (by decide) ?_
        exact k_iret ((h_g g js0 (fc (4 * jk0), fc ((4 * jk0) + 1), fc ((4 * jk0) + 2), fc ((4 * jk0) + 3))), (fc (4 * jk0), fc ((4 * jk0) + 1), fc ((4 * jk0) + 2), fc ((4 * jk0) + 3))) hx hb hr hlocks (by have hz := c_21; have hq : q_low (fq fc jk0) = true := (by cases hq : q_low (fc (4 * jk0), fc ((4 * jk0) + 1), fc ((4 * jk0) + 2), fc ((4 * jk0) + 3)) <;> simp [hq] at hz ⊢ <;> exact hq); rw [m_factor, if_pos c_4, if_pos c_8, nI_clamp (show jk0 < 2 ^ 31 by omega), nI_clamp (show js0 < 2 ^ 31 by omega), hq]; simp [h_g, hq, fq] at hq ⊢ <;> simp [hq]) (hP.sub [1, 2, 0, 3] rfl) (hD.sub [1, 2, 0, 3] (by decide) rfl) trivial hS (Nat.le_of_ble_eq_true rfl) (Nat.le_of_ble_eq_true rfl) dX5_factor_82
    · have c_8 := bI_z0 c_8
      refine lv_bipush (v := (-2)) hx hb dX5_factor_25 (by decide) ?_
      exact k_iret (g, x) hx hb hr hlocks (by simp [m_factor, c_4, c_8, nI_clamp (show js0 < 2 ^ 31 by omega), fq]) hP hD trivial hS (Nat.le_of_ble_eq_true rfl) (Nat.le_of_ble_eq_true rfl) dX5_factor_27
  · have c_4 := bI_z0 c_4
    refine lv_iconst (v := (-1)) hx hb dX5_factor_7 (by decide) ?_
    exact k_iret (g, x) hx hb hr hlocks (by simp [m_factor, c_4, fq]) hP hD trivial hS (Nat.le_of_ble_eq_true rfl) (Nat.le_of_ble_eq_true rfl) dX5_factor_8
