set_option maxHeartbeats 4000000 in
set_option maxRecDepth 100000 in
theorem ct_X5_work {KN : State → Prop} (hk : KNok KN) (l : Launch) (D : va_G) (ca : Nat → ClassId) (zH : Nat) (o : Nat) (ad : Nat → Nat) (nf mo : Int32) (g : AI) (x y z : Q4) (s0 h0 t0 u0 : Int32)  : Met l yX5_work (ws_ yX5_work cX5_work 6 (some .int)) ({ frames := 4, cells := 0, slots := 0, locals := 88 }) (va_Pc [.ref o, .int s0, .int h0, .int t0, .int u0] (pr_ KN D ca [(o, mO ad nf mo), (ad 3, aI ca 64 g), (ad 8, a4 ca x), (ad 9, a4 ca y), (ad 10, a4 ca z)] zH (fun _ => True))) (qI D (fun (r : Int32) (u : AI × Q4 × Q4 × Q4) => (r, u.1) = m_work g s0 h0 t0 u0) (fun u => [(o, mO ad nf mo), (ad 3, aI ca 64 u.1), (ad 8, a4 ca u.2.1), (ad 9, a4 ca u.2.2.1), (ad 10, a4 ca u.2.2.2)]) (fun u H => True) (va_A [(o, mO ad nf mo), (ad 3, aI ca 64 g), (ad 8, a4 ca x), (ad 9, a4 ca y), (ad 10, a4 ca z)] zH)) 0 0 (va_A [(o, mO ad nf mo), (ad 3, aI ca 64 g), (ad 8, a4 ca x), (ad 9, a4 ca y), (ad 10, a4 ca z)] zH) := by
  refine k_ofW (Qc := qI D (fun (r : Int32) (u : AI × Q4 × Q4 × Q4) => (r, u.1) = m_work g s0 h0 t0 u0) (fun u => [(o, mO ad nf mo), (ad 3, aI ca 64 u.1), (ad 8, a4 ca u.2.1), (ad 9, a4 ca u.2.2.1), (ad 10, a4 ca u.2.2.2)]) (fun u H => True)) (by decide) (Nat.le_of_ble_eq_true rfl) ?_
  intro p e s m below meth c ls A H hH hx hb hr hts hown hlocks hnm hml hsz hP hD hK hN hA hAn hS hro hl
  have hl : lv_has ls 6 [(0, .ref o), (1, .int s0), (2, .int h0), (3, .int t0), (4, .int u0)] := hl
  refine lv_iload_n hx hb dX5_work_0 rfl (lv_at hl 1 rfl) ?_
  refine k_calli (wr := [(o, mO ad nf mo), (ad 3, aI ca 64 g), (ad 8, a4 ca x), (ad 9, a4 ca y), (ad 10, a4 ca z)]) (va_runS (As := [.int s0]) (rest := []) ⟨hx, hb, hml, hown, hts⟩ (ct_X5_isRegister hk l D ca H.size s0) (va_cwS 1 hts (lw_S q660 q661 q24 q662) rfl rfl rfl (by decide +kernel) ⟨Nat.le_of_ble_eq_true rfl, Nat.le_of_ble_eq_true rfl⟩) (k_pre hk hK hN hP hD [] (by decide) rfl trivial) rfl rfl hl.1 rfl (lv_room (Nat.le_of_ble_eq_true rfl)) dX5_work_1 ⟨Nat.le_of_ble_eq_true rfl, Nat.le_of_ble_eq_true rfl⟩) hP hD hS hA [] [0, 1, 2, 3, 4] rfl rfl (by decide) (by decide) (fun r_1 u_2 H locs w_3 hP hD hxw_3 hzw_3 hqw_3 hS => ?_)
  obtain rfl : r_1 = bI (p_in s0.toInt64 0 15) := w_3
  refine lv_if_eq (tgt := 39) hx hb dX5_work_4 (by decide) (fun c_4 => ?_) (fun c_4 => ?_)
  · have c_4 := bI_z0 c_4
    refine lv_iconst (v := (-1)) hx hb dX5_work_39 (by decide) ?_
    exact k_iret (g, x, y, z) hx hb hr hlocks (by simp [m_work, c_4]) hP hD trivial hS (Nat.le_of_ble_eq_true rfl) (Nat.le_of_ble_eq_true rfl) dX5_work_40
  · have c_4 := bI_z1 c_4
    obtain ⟨js0, hjs0, rfl⟩ := in_nI (n := 16) (by decide) c_4
    refine lv_iload_n hx hb dX5_work_7 rfl (lv_at hl 2 rfl) ?_
    refine lv_i2l (v := h0.toInt64) hx hb dX5_work_8 rfl ?_
    refine lv_lconst (v := 0) hx hb dX5_work_9 (by decide) ?_
    refine lv_ldc2 hx hb hown (hts _ q720) dX5_work_10 ?_
    refine k_calli (wr := [(o, mO ad nf mo), (ad 3, aI ca 64 g), (ad 8, a4 ca x), (ad 9, a4 ca y), (ad 10, a4 ca z)]) (va_runS (As := [.long h0.toInt64, .long 0, .long 3]) (rest := []) ⟨hx, hb, hml, hown, hts⟩ (ct_X5_in hk l D ca H.size h0.toInt64 0 3) (va_cwS 3 hts (lw_S q635 q636 q24 q637) rfl rfl rfl (by decide +kernel) ⟨Nat.le_of_ble_eq_true rfl, Nat.le_of_ble_eq_true rfl⟩) (k_pre hk hK hN hP hD [] (by decide) rfl trivial) rfl rfl hl.1 rfl (lv_room (Nat.le_of_ble_eq_true rfl)) dX5_work_13 ⟨Nat.le_of_ble_eq_true rfl, Nat.le_of_ble_eq_true rfl⟩) hP hD hS hA [] [0, 1, 2, 3, 4] rfl rfl (by decide) (by decide) (fun r_5 u_6 H locs w_7 hP hD hxw_7 hzw_7 hqw_7 hS => ?_)
    obtain rfl : r_5 = bI (p_in h0.toInt64 0 3) := w_7
    refine lv_if_eq (tgt := 39) hx hb dX5_work_16 (by decide) (fun c_8 => ?_) (fun c_8 => ?_)
    · have c_8 := bI_z0 c_8
      refine lv_iconst (v := (-1)) hx hb dX5_work_39 (by decide) ?_
      exact k_iret (g, x, y, z) hx hb hr hlocks (by simp [m_work, c_4, c_8, nI_clamp (show js0 < 2 ^ 31 by omega)]) hP hD trivial hS (Nat.le_of_ble_eq_true rfl) (Nat.le_of_ble_eq_true rfl) dX5_work_40
    · have c_8 := bI_z1 c_8
      obtain ⟨jh0, hjh0, rfl⟩ := in_nI (n := 4) (by decide) c_8
      refine lv_iload_n hx hb dX5_work_19 rfl (lv_at hl 3 rfl) ?_
      refine k_calli (wr := [(o, mO ad nf mo), (ad 3, aI ca 64 g), (ad 8, a4 ca x), (ad 9, a4 ca y), (ad 10, a4 ca z)]) (va_runS (As := [.int t0]) (rest := []) ⟨hx, hb, hml, hown, hts⟩ (ct_X5_isRegister hk l D ca H.size t0) (va_cwS 1 hts (lw_S q660 q661 q24 q662) rfl rfl rfl (by decide +kernel) ⟨Nat.le_of_ble_eq_true rfl, Nat.le_of_ble_eq_true rfl⟩) (k_pre hk hK hN hP hD [] (by decide) rfl trivial) rfl rfl hl.1 rfl (lv_room (Nat.le_of_ble_eq_true rfl)) dX5_work_20 ⟨Nat.le_of_ble_eq_true rfl, Nat.le_of_ble_eq_true rfl⟩) hP hD hS hA [] [0, 1, 2, 3, 4] rfl rfl (by decide) (by decide) (fun r_9 u_10 H locs w_11 hP hD hxw_11 hzw_11 hqw_11 hS => ?_)
      obtain rfl : r_9 = bI (p_in t0.toInt64 0 15) := w_11
      refine lv_if_eq (tgt := 39) hx hb dX5_work_23 (by decide) (fun c_12 => ?_) (fun c_12 => ?_)
      · have c_12 := bI_z0 c_12
        refine lv_iconst (v := (-1)) hx hb dX5_work_39 (by decide) ?_
        exact k_iret (g, x, y, z) hx hb hr hlocks (by simp [m_work, c_4, c_8, c_12, nI_clamp (show js0 < 2 ^ 31 by omega), nI_clamp (show jh0 < 2 ^ 31 by omega)]) hP hD trivial hS (Nat.le_of_ble_eq_true rfl) (Nat.le_of_ble_eq_true rfl) dX5_work_40
      · have c_12 := bI_z1 c_12
        obtain ⟨jt0, hjt0, rfl⟩ := in_nI (n := 16) (by decide) c_12
        refine lv_iload_n hx hb dX5_work_26 rfl (lv_at hl 2 rfl) ?_
        refine lv_iconst (v := 3) hx hb dX5_work_27 (by decide) ?_
        refine lv_icmp_ge (tgt := 41) hx hb dX5_work_28 (by decide) (fun c_13 => ?_) (fun c_13 => ?_)
        · have c_13 := le_y (a := 3) (b := jh0) rfl rfl (by omega) (by omega) c_13
          refine lv_aload_n hx hb dX5_work_41 rfl (lv_at hl 0 rfl) ?_
          refine lv_aload_n hx hb dX5_work_42 rfl (lv_at hl 0 rfl) ?_
          refine va_get (D := D) (ci := 4) (v := .ref (ad 8)) (C := RX5) (T := TX5) (N := 18) hx hb hts in_X5 hown hK hP 0 rfl rfl 8 (by decide) (hts _ q581) (fun _ h9 => h9) rfl dX5_work_43 ?_
          refine lv_iload_n hx hb dX5_work_46 rfl (lv_at hl 3 rfl) ?_
          refine k_callv (wr := [(ad 9, a4 ca y), (ad 10, a4 ca z)]) (va_runV (As := [.ref (ad 8), .int (nI jt0)]) (rest := []) ⟨hx, hb, hml, hown, hts⟩ (ct_X5_load hk l D ca H.size o ad nf mo (ad 8) g x jt0 (by omega)) (cwV 2 hts (lw_V q694 q696 qs10 q24 q697) rfl rfl rfl (by decide +kernel) ⟨Nat.le_of_ble_eq_true rfl, Nat.le_of_ble_eq_true rfl⟩) (k_preV hk hK hN hP hD [0, 1, 2] (by decide) rfl trivial hP rfl (q0 := 0) rfl) rfl rfl hl.1 rfl (lv_room (Nat.le_of_ble_eq_true rfl)) dX5_work_47 ⟨Nat.le_of_ble_eq_true rfl, Nat.le_of_ble_eq_true rfl⟩) hP hD hS hA [0, 1, 2] [3, 4] rfl rfl (by decide) (by decide) (fun u_15 H locs w_16 hP hD hxw_16 hzw_16 hqw_16 hS => ?_)
          have hP : va_P D vwCl [(ad 9, a4 ca y), (ad 10, a4 ca z), (o, mO ad nf mo), (ad 3, aI ca 64 g), (ad 8, a4 ca (rq g jt0))] H := hP
          have hD : va_D A [(ad 9, a4 ca y), (ad 10, a4 ca z), (o, mO ad nf mo), (ad 3, aI ca 64 g), (ad 8, a4 ca (rq g jt0))] := hD
          refine lv_iload_n hx hb dX5_work_50 rfl (lv_at hl 2 rfl) ?_
          refine lv_iconst (v := 3) hx hb dX5_work_51 (by decide) ?_
          refine lv_icmp_ne (tgt := 72) hx hb dX5_work_52 (by decide) (fun c_17 => absurd (by rw [show jh0 = 3 by omega]; rfl) c_17) (fun c_17 => ?_)
          refine lv_aload_n hx hb dX5_work_55 rfl (lv_at hl 0 rfl) ?_
          refine va_get (D := D) (ci := 4) (v := .ref (ad 8)) (C := RX5) (T := TX5) (N := 18) hx hb hts in_X5 hown hK hP 2 rfl rfl 8 (by decide) (hts _ q581) (fun _ h9 => h9) rfl dX5_work_56 ?_
          refine k_callv (wr := [(ad 9, a4 ca y), (ad 10, a4 ca z), (o, mO ad nf mo), (ad 3, aI ca 64 g)]) (va_runS (As := [.ref (ad 8)]) (rest := []) ⟨hx, hb, hml, hown, hts⟩ (ct_X5_mirror hk l D ca H.size (ad 8) (rq g jt0)) (va_cwS 1 hts (lw_S q721 q722 q24 q723) rfl rfl rfl (by decide +kernel) ⟨Nat.le_of_ble_eq_true rfl, Nat.le_of_ble_eq_true rfl⟩) (k_pre hk hK hN hP hD [4] (by decide) rfl trivial) rfl rfl hl.1 rfl (lv_room (Nat.le_of_ble_eq_true rfl)) dX5_work_59 ⟨Nat.le_of_ble_eq_true rfl, Nat.le_of_ble_eq_true rfl⟩) hP hD hS hA [4] [0, 1, 2, 3] rfl rfl (by decide) (by decide) (fun u_19 H locs w_20 hP hD hxw_20 hzw_20 hqw_20 hS => ?_)
          have hP : va_P D vwCl [(ad 9, a4 ca y), (ad 10, a4 ca z), (o, mO ad nf mo), (ad 3, aI ca 64 g), (ad 8, a4 ca (q_mirror (rq g jt0)))] H := hP
          have hD : va_D A [(ad 9, a4 ca y), (ad 10, a4 ca z), (o, mO ad nf mo), (ad 3, aI ca 64 g), (ad 8, a4 ca (q_mirror (rq g jt0)))] := hD
          refine lv_aload_n hx hb dX5_work_62 rfl (lv_at hl 0 rfl) ?_
          refine lv_iload_n hx hb dX5_work_63 rfl (lv_at hl 1 rfl) ?_
          refine lv_aload_n hx hb dX5_work_64 rfl (lv_at hl 0 rfl) ?_
          refine va_get (D := D) (ci := 4) (v := .ref (ad 8)) (C := RX5) (T := TX5) (N := 18) hx hb hts in_X5 hown hK hP 2 rfl rfl 8 (by decide) (hts _ q581) (fun _ h9 => h9) rfl dX5_work_65 ?_
          refine k_calli (wr := [(ad 9, a4 ca y), (ad 10, a4 ca z)]) (va_runV (As := [.int (nI js0), .ref (ad 8)]) (rest := []) ⟨hx, hb, hml, hown, hts⟩ (ct_X5_holds hk l D ca H.size o ad nf mo (ad 8) g (q_mirror (rq g jt0)) js0 (by omega)) (cwV 2 hts (lw_V q677 q679 qs8 q24 q680) rfl rfl rfl (by decide +kernel) ⟨Nat.le_of_ble_eq_true rfl, Nat.le_of_ble_eq_true rfl⟩) (k_preV hk hK hN hP hD [2, 3, 4] (by decide) rfl trivial hP rfl (q0 := 2) rfl) rfl rfl hl.1 rfl (lv_room (Nat.le_of_ble_eq_true rfl)) dX5_work_68 ⟨Nat.le_of_ble_eq_true rfl, Nat.le_of_ble_eq_true rfl⟩) hP hD hS hA [2, 3, 4] [0, 1] rfl rfl (by decide) (by decide) (fun r_21 u_22 H locs w_23 hP hD hxw_23 hzw_23 hqw_23 hS => ?_)
          have hP : va_P D vwCl [(ad 9, a4 ca y), (ad 10, a4 ca z), (o, mO ad nf mo), (ad 3, aI ca 64 u_22), (ad 8, a4 ca (q_mirror (rq g jt0)))] H := hP
          have hD : va_D A [(ad 9, a4 ca y), (ad 10, a4 ca z), (o, mO ad nf mo), (ad 3, aI ca 64 u_22), (ad 8, a4 ca (q_mirror (rq g jt0)))] := hD
          obtain ⟨rfl, rfl⟩ := w_23
          have hP : va_P D vwCl [(ad 9, a4 ca y), (ad 10, a4 ca z), (o, mO ad nf mo), (ad 3, aI ca 64 (h_g g js0 (q_mirror (rq g jt0)))), (ad 8, a4 ca (q_mirror (rq g jt0)))] H := hP
          have hD : va_D A [(ad 9, a4 ca y), (ad 10, a4 ca z), (o, mO ad nf mo), (ad 3, aI ca 64 (h_g g js0 (q_mirror (rq g jt0)))), (ad 8, a4 ca (q_mirror (rq g jt0)))] := hD
          exact k_iret ((h_g g js0 (q_mirror (rq g jt0))), (q_mirror (rq g jt0)), y, z) hx hb hr hlocks (by simp [m_work, q_add, q_sub, c_4, c_8, c_12, nI_clamp (show js0 < 2 ^ 31 by omega), nI_clamp (show jt0 < 2 ^ 31 by omega), show ((nI jh0).toNatClampNeg = 3) ↔ True from by rw [nI_clamp (by omega)]; exact ⟨fun _ => trivial, fun _ => by omega⟩]) (hP.sub [2, 3, 4, 0, 1] rfl) (hD.sub [2, 3, 4, 0, 1] (by decide) rfl) trivial hS (Nat.le_of_ble_eq_true rfl) (Nat.le_of_ble_eq_true rfl) dX5_work_71
        · have c_13 := le_no (a := 3) (b := jh0) rfl rfl (by omega) (by omega) c_13
          refine lv_iload hx hb dX5_work_31 (lv_at hl 4 rfl) ?_
          refine k_calli (wr := [(o, mO ad nf mo), (ad 3, aI ca 64 g), (ad 8, a4 ca x), (ad 9, a4 ca y), (ad 10, a4 ca z)]) (va_runS (As := [.int u0]) (rest := []) ⟨hx, hb, hml, hown, hts⟩ (ct_X5_isRegister hk l D ca H.size u0) (va_cwS 1 hts (lw_S q660 q661 q24 q662) rfl rfl rfl (by decide +kernel) ⟨Nat.le_of_ble_eq_true rfl, Nat.le_of_ble_eq_true rfl⟩) (k_pre hk hK hN hP hD [] (by decide) rfl trivial) rfl rfl hl.1 rfl (lv_room (Nat.le_of_ble_eq_true rfl)) dX5_work_33 ⟨Nat.le_of_ble_eq_true rfl, Nat.le_of_ble_eq_true rfl⟩) hP hD hS hA [] [0, 1, 2, 3, 4] rfl rfl (by decide) (by decide) (fun r_24 u_25 H locs w_26 hP hD hxw_26 hzw_26 hqw_26 hS => ?_)
          obtain rfl : r_24 = bI (p_in u0.toInt64 0 15) := w_26
          refine lv_if_ne (tgt := 41) hx hb dX5_work_36 (by decide) (fun c_27 => ?_) (fun c_27 => ?_)
          · have c_27 := bI_z1 c_27
            obtain ⟨ju0, hju0, rfl⟩ := in_nI (n := 16) (by decide) c_27
            refine lv_aload_n hx hb dX5_work_41 rfl (lv_at hl 0 rfl) ?_
            refine lv_aload_n hx hb dX5_work_42 rfl (lv_at hl 0 rfl) ?_
            refine va_get (D := D) (ci := 4) (v := .ref (ad 8)) (C := RX5) (T := TX5) (N := 18) hx hb hts in_X5 hown hK hP 0 rfl rfl 8 (by decide) (hts _ q581) (fun _ h9 => h9) rfl dX5_work_43 ?_
            refine lv_iload_n hx hb dX5_work_46 rfl (lv_at hl 3 rfl) ?_
            refine k_callv (wr := [(ad 9, a4 ca y), (ad 10, a4 ca z)]) (va_runV (As := [.ref (ad 8), .int (nI jt0)]) (rest := []) ⟨hx, hb, hml, hown, hts⟩ (ct_X5_load hk l D ca H.size o ad nf mo (ad 8) g x jt0 (by omega)) (cwV 2 hts (lw_V q694 q696 qs10 q24 q697) rfl rfl rfl (by decide +kernel) ⟨Nat.le_of_ble_eq_true rfl, Nat.le_of_ble_eq_true rfl⟩) (k_preV hk hK hN hP hD [0, 1, 2] (by decide) rfl trivial hP rfl (q0 := 0) rfl) rfl rfl hl.1 rfl (lv_room (Nat.le_of_ble_eq_true rfl)) dX5_work_47 ⟨Nat.le_of_ble_eq_true rfl, Nat.le_of_ble_eq_true rfl⟩) hP hD hS hA [0, 1, 2] [3, 4] rfl rfl (by decide) (by decide) (fun u_29 H locs w_30 hP hD hxw_30 hzw_30 hqw_30 hS => ?_)
            have hP : va_P D vwCl [(ad 9, a4 ca y), (ad 10, a4 ca z), (o, mO ad nf mo), (ad 3, aI ca 64 g), (ad 8, a4 ca (rq g jt0))] H := hP
            have hD : va_D A [(ad 9, a4 ca y), (ad 10, a4 ca z), (o, mO ad nf mo), (ad 3, aI ca 64 g), (ad 8, a4 ca (rq g jt0))] := hD
            refine lv_iload_n hx hb dX5_work_50 rfl (lv_at hl 2 rfl) ?_
            refine lv_iconst (v := 3) hx hb dX5_work_51 (by decide) ?_
            refine lv_icmp_ne (tgt := 72) hx hb dX5_work_52 (by decide) (fun c_31 => ?_) (fun c_31 => absurd c_31 (fun z => absurd (eq_y (a := jh0) (b := 3) rfl rfl (by omega) (by omega) z) (by omega)))
            refine lv_aload_n hx hb dX5_work_72 rfl (lv_at hl 0 rfl) ?_
            refine lv_aload_n hx hb dX5_work_73 rfl (lv_at hl 0 rfl) ?_
            refine va_get (D := D) (ci := 4) (v := .ref (ad 9)) (C := RX5) (T := TX5) (N := 18) hx hb hts in_X5 hown hK hP 2 rfl rfl 9 (by decide) (hts _ q582) (fun _ h9 => h9) rfl dX5_work_74 ?_
            refine lv_iload hx hb dX5_work_77 (lv_at hl 4 rfl) ?_
            refine k_callv (wr := [(ad 10, a4 ca z), (ad 8, a4 ca (rq g jt0))]) (va_runV (As := [.ref (ad 9), .int (nI ju0)]) (rest := []) ⟨hx, hb, hml, hown, hts⟩ (ct_X5_load hk l D ca H.size o ad nf mo (ad 9) g y ju0 (by omega)) (cwV 2 hts (lw_V q694 q696 qs10 q24 q697) rfl rfl rfl (by decide +kernel) ⟨Nat.le_of_ble_eq_true rfl, Nat.le_of_ble_eq_true rfl⟩) (k_preV hk hK hN hP hD [2, 3, 0] (by decide) rfl trivial hP rfl (q0 := 2) rfl) rfl rfl hl.1 rfl (lv_room (Nat.le_of_ble_eq_true rfl)) dX5_work_79 ⟨Nat.le_of_ble_eq_true rfl, Nat.le_of_ble_eq_true rfl⟩) hP hD hS hA [2, 3, 0] [1, 4] rfl rfl (by decide) (by decide) (fun u_33 H locs w_34 hP hD hxw_34 hzw_34 hqw_34 hS => ?_)
            have hP : va_P D vwCl [(ad 10, a4 ca z), (ad 8, a4 ca (rq g jt0)), (o, mO ad nf mo), (ad 3, aI ca 64 g), (ad 9, a4 ca (rq g ju0))] H := hP
            have hD : va_D A [(ad 10, a4 ca z), (ad 8, a4 ca (rq g jt0)), (o, mO ad nf mo), (ad 3, aI ca 64 g), (ad 9, a4 ca (rq g ju0))] := hD
            refine lv_iload_n hx hb dX5_work_82 rfl (lv_at hl 2 rfl) ?_
            refine lv_iconst (v := 2) hx hb dX5_work_83 (by decide) ?_
            refine lv_icmp_ne (tgt := 112) hx hb dX5_work_84 (by decide) (fun c_35 => ?_) (fun c_35 => ?_)
            · have c_35 := eq_no (a := jh0) (b := 2) rfl rfl (by omega) (by omega) c_35
              refine lv_iconst (v := 0) hx hb dX5_work_112 (by decide) ?_
              refine lv_istore (lv' := [(5, .int 0), (0, .ref o), (1, .int (nI js0)), (2, .int (nI jh0)), (3, .int (nI jt0)), (4, .int (nI ju0))]) hx hb dX5_work_113 hl (by decide) rfl (fun ls hl => ?_)
              refine lv_iload hx hb dX5_work_115 (lv_at hl 0 rfl) ?_
              refine lv_iconst (v := 4) hx hb dX5_work_117 (by decide) ?_
              refine lv_icmp_ge (tgt := 171) hx hb dX5_work_118 (by decide) (fun c_36 => absurd c_36 (by decide)) (fun c_36 => ?_)
              refine lv_aload_n hx hb dX5_work_121 rfl (lv_at hl 1 rfl) ?_
              refine va_get (D := D) (ci := 4) (v := .ref (ad 10)) (C := RX5) (T := TX5) (N := 18) hx hb hts in_X5 hown hK hP 2 rfl rfl 10 (by decide) (hts _ q583) (fun _ h9 => h9) rfl dX5_work_122 ?_
              refine lv_iload hx hb dX5_work_125 (lv_at hl 0 rfl) ?_
              refine lv_iload_n hx hb dX5_work_127 rfl (lv_at hl 3 rfl) ?_
              refine lv_if_ne (tgt := 149) hx hb dX5_work_128 (by decide) (fun c_37 => ?_) (fun c_37 => ?_)
              · have c_37 := eq_no (a := jh0) (b := 0) rfl rfl (by omega) (by omega) c_37
                refine lv_aload_n hx hb dX5_work_149 rfl (lv_at hl 1 rfl) ?_
                refine va_get (D := D) (ci := 4) (v := .ref (ad 8)) (C := RX5) (T := TX5) (N := 18) hx hb hts in_X5 hown hK hP 2 rfl rfl 8 (by decide) (hts _ q581) (fun _ h9 => h9) rfl dX5_work_150 ?_
                refine lv_iload hx hb dX5_work_153 (lv_at hl 0 rfl) ?_
                refine va_lald hx hb hK hP 1 2 rfl rfl (vin (by decide)) dX5_work_155 ?_
                refine lv_topl (fun z_38 ez_38 => ?_)
                obtain rfl : z_38 = (rq g jt0).1 := ez_38.trans rfl
                refine lv_aload_n hx hb dX5_work_156 rfl (lv_at hl 1 rfl) ?_
                refine va_get (D := D) (ci := 4) (v := .ref (ad 9)) (C := RX5) (T := TX5) (N := 18) hx hb hts in_X5 hown hK hP 2 rfl rfl 9 (by decide) (hts _ q582) (fun _ h9 => h9) rfl dX5_work_157 ?_
                refine lv_iload hx hb dX5_work_160 (lv_at hl 0 rfl) ?_
                refine va_lald hx hb hK hP 4 2 rfl rfl (vin (by decide)) dX5_work_162 ?_
                refine lv_topl (fun z_39 ez_39 => ?_)
                obtain rfl : z_39 = (rq g ju0).1 := ez_39.trans rfl
                refine lv_lsub hx hb dX5_work_163 ?_
                refine va_last hx hb hK hP hD hS 0 2 rfl rfl (vin (by decide)) dX5_work_164 (fun H locs hP hD hS => ?_)
                rw [L4_s0] at hP hD
                have hP : va_P D vwCl [(ad 10, a4 ca (((rq g jt0).1) - ((rq g ju0).1), z.2.1, z.2.2.1, z.2.2.2)), (ad 8, a4 ca (rq g jt0)), (o, mO ad nf mo), (ad 3, aI ca 64 g), (ad 9, a4 ca (rq g ju0))] H := hP
                have hD : va_D A [(ad 10, a4 ca (((rq g jt0).1) - ((rq g ju0).1), z.2.1, z.2.2.1, z.2.2.2)), (ad 8, a4 ca (rq g jt0)), (o, mO ad nf mo), (ad 3, aI ca 64 g), (ad 9, a4 ca (rq g ju0))] := hD
                refine lv_iinc (v := 1) (lv' := [(5, .int 1), (0, .ref o), (1, .int (nI js0)), (2, .int (nI jh0)), (3, .int (nI jt0)), (4, .int (nI ju0))]) hx hb dX5_work_165 hl (k := 0) rfl (by decide) (by decide) rfl (fun ls hl => ?_)
                refine lv_goto (tgt := 115) hx hb dX5_work_168 (by decide) ?_
                refine lv_iload hx hb dX5_work_115 (lv_at hl 0 rfl) ?_
                refine lv_iconst (v := 4) hx hb dX5_work_117 (by decide) ?_
                refine lv_icmp_ge (tgt := 171) hx hb dX5_work_118 (by decide) (fun c_40 => absurd c_40 (by decide)) (fun c_40 => ?_)
                refine lv_aload_n hx hb dX5_work_121 rfl (lv_at hl 1 rfl) ?_
                refine va_get (D := D) (ci := 4) (v := .ref (ad 10)) (C := RX5) (T := TX5) (N := 18) hx hb hts in_X5 hown hK hP 2 rfl rfl 10 (by decide) (hts _ q583) (fun _ h9 => h9) rfl dX5_work_122 ?_
                refine lv_iload hx hb dX5_work_125 (lv_at hl 0 rfl) ?_
                refine lv_iload_n hx hb dX5_work_127 rfl (lv_at hl 3 rfl) ?_
                refine lv_if_ne (tgt := 149) hx hb dX5_work_128 (by decide) (fun c_41 => ?_) (fun c_41 => absurd c_41 (fun z => c_37 (eq_y (a := jh0) (b := 0) rfl rfl (by omega) (by omega) z)))
                refine lv_aload_n hx hb dX5_work_149 rfl (lv_at hl 1 rfl) ?_
                refine va_get (D := D) (ci := 4) (v := .ref (ad 8)) (C := RX5) (T := TX5) (N := 18) hx hb hts in_X5 hown hK hP 2 rfl rfl 8 (by decide) (hts _ q581) (fun _ h9 => h9) rfl dX5_work_150 ?_
                refine lv_iload hx hb dX5_work_153 (lv_at hl 0 rfl) ?_
                refine va_lald hx hb hK hP 1 2 rfl rfl (vin (by decide)) dX5_work_155 ?_
                refine lv_topl (fun z_42 ez_42 => ?_)
                obtain rfl : z_42 = (rq g jt0).2.1 := ez_42.trans rfl
                refine lv_aload_n hx hb dX5_work_156 rfl (lv_at hl 1 rfl) ?_
                refine va_get (D := D) (ci := 4) (v := .ref (ad 9)) (C := RX5) (T := TX5) (N := 18) hx hb hts in_X5 hown hK hP 2 rfl rfl 9 (by decide) (hts _ q582) (fun _ h9 => h9) rfl dX5_work_157 ?_
                refine lv_iload hx hb dX5_work_160 (lv_at hl 0 rfl) ?_
                refine va_lald hx hb hK hP 4 2 rfl rfl (vin (by decide)) dX5_work_162 ?_
                refine lv_topl (fun z_43 ez_43 => ?_)
                obtain rfl : z_43 = (rq g ju0).2.1 := ez_43.trans rfl
                refine lv_lsub hx hb dX5_work_163 ?_
                refine va_last hx hb hK hP hD hS 0 2 rfl rfl (vin (by decide)) dX5_work_164 (fun H locs hP hD hS => ?_)
                rw [L4_s1] at hP hD
                have hP : va_P D vwCl [(ad 10, a4 ca (((rq g jt0).1) - ((rq g ju0).1), ((rq g jt0).2.1) - ((rq g ju0).2.1), z.2.2.1, z.2.2.2)), (ad 8, a4 ca (rq g jt0)), (o, mO ad nf mo), (ad 3, aI ca 64 g), (ad 9, a4 ca (rq g ju0))] H := hP
                have hD : va_D A [(ad 10, a4 ca (((rq g jt0).1) - ((rq g ju0).1), ((rq g jt0).2.1) - ((rq g ju0).2.1), z.2.2.1, z.2.2.2)), (ad 8, a4 ca (rq g jt0)), (o, mO ad nf mo), (ad 3, aI ca 64 g), (ad 9, a4 ca (rq g ju0))] := hD
                refine lv_iinc (v := 2) (lv' := [(5, .int 2), (0, .ref o), (1, .int (nI js0)), (2, .int (nI jh0)), (3, .int (nI jt0)), (4, .int (nI ju0))]) hx hb dX5_work_165 hl (k := 0) rfl (by decide) (by decide) rfl (fun ls hl => ?_)
                refine lv_goto (tgt := 115) hx hb dX5_work_168 (by decide) ?_
                refine lv_iload hx hb dX5_work_115 (lv_at hl 0 rfl) ?_
                refine lv_iconst (v := 4) hx hb dX5_work_117 (by decide) ?_
                refine lv_icmp_ge (tgt := 171) hx hb dX5_work_118 (by decide) (fun c_44 => absurd c_44 (by decide)) (fun c_44 => ?_)
                refine lv_aload_n hx hb dX5_work_121 rfl (lv_at hl 1 rfl) ?_
                refine va_get (D := D) (ci := 4) (v := .ref (ad 10)) (C := RX5) (T := TX5) (N := 18) hx hb hts in_X5 hown hK hP 2 rfl rfl 10 (by decide) (hts _ q583) (fun _ h9 => h9) rfl dX5_work_122 ?_
                refine lv_iload hx hb dX5_work_125 (lv_at hl 0 rfl) ?_
                refine lv_iload_n hx hb dX5_work_127 rfl (lv_at hl 3 rfl) ?_
                refine lv_if_ne (tgt := 149) hx hb dX5_work_128 (by decide) (fun c_45 => ?_) (fun c_45 => absurd c_45 (fun z => c_37 (eq_y (a := jh0) (b := 0) rfl rfl (by omega) (by omega) z)))
                refine lv_aload_n hx hb dX5_work_149 rfl (lv_at hl 1 rfl) ?_
                refine va_get (D := D) (ci := 4) (v := .ref (ad 8)) (C := RX5) (T := TX5) (N := 18) hx hb hts in_X5 hown hK hP 2 rfl rfl 8 (by decide) (hts _ q581) (fun _ h9 => h9) rfl dX5_work_150 ?_
                refine lv_iload hx hb dX5_work_153 (lv_at hl 0 rfl) ?_
                refine va_lald hx hb hK hP 1 2 rfl rfl (vin (by decide)) dX5_work_155 ?_
                refine lv_topl (fun z_46 ez_46 => ?_)
                obtain rfl : z_46 = (rq g jt0).2.2.1 := ez_46.trans rfl
                refine lv_aload_n hx hb dX5_work_156 rfl (lv_at hl 1 rfl) ?_
                refine va_get (D := D) (ci := 4) (v := .ref (ad 9)) (C := RX5) (T := TX5) (N := 18) hx hb hts in_X5 hown hK hP 2 rfl rfl 9 (by decide) (hts _ q582) (fun _ h9 => h9) rfl dX5_work_157 ?_
                refine lv_iload hx hb dX5_work_160 (lv_at hl 0 rfl) ?_
                refine va_lald hx hb hK hP 4 2 rfl rfl (vin (by decide)) dX5_work_162 ?_
                refine lv_topl (fun z_47 ez_47 => ?_)
                obtain rfl : z_47 = (rq g ju0).2.2.1 := ez_47.trans rfl
                refine lv_lsub hx hb dX5_work_163 ?_
                refine va_last hx hb hK hP hD hS 0 2 rfl rfl (vin (by decide)) dX5_work_164 (fun H locs hP hD hS => ?_)
                rw [L4_s2] at hP hD
                have hP : va_P D vwCl [(ad 10, a4 ca (((rq g jt0).1) - ((rq g ju0).1), ((rq g jt0).2.1) - ((rq g ju0).2.1), ((rq g jt0).2.2.1) - ((rq g ju0).2.2.1), z.2.2.2)), (ad 8, a4 ca (rq g jt0)), (o, mO ad nf mo), (ad 3, aI ca 64 g), (ad 9, a4 ca (rq g ju0))] H := hP
                have hD : va_D A [(ad 10, a4 ca (((rq g jt0).1) - ((rq g ju0).1), ((rq g jt0).2.1) - ((rq g ju0).2.1), ((rq g jt0).2.2.1) - ((rq g ju0).2.2.1), z.2.2.2)), (ad 8, a4 ca (rq g jt0)), (o, mO ad nf mo), (ad 3, aI ca 64 g), (ad 9, a4 ca (rq g ju0))] := hD
                refine lv_iinc (v := 3) (lv' := [(5, .int 3), (0, .ref o), (1, .int (nI js0)), (2, .int (nI jh0)), (3, .int (nI jt0)), (4, .int (nI ju0))]) hx hb dX5_work_165 hl (k := 0) rfl (by decide) (by decide) rfl (fun ls hl => ?_)
                refine lv_goto (tgt := 115) hx hb dX5_work_168 (by decide) ?_
                refine lv_iload hx hb dX5_work_115 (lv_at hl 0 rfl) ?_
                refine lv_iconst (v := 4) hx hb dX5_work_117 (by decide) ?_
                refine lv_icmp_ge (tgt := 171) hx hb dX5_work_118 (by decide) (fun c_48 => absurd c_48 (by decide)) (fun c_48 => ?_)
                refine lv_aload_n hx hb dX5_work_121 rfl (lv_at hl 1 rfl) ?_
                refine va_get (D := D) (ci := 4) (v := .ref (ad 10)) (C := RX5) (T := TX5) (N := 18) hx hb hts in_X5 hown hK hP 2 rfl rfl 10 (by decide) (hts _ q583) (fun _ h9 => h9) rfl dX5_work_122 ?_
                refine lv_iload hx hb dX5_work_125 (lv_at hl 0 rfl) ?_
                refine lv_iload_n hx hb dX5_work_127 rfl (lv_at hl 3 rfl) ?_
                refine lv_if_ne (tgt := 149) hx hb dX5_work_128 (by decide) (fun c_49 => ?_) (fun c_49 => absurd c_49 (fun z => c_37 (eq_y (a := jh0) (b := 0) rfl rfl (by omega) (by omega) z)))
                refine lv_aload_n hx hb dX5_work_149 rfl (lv_at hl 1 rfl) ?_
                refine va_get (D := D) (ci := 4) (v := .ref (ad 8)) (C := RX5) (T := TX5) (N := 18) hx hb hts in_X5 hown hK hP 2 rfl rfl 8 (by decide) (hts _ q581) (fun _ h9 => h9) rfl dX5_work_150 ?_
                refine lv_iload hx hb dX5_work_153 (lv_at hl 0 rfl) ?_
                refine va_lald hx hb hK hP 1 2 rfl rfl (vin (by decide)) dX5_work_155 ?_
                refine lv_topl (fun z_50 ez_50 => ?_)
                obtain rfl : z_50 = (rq g jt0).2.2.2 := ez_50.trans rfl
                refine lv_aload_n hx hb dX5_work_156 rfl (lv_at hl 1 rfl) ?_
                refine va_get (D := D) (ci := 4) (v := .ref (ad 9)) (C := RX5) (T := TX5) (N := 18) hx hb hts in_X5 hown hK hP 2 rfl rfl 9 (by decide) (hts _ q582) (fun _ h9 => h9) rfl dX5_work_157 ?_
                refine lv_iload hx hb dX5_work_160 (lv_at hl 0 rfl) ?_
                refine va_lald hx hb hK hP 4 2 rfl rfl (vin (by decide)) dX5_work_162 ?_
                refine lv_topl (fun z_51 ez_51 => ?_)
                obtain rfl : z_51 = (rq g ju0).2.2.2 := ez_51.trans rfl
                refine lv_lsub hx hb dX5_work_163 ?_
                refine va_last hx hb hK hP hD hS 0 2 rfl rfl (vin (by decide)) dX5_work_164 (fun H locs hP hD hS => ?_)
                rw [L4_s3] at hP hD
                have hP : va_P D vwCl [(ad 10, a4 ca (((rq g jt0).1) - ((rq g ju0).1), ((rq g jt0).2.1) - ((rq g ju0).2.1), ((rq g jt0).2.2.1) - ((rq g ju0).2.2.1), ((rq g jt0).2.2.2) - ((rq g ju0).2.2.2))), (ad 8, a4 ca (rq g jt0)), (o, mO ad nf mo), (ad 3, aI ca 64 g), (ad 9, a4 ca (rq g ju0))] H := hP
                have hD : va_D A [(ad 10, a4 ca (((rq g jt0).1) - ((rq g ju0).1), ((rq g jt0).2.1) - ((rq g ju0).2.1), ((rq g jt0).2.2.1) - ((rq g ju0).2.2.1), ((rq g jt0).2.2.2) - ((rq g ju0).2.2.2))), (ad 8, a4 ca (rq g jt0)), (o, mO ad nf mo), (ad 3, aI ca 64 g), (ad 9, a4 ca (rq g ju0))] := hD
                refine lv_iinc (v := 4) (lv' := [(5, .int 4), (0, .ref o), (1, .int (nI js0)), (2, .int (nI jh0)), (3, .int (nI jt0)), (4, .int (nI ju0))]) hx hb dX5_work_165 hl (k := 0) rfl (by decide) (by decide) rfl (fun ls hl => ?_)
                refine lv_goto (tgt := 115) hx hb dX5_work_168 (by decide) ?_
                refine lv_iload hx hb dX5_work_115 (lv_at hl 0 rfl) ?_
                refine lv_iconst (v := 4) hx hb dX5_work_117 (by decide) ?_
                refine lv_icmp_ge (tgt := 171) hx hb dX5_work_118 (by decide) (fun c_52 => ?_) (fun c_52 => absurd (by decide) c_52)
                refine lv_aload_n hx hb dX5_work_171 rfl (lv_at hl 1 rfl) ?_
                refine lv_iload_n hx hb dX5_work_172 rfl (lv_at hl 2 rfl) ?_
                refine lv_aload_n hx hb dX5_work_173 rfl (lv_at hl 1 rfl) ?_
                refine va_get (D := D) (ci := 4) (v := .ref (ad 10)) (C := RX5) (T := TX5) (N := 18) hx hb hts in_X5 hown hK hP 2 rfl rfl 10 (by decide) (hts _ q583) (fun _ h9 => h9) rfl dX5_work_174 ?_
                refine k_calli (wr := [(ad 8, a4 ca (rq g jt0)), (ad 9, a4 ca (rq g ju0))]) (va_runV (As := [.int (nI js0), .ref (ad 10)]) (rest := []) ⟨hx, hb, hml, hown, hts⟩ (ct_X5_holds hk l D ca H.size o ad nf mo (ad 10) g (((rq g jt0).1) - ((rq g ju0).1), ((rq g jt0).2.1) - ((rq g ju0).2.1), ((rq g jt0).2.2.1) - ((rq g ju0).2.2.1), ((rq g jt0).2.2.2) - ((rq g ju0).2.2.2)) js0 (by omega)) (cwV 2 hts (lw_V q677 q679 qs8 q24 q680) rfl rfl rfl (by decide +kernel) ⟨Nat.le_of_ble_eq_true rfl, Nat.le_of_ble_eq_true rfl⟩) (k_preV hk hK hN hP hD [2, 3, 0] (by decide) rfl trivial hP rfl (q0 := 2) rfl) rfl rfl hl.1 rfl (lv_room (Nat.le_of_ble_eq_true rfl)) dX5_work_177 ⟨Nat.le_of_ble_eq_true rfl, Nat.le_of_ble_eq_true rfl⟩) hP hD hS hA [2, 3, 0] [1, 4] rfl rfl (by decide) (by decide) (fun r_53 u_54 H locs w_55 hP hD hxw_55 hzw_55 hqw_55 hS => ?_)
                have hP : va_P D vwCl [(ad 8, a4 ca (rq g jt0)), (ad 9, a4 ca (rq g ju0)), (o, mO ad nf mo), (ad 3, aI ca 64 u_54), (ad 10, a4 ca (((rq g jt0).1) - ((rq g ju0).1), ((rq g jt0).2.1) - ((rq g ju0).2.1), ((rq g jt0).2.2.1) - ((rq g ju0).2.2.1), ((rq g jt0).2.2.2) - ((rq g ju0).2.2.2)))] H := hP
                have hD : va_D A [(ad 8, a4 ca (rq g jt0)), (ad 9, a4 ca (rq g ju0)), (o, mO ad nf mo), (ad 3, aI ca 64 u_54), (ad 10, a4 ca (((rq g jt0).1) - ((rq g ju0).1), ((rq g jt0).2.1) - ((rq g ju0).2.1), ((rq g jt0).2.2.1) - ((rq g ju0).2.2.1), ((rq g jt0).2.2.2) - ((rq g ju0).2.2.2)))] := hD
                obtain ⟨rfl, rfl⟩ := w_55
                have hP : va_P D vwCl [(ad 8, a4 ca (rq g jt0)), (ad 9, a4 ca (rq g ju0)), (o, mO ad nf mo), (ad 3, aI ca 64 (h_g g js0 (((rq g jt0).1) - ((rq g ju0).1), ((rq g jt0).2.1) - ((rq g ju0).2.1), ((rq g jt0).2.2.1) - ((rq g ju0).2.2.1), ((rq g jt0).2.2.2) - ((rq g ju0).2.2.2)))), (ad 10, a4 ca (((rq g jt0).1) - ((rq g ju0).1), ((rq g jt0).2.1) - ((rq g ju0).2.1), ((rq g jt0).2.2.1) - ((rq g ju0).2.2.1), ((rq g jt0).2.2.2) - ((rq g ju0).2.2.2)))] H := hP
                have hD : va_D A [(ad 8, a4 ca (rq g jt0)), (ad 9, a4 ca (rq g ju0)), (o, mO ad nf mo), (ad 3, aI ca 64 (h_g g js0 (((rq g jt0).1) - ((rq g ju0).1), ((rq g jt0).2.1) - ((rq g ju0).2.1), ((rq g jt0).2.2.1) - ((rq g ju0).2.2.1), ((rq g jt0).2.2.2) - ((rq g ju0).2.2.2)))), (ad 10, a4 ca (((rq g jt0).1) - ((rq g ju0).1), ((rq g jt0).2.1) - ((rq g ju0).2.1), ((rq g jt0).2.2.1) - ((rq g ju0).2.2.1), ((rq g jt0).2.2.2) - ((rq g ju0).2.2.2)))] := hD
                exact k_iret ((h_g g js0 (((rq g jt0).1) - ((rq g ju0).1), ((rq g jt0).2.1) - ((rq g ju0).2.1), ((rq g jt0).2.2.1) - ((rq g ju0).2.2.1), ((rq g jt0).2.2.2) - ((rq g ju0).2.2.2))), (rq g jt0), (rq g ju0), (((rq g jt0).1) - ((rq g ju0).1), ((rq g jt0).2.1) - ((rq g ju0).2.1), ((rq g jt0).2.2.1) - ((rq g ju0).2.2.1), ((rq g jt0).2.2.2) - ((rq g ju0).2.2.2))) hx hb hr hlocks (by simp [m_work, q_add, q_sub, c_4, c_8, c_12, c_27, nI_clamp (show js0 < 2 ^ 31 by omega), nI_clamp (show jt0 < 2 ^ 31 by omega), nI_clamp (show ju0 < 2 ^ 31 by omega), show ((nI jh0).toNatClampNeg = 3) ↔ False from by rw [nI_clamp (by omega)]; exact ⟨fun z => by omega, fun z => z.elim⟩, show ((nI jh0).toNatClampNeg = 2) ↔ False from by rw [nI_clamp (by omega)]; exact ⟨fun z => by omega, fun z => z.elim⟩, show ((nI jh0).toNatClampNeg = 0) ↔ False from by rw [nI_clamp (by omega)]; exact ⟨fun z => by omega, fun z => z.elim⟩]) (hP.sub [2, 3, 0, 1, 4] rfl) (hD.sub [2, 3, 0, 1, 4] (by decide) rfl) trivial hS (Nat.le_of_ble_eq_true rfl) (Nat.le_of_ble_eq_true rfl) dX5_work_180
              · have c_37 := eq_y (a := jh0) (b := 0) rfl rfl (by omega) (by omega) c_37
                refine lv_aload_n hx hb dX5_work_131 rfl (lv_at hl 1 rfl) ?_
                refine va_get (D := D) (ci := 4) (v := .ref (ad 8)) (C := RX5) (T := TX5) (N := 18) hx hb hts in_X5 hown hK hP 2 rfl rfl 8 (by decide) (hts _ q581) (fun _ h9 => h9) rfl dX5_work_132 ?_
                refine lv_iload hx hb dX5_work_135 (lv_at hl 0 rfl) ?_
                refine va_lald hx hb hK hP 1 2 rfl rfl (vin (by decide)) dX5_work_137 ?_
                refine lv_topl (fun z_56 ez_56 => ?_)
                obtain rfl : z_56 = (rq g jt0).1 := ez_56.trans rfl
                refine lv_aload_n hx hb dX5_work_138 rfl (lv_at hl 1 rfl) ?_
                refine va_get (D := D) (ci := 4) (v := .ref (ad 9)) (C := RX5) (T := TX5) (N := 18) hx hb hts in_X5 hown hK hP 2 rfl rfl 9 (by decide) (hts _ q582) (fun _ h9 => h9) rfl dX5_work_139 ?_
                refine lv_iload hx hb dX5_work_142 (lv_at hl 0 rfl) ?_
                refine va_lald hx hb hK hP 4 2 rfl rfl (vin (by decide)) dX5_work_144 ?_
                refine lv_topl (fun z_57 ez_57 => ?_)
                obtain rfl : z_57 = (rq g ju0).1 := ez_57.trans rfl
                refine lv_ladd hx hb dX5_work_145 ?_
                refine lv_goto (tgt := 164) hx hb dX5_work_146 (by decide) ?_
                refine va_last hx hb hK hP hD hS 0 2 rfl rfl (vin (by decide)) dX5_work_164 (fun H locs hP hD hS => ?_)
                rw [L4_s0] at hP hD
                have hP : va_P D vwCl [(ad 10, a4 ca (((rq g jt0).1) + ((rq g ju0).1), z.2.1, z.2.2.1, z.2.2.2)), (ad 8, a4 ca (rq g jt0)), (o, mO ad nf mo), (ad 3, aI ca 64 g), (ad 9, a4 ca (rq g ju0))] H := hP
                have hD : va_D A [(ad 10, a4 ca (((rq g jt0).1) + ((rq g ju0).1), z.2.1, z.2.2.1, z.2.2.2)), (ad 8, a4 ca (rq g jt0)), (o, mO ad nf mo), (ad 3, aI ca 64 g), (ad 9, a4 ca (rq g ju0))] := hD
                refine lv_iinc (v := 1) (lv' := [(5, .int 1), (0, .ref o), (1, .int (nI js0)), (2, .int (nI jh0)), (3, .int (nI jt0)), (4, .int (nI ju0))]) hx hb dX5_work_165 hl (k := 0) rfl (by decide) (by decide) rfl (fun ls hl => ?_)
                refine lv_goto (tgt := 115) hx hb dX5_work_168 (by decide) ?_
                refine lv_iload hx hb dX5_work_115 (lv_at hl 0 rfl) ?_
                refine lv_iconst (v := 4) hx hb dX5_work_117 (by decide) ?_
                refine lv_icmp_ge (tgt := 171) hx hb dX5_work_118 (by decide) (fun c_58 => absurd c_58 (by decide)) (fun c_58 => ?_)
                refine lv_aload_n hx hb dX5_work_121 rfl (lv_at hl 1 rfl) ?_
                refine va_get (D := D) (ci := 4) (v := .ref (ad 10)) (C := RX5) (T := TX5) (N := 18) hx hb hts in_X5 hown hK hP 2 rfl rfl 10 (by decide) (hts _ q583) (fun _ h9 => h9) rfl dX5_work_122 ?_
                refine lv_iload hx hb dX5_work_125 (lv_at hl 0 rfl) ?_
                refine lv_iload_n hx hb dX5_work_127 rfl (lv_at hl 3 rfl) ?_
                refine lv_if_ne (tgt := 149) hx hb dX5_work_128 (by decide) (fun c_59 => absurd (by rw [c_37]; rfl) c_59) (fun c_59 => ?_)
                refine lv_aload_n hx hb dX5_work_131 rfl (lv_at hl 1 rfl) ?_
                refine va_get (D := D) (ci := 4) (v := .ref (ad 8)) (C := RX5) (T := TX5) (N := 18) hx hb hts in_X5 hown hK hP 2 rfl rfl 8 (by decide) (hts _ q581) (fun _ h9 => h9) rfl dX5_work_132 ?_
                refine lv_iload hx hb dX5_work_135 (lv_at hl 0 rfl) ?_
                refine va_lald hx hb hK hP 1 2 rfl rfl (vin (by decide)) dX5_work_137 ?_
                refine lv_topl (fun z_60 ez_60 => ?_)
                obtain rfl : z_60 = (rq g jt0).2.1 := ez_60.trans rfl
                refine lv_aload_n hx hb dX5_work_138 rfl (lv_at hl 1 rfl) ?_
                refine va_get (D := D) (ci := 4) (v := .ref (ad 9)) (C := RX5) (T := TX5) (N := 18) hx hb hts in_X5 hown hK hP 2 rfl rfl 9 (by decide) (hts _ q582) (fun _ h9 => h9) rfl dX5_work_139 ?_
                refine lv_iload hx hb dX5_work_142 (lv_at hl 0 rfl) ?_
                refine va_lald hx hb hK hP 4 2 rfl rfl (vin (by decide)) dX5_work_144 ?_
                refine lv_topl (fun z_61 ez_61 => ?_)
                obtain rfl : z_61 = (rq g ju0).2.1 := ez_61.trans rfl
                refine lv_ladd hx hb dX5_work_145 ?_
                refine lv_goto (tgt := 164) hx hb dX5_work_146 (by decide) ?_
                refine va_last hx hb hK hP hD hS 0 2 rfl rfl (vin (by decide)) dX5_work_164 (fun H locs hP hD hS => ?_)
                rw [L4_s1] at hP hD
                have hP : va_P D vwCl [(ad 10, a4 ca (((rq g jt0).1) + ((rq g ju0).1), ((rq g jt0).2.1) + ((rq g ju0).2.1), z.2.2.1, z.2.2.2)), (ad 8, a4 ca (rq g jt0)), (o, mO ad nf mo), (ad 3, aI ca 64 g), (ad 9, a4 ca (rq g ju0))] H := hP
                have hD : va_D A [(ad 10, a4 ca (((rq g jt0).1) + ((rq g ju0).1), ((rq g jt0).2.1) + ((rq g ju0).2.1), z.2.2.1, z.2.2.2)), (ad 8, a4 ca (rq g jt0)), (o, mO ad nf mo), (ad 3, aI ca 64 g), (ad 9, a4 ca (rq g ju0))] := hD
                refine lv_iinc (v := 2) (lv' := [(5, .int 2), (0, .ref o), (1, .int (nI js0)), (2, .int (nI jh0)), (3, .int (nI jt0)), (4, .int (nI ju0))]) hx hb dX5_work_165 hl (k := 0) rfl (by decide) (by decide) rfl (fun ls hl => ?_)
                refine lv_goto (tgt := 115) hx hb dX5_work_168 (by decide) ?_
                refine lv_iload hx hb dX5_work_115 (lv_at hl 0 rfl) ?_
                refine lv_iconst (v := 4) hx hb dX5_work_117 (by decide) ?_
                refine lv_icmp_ge (tgt := 171) hx hb dX5_work_118 (by decide) (fun c_62 => absurd c_62 (by decide)) (fun c_62 => ?_)
                refine lv_aload_n hx hb dX5_work_121 rfl (lv_at hl 1 rfl) ?_
                refine va_get (D := D) (ci := 4) (v := .ref (ad 10)) (C := RX5) (T := TX5) (N := 18) hx hb hts in_X5 hown hK hP 2 rfl rfl 10 (by decide) (hts _ q583) (fun _ h9 => h9) rfl dX5_work_122 ?_
                refine lv_iload hx hb dX5_work_125 (lv_at hl 0 rfl) ?_
                refine lv_iload_n hx hb dX5_work_127 rfl (lv_at hl 3 rfl) ?_
                refine lv_if_ne (tgt := 149) hx hb dX5_work_128 (by decide) (fun c_63 => absurd (by rw [c_37]; rfl) c_63) (fun c_63 => ?_)
                refine lv_aload_n hx hb dX5_work_131 rfl (lv_at hl 1 rfl) ?_
                refine va_get (D := D) (ci := 4) (v := .ref (ad 8)) (C := RX5) (T := TX5) (N := 18) hx hb hts in_X5 hown hK hP 2 rfl rfl 8 (by decide) (hts _ q581) (fun _ h9 => h9) rfl dX5_work_132 ?_
                refine lv_iload hx hb dX5_work_135 (lv_at hl 0 rfl) ?_
                refine va_lald hx hb hK hP 1 2 rfl rfl (vin (by decide)) dX5_work_137 ?_
                refine lv_topl (fun z_64 ez_64 => ?_)
                obtain rfl : z_64 = (rq g jt0).2.2.1 := ez_64.trans rfl
                refine lv_aload_n hx hb dX5_work_138 rfl (lv_at hl 1 rfl) ?_
                refine va_get (D := D) (ci := 4) (v := .ref (ad 9)) (C := RX5) (T := TX5) (N := 18) hx hb hts in_X5 hown hK hP 2 rfl rfl 9 (by decide) (hts _ q582) (fun _ h9 => h9) rfl dX5_work_139 ?_
                refine lv_iload hx hb dX5_work_142 (lv_at hl 0 rfl) ?_
                refine va_lald hx hb hK hP 4 2 rfl rfl (vin (by decide)) dX5_work_144 ?_
                refine lv_topl (fun z_65 ez_65 => ?_)
                obtain rfl : z_65 = (rq g ju0).2.2.1 := ez_65.trans rfl
                refine lv_ladd hx hb dX5_work_145 ?_
                refine lv_goto (tgt := 164) hx hb dX5_work_146 (by decide) ?_
                refine va_last hx hb hK hP hD hS 0 2 rfl rfl (vin (by decide)) dX5_work_164 (fun H locs hP hD hS => ?_)
                rw [L4_s2] at hP hD
                have hP : va_P D vwCl [(ad 10, a4 ca (((rq g jt0).1) + ((rq g ju0).1), ((rq g jt0).2.1) + ((rq g ju0).2.1), ((rq g jt0).2.2.1) + ((rq g ju0).2.2.1), z.2.2.2)), (ad 8, a4 ca (rq g jt0)), (o, mO ad nf mo), (ad 3, aI ca 64 g), (ad 9, a4 ca (rq g ju0))] H := hP
                have hD : va_D A [(ad 10, a4 ca (((rq g jt0).1) + ((rq g ju0).1), ((rq g jt0).2.1) + ((rq g ju0).2.1), ((rq g jt0).2.2.1) + ((rq g ju0).2.2.1), z.2.2.2)), (ad 8, a4 ca (rq g jt0)), (o, mO ad nf mo), (ad 3, aI ca 64 g), (ad 9, a4 ca (rq g ju0))] := hD
                refine lv_iinc (v := 3) (lv' := [(5, .int 3), (0, .ref o), (1, .int (nI js0)), (2, .int (nI jh0)), (3, .int (nI jt0)), (4, .int (nI ju0))]) hx hb dX5_work_165 hl (k := 0) rfl (by decide) (by decide) rfl (fun ls hl => ?_)
                refine lv_goto (tgt := 115) hx hb dX5_work_168 (by decide) ?_
                refine lv_iload hx hb dX5_work_115 (lv_at hl 0 rfl) ?_
                refine lv_iconst (v := 4) hx hb dX5_work_117 (by decide) ?_
                refine lv_icmp_ge (tgt := 171) hx hb dX5_work_118 (by decide) (fun c_66 => absurd c_66 (by decide)) (fun c_66 => ?_)
                refine lv_aload_n hx hb dX5_work_121 rfl (lv_at hl 1 rfl) ?_
                refine va_get (D := D) (ci := 4) (v := .ref (ad 10)) (C := RX5) (T := TX5) (N := 18) hx hb hts in_X5 hown hK hP 2 rfl rfl 10 (by decide) (hts _ q583) (fun _ h9 => h9) rfl dX5_work_122 ?_
                refine lv_iload hx hb dX5_work_125 (lv_at hl 0 rfl) ?_
                refine lv_iload_n hx hb dX5_work_127 rfl (lv_at hl 3 rfl) ?_
                refine lv_if_ne (tgt := 149) hx hb dX5_work_128 (by decide) (fun c_67 => absurd (by rw [c_37]; rfl) c_67) (fun c_67 => ?_)
                refine lv_aload_n hx hb dX5_work_131 rfl (lv_at hl 1 rfl) ?_
                refine va_get (D := D) (ci := 4) (v := .ref (ad 8)) (C := RX5) (T := TX5) (N := 18) hx hb hts in_X5 hown hK hP 2 rfl rfl 8 (by decide) (hts _ q581) (fun _ h9 => h9) rfl dX5_work_132 ?_
                refine lv_iload hx hb dX5_work_135 (lv_at hl 0 rfl) ?_
                refine va_lald hx hb hK hP 1 2 rfl rfl (vin (by decide)) dX5_work_137 ?_
                refine lv_topl (fun z_68 ez_68 => ?_)
                obtain rfl : z_68 = (rq g jt0).2.2.2 := ez_68.trans rfl
                refine lv_aload_n hx hb dX5_work_138 rfl (lv_at hl 1 rfl) ?_
                refine va_get (D := D) (ci := 4) (v := .ref (ad 9)) (C := RX5) (T := TX5) (N := 18) hx hb hts in_X5 hown hK hP 2 rfl rfl 9 (by decide) (hts _ q582) (fun _ h9 => h9) rfl dX5_work_139 ?_
                refine lv_iload hx hb dX5_work_142 (lv_at hl 0 rfl) ?_
                refine va_lald hx hb hK hP 4 2 rfl rfl (vin (by decide)) dX5_work_144 ?_
                refine lv_topl (fun z_69 ez_69 => ?_)
                obtain rfl : z_69 = (rq g ju0).2.2.2 := ez_69.trans rfl
                refine lv_ladd hx hb dX5_work_145 ?_
                refine lv_goto (tgt := 164) hx hb dX5_work_146 (by decide) ?_
                refine va_last hx hb hK hP hD hS 0 2 rfl rfl (vin (by decide)) dX5_work_164 (fun H locs hP hD hS => ?_)
                rw [L4_s3] at hP hD
                have hP : va_P D vwCl [(ad 10, a4 ca (((rq g jt0).1) + ((rq g ju0).1), ((rq g jt0).2.1) + ((rq g ju0).2.1), ((rq g jt0).2.2.1) + ((rq g ju0).2.2.1), ((rq g jt0).2.2.2) + ((rq g ju0).2.2.2))), (ad 8, a4 ca (rq g jt0)), (o, mO ad nf mo), (ad 3, aI ca 64 g), (ad 9, a4 ca (rq g ju0))] H := hP
                have hD : va_D A [(ad 10, a4 ca (((rq g jt0).1) + ((rq g ju0).1), ((rq g jt0).2.1) + ((rq g ju0).2.1), ((rq g jt0).2.2.1) + ((rq g ju0).2.2.1), ((rq g jt0).2.2.2) + ((rq g ju0).2.2.2))), (ad 8, a4 ca (rq g jt0)), (o, mO ad nf mo), (ad 3, aI ca 64 g), (ad 9, a4 ca (rq g ju0))] := hD
                refine lv_iinc (v := 4) (lv' := [(5, .int 4), (0, .ref o), (1, .int (nI js0)), (2, .int (nI jh0)), (3, .int (nI jt0)), (4, .int (nI ju0))]) hx hb dX5_work_165 hl (k := 0) rfl (by decide) (by decide) rfl (fun ls hl => ?_)
                refine lv_goto (tgt := 115) hx hb dX5_work_168 (by decide) ?_
                refine lv_iload hx hb dX5_work_115 (lv_at hl 0 rfl) ?_
                refine lv_iconst (v := 4) hx hb dX5_work_117 (by decide) ?_
                refine lv_icmp_ge (tgt := 171) hx hb dX5_work_118 (by decide) (fun c_70 => ?_) (fun c_70 => absurd (by decide) c_70)
                refine lv_aload_n hx hb dX5_work_171 rfl (lv_at hl 1 rfl) ?_
                refine lv_iload_n hx hb dX5_work_172 rfl (lv_at hl 2 rfl) ?_
                refine lv_aload_n hx hb dX5_work_173 rfl (lv_at hl 1 rfl) ?_
                refine va_get (D := D) (ci := 4) (v := .ref (ad 10)) (C := RX5) (T := TX5) (N := 18) hx hb hts in_X5 hown hK hP 2 rfl rfl 10 (by decide) (hts _ q583) (fun _ h9 => h9) rfl dX5_work_174 ?_
                refine k_calli (wr := [(ad 8, a4 ca (rq g jt0)), (ad 9, a4 ca (rq g ju0))]) (va_runV (As := [.int (nI js0), .ref (ad 10)]) (rest := []) ⟨hx, hb, hml, hown, hts⟩ (ct_X5_holds hk l D ca H.size o ad nf mo (ad 10) g (((rq g jt0).1) + ((rq g ju0).1), ((rq g jt0).2.1) + ((rq g ju0).2.1), ((rq g jt0).2.2.1) + ((rq g ju0).2.2.1), ((rq g jt0).2.2.2) + ((rq g ju0).2.2.2)) js0 (by omega)) (cwV 2 hts (lw_V q677 q679 qs8 q24 q680) rfl rfl rfl (by decide +kernel) ⟨Nat.le_of_ble_eq_true rfl, Nat.le_of_ble_eq_true rfl⟩) (k_preV hk hK hN hP hD [2, 3, 0] (by decide) rfl trivial hP rfl (q0 := 2) rfl) rfl rfl hl.1 rfl (lv_room (Nat.le_of_ble_eq_true rfl)) dX5_work_177 ⟨Nat.le_of_ble_eq_true rfl, Nat.le_of_ble_eq_true rfl⟩) hP hD hS hA [2, 3, 0] [1, 4] rfl rfl (by decide) (by decide) (fun r_71 u_72 H locs w_73 hP hD hxw_73 hzw_73 hqw_73 hS => ?_)
                have hP : va_P D vwCl [(ad 8, a4 ca (rq g jt0)), (ad 9, a4 ca (rq g ju0)), (o, mO ad nf mo), (ad 3, aI ca 64 u_72), (ad 10, a4 ca (((rq g jt0).1) + ((rq g ju0).1), ((rq g jt0).2.1) + ((rq g ju0).2.1), ((rq g jt0).2.2.1) + ((rq g ju0).2.2.1), ((rq g jt0).2.2.2) + ((rq g ju0).2.2.2)))] H := hP
                have hD : va_D A [(ad 8, a4 ca (rq g jt0)), (ad 9, a4 ca (rq g ju0)), (o, mO ad nf mo), (ad 3, aI ca 64 u_72), (ad 10, a4 ca (((rq g jt0).1) + ((rq g ju0).1), ((rq g jt0).2.1) + ((rq g ju0).2.1), ((rq g jt0).2.2.1) + ((rq g ju0).2.2.1), ((rq g jt0).2.2.2) + ((rq g ju0).2.2.2)))] := hD
                obtain ⟨rfl, rfl⟩ := w_73
                have hP : va_P D vwCl [(ad 8, a4 ca (rq g jt0)), (ad 9, a4 ca (rq g ju0)), (o, mO ad nf mo), (ad 3, aI ca 64 (h_g g js0 (((rq g jt0).1) + ((rq g ju0).1), ((rq g jt0).2.1) + ((rq g ju0).2.1), ((rq g jt0).2.2.1) + ((rq g ju0).2.2.1), ((rq g jt0).2.2.2) + ((rq g ju0).2.2.2)))), (ad 10, a4 ca (((rq g jt0).1) + ((rq g ju0).1), ((rq g jt0).2.1) + ((rq g ju0).2.1), ((rq g jt0).2.2.1) + ((rq g ju0).2.2.1), ((rq g jt0).2.2.2) + ((rq g ju0).2.2.2)))] H := hP
                have hD : va_D A [(ad 8, a4 ca (rq g jt0)), (ad 9, a4 ca (rq g ju0)), (o, mO ad nf mo), (ad 3, aI ca 64 (h_g g js0 (((rq g jt0).1) + ((rq g ju0).1), ((rq g jt0).2.1) + ((rq g ju0).2.1), ((rq g jt0).2.2.1) + ((rq g ju0).2.2.1), ((rq g jt0).2.2.2) + ((rq g ju0).2.2.2)))), (ad 10, a4 ca (((rq g jt0).1) + ((rq g ju0).1), ((rq g jt0).2.1) + ((rq g ju0).2.1), ((rq g jt0).2.2.1) + ((rq g ju0).2.2.1), ((rq g jt0).2.2.2) + ((rq g ju0).2.2.2)))] := hD
                exact k_iret ((h_g g js0 (((rq g jt0).1) + ((rq g ju0).1), ((rq g jt0).2.1) + ((rq g ju0).2.1), ((rq g jt0).2.2.1) + ((rq g ju0).2.2.1), ((rq g jt0).2.2.2) + ((rq g ju0).2.2.2))), (rq g jt0), (rq g ju0), (((rq g jt0).1) + ((rq g ju0).1), ((rq g jt0).2.1) + ((rq g ju0).2.1), ((rq g jt0).2.2.1) + ((rq g ju0).2.2.1), ((rq g jt0).2.2.2) + ((rq g ju0).2.2.2))) hx hb hr hlocks (by simp [m_work, q_add, q_sub, c_4, c_8, c_12, c_27, nI_clamp (show js0 < 2 ^ 31 by omega), nI_clamp (show jt0 < 2 ^ 31 by omega), nI_clamp (show ju0 < 2 ^ 31 by omega), show ((nI jh0).toNatClampNeg = 3) ↔ False from by rw [nI_clamp (by omega)]; exact ⟨fun z => by omega, fun z => z.elim⟩, show ((nI jh0).toNatClampNeg = 2) ↔ False from by rw [nI_clamp (by omega)]; exact ⟨fun z => by omega, fun z => z.elim⟩, show ((nI jh0).toNatClampNeg = 0) ↔ True from by rw [nI_clamp (by omega)]; exact ⟨fun _ => trivial, fun _ => by omega⟩]) (hP.sub [2, 3, 0, 1, 4] rfl) (hD.sub [2, 3, 0, 1, 4] (by decide) rfl) trivial hS (Nat.le_of_ble_eq_true rfl) (Nat.le_of_ble_eq_true rfl) dX5_work_180
            · have c_35 := eq_y (a := jh0) (b := 2) rfl rfl (by omega) (by omega) c_35
              refine lv_aload_n hx hb dX5_work_87 rfl (lv_at hl 0 rfl) ?_
              refine va_get (D := D) (ci := 4) (v := .ref (ad 10)) (C := RX5) (T := TX5) (N := 18) hx hb hts in_X5 hown hK hP 2 rfl rfl 10 (by decide) (hts _ q583) (fun _ h9 => h9) rfl dX5_work_88 ?_
              refine lv_aload_n hx hb dX5_work_91 rfl (lv_at hl 0 rfl) ?_
              refine va_get (D := D) (ci := 4) (v := .ref (ad 8)) (C := RX5) (T := TX5) (N := 18) hx hb hts in_X5 hown hK hP 2 rfl rfl 8 (by decide) (hts _ q581) (fun _ h9 => h9) rfl dX5_work_92 ?_
              refine lv_aload_n hx hb dX5_work_95 rfl (lv_at hl 0 rfl) ?_
              refine va_get (D := D) (ci := 4) (v := .ref (ad 9)) (C := RX5) (T := TX5) (N := 18) hx hb hts in_X5 hown hK hP 2 rfl rfl 9 (by decide) (hts _ q582) (fun _ h9 => h9) rfl dX5_work_96 ?_
              refine k_callv (wr := [(o, mO ad nf mo), (ad 3, aI ca 64 g)]) (va_runS (As := [.ref (ad 10), .ref (ad 8), .ref (ad 9)]) (rest := []) ⟨hx, hb, hml, hown, hts⟩ (ct_X5_times hk l D ca H.size (ad 10) (ad 8) (ad 9) z (rq g jt0) (rq g ju0)) (va_cwS 3 hts (lw_S q724 q725 q24 q726) rfl rfl rfl (by decide +kernel) ⟨Nat.le_of_ble_eq_true rfl, Nat.le_of_ble_eq_true rfl⟩) (k_pre hk hK hN hP hD [0, 1, 4] (by decide) rfl trivial) rfl rfl hl.1 rfl (lv_room (Nat.le_of_ble_eq_true rfl)) dX5_work_99 ⟨Nat.le_of_ble_eq_true rfl, Nat.le_of_ble_eq_true rfl⟩) hP hD hS hA [0, 1, 4] [2, 3] rfl rfl (by decide) (by decide) (fun u_75 H locs w_76 hP hD hxw_76 hzw_76 hqw_76 hS => ?_)
              have hP : va_P D vwCl [(o, mO ad nf mo), (ad 3, aI ca 64 g), (ad 10, a4 ca (q_times (rq g jt0) (rq g ju0))), (ad 8, a4 ca (rq g jt0)), (ad 9, a4 ca (rq g ju0))] H := hP
              have hD : va_D A [(o, mO ad nf mo), (ad 3, aI ca 64 g), (ad 10, a4 ca (q_times (rq g jt0) (rq g ju0))), (ad 8, a4 ca (rq g jt0)), (ad 9, a4 ca (rq g ju0))] := hD
              refine lv_aload_n hx hb dX5_work_102 rfl (lv_at hl 0 rfl) ?_
              refine lv_iload_n hx hb dX5_work_103 rfl (lv_at hl 1 rfl) ?_
              refine lv_aload_n hx hb dX5_work_104 rfl (lv_at hl 0 rfl) ?_
              refine va_get (D := D) (ci := 4) (v := .ref (ad 10)) (C := RX5) (T := TX5) (N := 18) hx hb hts in_X5 hown hK hP 0 rfl rfl 10 (by decide) (hts _ q583) (fun _ h9 => h9) rfl dX5_work_105 ?_
              refine k_calli (wr := [(ad 8, a4 ca (rq g jt0)), (ad 9, a4 ca (rq g ju0))]) (va_runV (As := [.int (nI js0), .ref (ad 10)]) (rest := []) ⟨hx, hb, hml, hown, hts⟩ (ct_X5_holds hk l D ca H.size o ad nf mo (ad 10) g (q_times (rq g jt0) (rq g ju0)) js0 (by omega)) (cwV 2 hts (lw_V q677 q679 qs8 q24 q680) rfl rfl rfl (by decide +kernel) ⟨Nat.le_of_ble_eq_true rfl, Nat.le_of_ble_eq_true rfl⟩) (k_preV hk hK hN hP hD [0, 1, 2] (by decide) rfl trivial hP rfl (q0 := 0) rfl) rfl rfl hl.1 rfl (lv_room (Nat.le_of_ble_eq_true rfl)) dX5_work_108 ⟨Nat.le_of_ble_eq_true rfl, Nat.le_of_ble_eq_true rfl⟩) hP hD hS hA [0, 1, 2] [3, 4] rfl rfl (by decide) (by decide) (fun r_77 u_78 H locs w_79 hP hD hxw_79 hzw_79 hqw_79 hS => ?_)
              have hP : va_P D vwCl [(ad 8, a4 ca (rq g jt0)), (ad 9, a4 ca (rq g ju0)), (o, mO ad nf mo), (ad 3, aI ca 64 u_78), (ad 10, a4 ca (q_times (rq g jt0) (rq g ju0)))] H := hP
              have hD : va_D A [(ad 8, a4 ca (rq g jt0)), (ad 9, a4 ca (rq g ju0)), (o, mO ad nf mo), (ad 3, aI ca 64 u_78), (ad 10, a4 ca (q_times (rq g jt0) (rq g ju0)))] := hD
              obtain ⟨rfl, rfl⟩ := w_79
              have hP : va_P D vwCl [(ad 8, a4 ca (rq g jt0)), (ad 9, a4 ca (rq g ju0)), (o, mO ad nf mo), (ad 3, aI ca 64 (h_g g js0 (q_times (rq g jt0) (rq g ju0)))), (ad 10, a4 ca (q_times (rq g jt0) (rq g ju0)))] H := hP
              have hD : va_D A [(ad 8, a4 ca (rq g jt0)), (ad 9, a4 ca (rq g ju0)), (o, mO ad nf mo), (ad 3, aI ca 64 (h_g g js0 (q_times (rq g jt0) (rq g ju0)))), (ad 10, a4 ca (q_times (rq g jt0) (rq g ju0)))] := hD
              exact k_iret ((h_g g js0 (q_times (rq g jt0) (rq g ju0))), (rq g jt0), (rq g ju0), (q_times (rq g jt0) (rq g ju0))) hx hb hr hlocks (by simp [m_work, q_add, q_sub, c_4, c_8, c_12, c_27, nI_clamp (show js0 < 2 ^ 31 by omega), nI_clamp (show jt0 < 2 ^ 31 by omega), nI_clamp (show ju0 < 2 ^ 31 by omega), show ((nI jh0).toNatClampNeg = 3) ↔ False from by rw [nI_clamp (by omega)]; exact ⟨fun z => by omega, fun z => z.elim⟩, show ((nI jh0).toNatClampNeg = 2) ↔ True from by rw [nI_clamp (by omega)]; exact ⟨fun _ => trivial, fun _ => by omega⟩]) (hP.sub [2, 3, 0, 1, 4] rfl) (hD.sub [2, 3, 0, 1, 4] (by decide) rfl) trivial hS (Nat.le_of_ble_eq_true rfl) (Nat.le_of_ble_eq_true rfl) dX5_work_111
          · have c_27 := bI_z0 c_27
            refine lv_iconst (v := (-1)) hx hb dX5_work_39 (by decide) ?_
            exact k_iret (g, x, y, z) hx hb hr hlocks (by simp [m_work, q_add, q_sub, c_4, c_8, c_12, c_27, nI_clamp (show js0 < 2 ^ 31 by omega), nI_clamp (show jt0 < 2 ^ 31 by omega), show ((nI jh0).toNatClampNeg = 3) ↔ False from by rw [nI_clamp (by omega)]; exact ⟨fun z => by omega, fun z => z.elim⟩]) hP hD trivial hS (Nat.le_of_ble_eq_true rfl) (Nat.le_of_ble_eq_true rfl) dX5_work_40
set_option maxHeartbeats 4000000 in
set_option maxRecDepth 100000 in
theorem ct_X5_unit {KN : State → Prop} (hk : KNok KN) (l : Launch) (D : va_G) (ca : Nat → ClassId) (zH : Nat) (o : Nat) (ad : Nat → Nat) (nf mo : Int32) (g un : AI) (x y z : Q4) (s0 t0 u0 d0 : Int32)  : Met l yX5_unit (ws_ yX5_unit cX5_unit 5 (some .int)) ({ frames := 4, cells := 0, slots := 0, locals := 88 }) (va_Pc [.ref o, .int s0, .int t0, .int u0, .int d0] (pr_ KN D ca [(o, mO ad nf mo), (ad 3, aI ca 64 g), (ad 4, aI ca 96 un), (ad 8, a4 ca x), (ad 9, a4 ca y), (ad 10, a4 ca z)] zH (fun _ => True))) (qI D (fun (r : Int32) (u : AI × Q4 × Q4 × Q4) => (r, u.1) = m_unit g un s0 t0 u0 d0) (fun u => [(o, mO ad nf mo), (ad 3, aI ca 64 u.1), (ad 4, aI ca 96 un), (ad 8, a4 ca u.2.1), (ad 9, a4 ca u.2.2.1), (ad 10, a4 ca u.2.2.2)]) (fun u H => True) (va_A [(o, mO ad nf mo), (ad 3, aI ca 64 g), (ad 4, aI ca 96 un), (ad 8, a4 ca x), (ad 9, a4 ca y), (ad 10, a4 ca z)] zH)) 0 0 (va_A [(o, mO ad nf mo), (ad 3, aI ca 64 g), (ad 4, aI ca 96 un), (ad 8, a4 ca x), (ad 9, a4 ca y), (ad 10, a4 ca z)] zH) := by
  refine k_ofW (Qc := qI D (fun (r : Int32) (u : AI × Q4 × Q4 × Q4) => (r, u.1) = m_unit g un s0 t0 u0 d0) (fun u => [(o, mO ad nf mo), (ad 3, aI ca 64 u.1), (ad 4, aI ca 96 un), (ad 8, a4 ca u.2.1), (ad 9, a4 ca u.2.2.1), (ad 10, a4 ca u.2.2.2)]) (fun u H => True)) (by decide) (Nat.le_of_ble_eq_true rfl) ?_
  intro p e s m below meth c ls A H hH hx hb hr hts hown hlocks hnm hml hsz hP hD hK hN hA hAn hS hro hl
  have hl : lv_has ls 5 [(0, .ref o), (1, .int s0), (2, .int t0), (3, .int u0), (4, .int d0)] := hl
  refine lv_iload_n hx hb dX5_unit_0 rfl (lv_at hl 1 rfl) ?_
  refine k_calli (wr := [(o, mO ad nf mo), (ad 3, aI ca 64 g), (ad 4, aI ca 96 un), (ad 8, a4 ca x), (ad 9, a4 ca y), (ad 10, a4 ca z)]) (va_runS (As := [.int s0]) (rest := []) ⟨hx, hb, hml, hown, hts⟩ (ct_X5_isRegister hk l D ca H.size s0) (va_cwS 1 hts (lw_S q660 q661 q24 q662) rfl rfl rfl (by decide +kernel) ⟨Nat.le_of_ble_eq_true rfl, Nat.le_of_ble_eq_true rfl⟩) (k_pre hk hK hN hP hD [] (by decide) rfl trivial) rfl rfl hl.1 rfl (lv_room (Nat.le_of_ble_eq_true rfl)) dX5_unit_1 ⟨Nat.le_of_ble_eq_true rfl, Nat.le_of_ble_eq_true rfl⟩) hP hD hS hA [] [0, 1, 2, 3, 4, 5] rfl rfl (by decide) (by decide) (fun r_1 u_2 H locs w_3 hP hD hxw_3 hzw_3 hqw_3 hS => ?_)
  obtain rfl : r_1 = bI (p_in s0.toInt64 0 15) := w_3
  refine lv_if_eq (tgt := 37) hx hb dX5_unit_4 (by decide) (fun c_4 => ?_) (fun c_4 => ?_)
  · have c_4 := bI_z0 c_4
    refine lv_iconst (v := (-1)) hx hb dX5_unit_37 (by decide) ?_
    exact k_iret (g, x, y, z) hx hb hr hlocks (by simp [m_unit, c_4, d_b, show p_in 0 0 1 = true by decide]) hP hD trivial hS (Nat.le_of_ble_eq_true rfl) (Nat.le_of_ble_eq_true rfl) dX5_unit_38
  · have c_4 := bI_z1 c_4
    obtain ⟨js0, hjs0, rfl⟩ := in_nI (n := 16) (by decide) c_4
    refine lv_iload_n hx hb dX5_unit_7 rfl (lv_at hl 2 rfl) ?_
    refine k_calli (wr := [(o, mO ad nf mo), (ad 3, aI ca 64 g), (ad 4, aI ca 96 un), (ad 8, a4 ca x), (ad 9, a4 ca y), (ad 10, a4 ca z)]) (va_runS (As := [.int t0]) (rest := []) ⟨hx, hb, hml, hown, hts⟩ (ct_X5_isRegister hk l D ca H.size t0) (va_cwS 1 hts (lw_S q660 q661 q24 q662) rfl rfl rfl (by decide +kernel) ⟨Nat.le_of_ble_eq_true rfl, Nat.le_of_ble_eq_true rfl⟩) (k_pre hk hK hN hP hD [] (by decide) rfl trivial) rfl rfl hl.1 rfl (lv_room (Nat.le_of_ble_eq_true rfl)) dX5_unit_8 ⟨Nat.le_of_ble_eq_true rfl, Nat.le_of_ble_eq_true rfl⟩) hP hD hS hA [] [0, 1, 2, 3, 4, 5] rfl rfl (by decide) (by decide) (fun r_5 u_6 H locs w_7 hP hD hxw_7 hzw_7 hqw_7 hS => ?_)
    obtain rfl : r_5 = bI (p_in t0.toInt64 0 15) := w_7
    refine lv_if_eq (tgt := 37) hx hb dX5_unit_11 (by decide) (fun c_8 => ?_) (fun c_8 => ?_)
    · have c_8 := bI_z0 c_8
      refine lv_iconst (v := (-1)) hx hb dX5_unit_37 (by decide) ?_
      exact k_iret (g, x, y, z) hx hb hr hlocks (by simp [m_unit, c_4, c_8, nI_clamp (show js0 < 2 ^ 31 by omega), d_b, show p_in 0 0 1 = true by decide]) hP hD trivial hS (Nat.le_of_ble_eq_true rfl) (Nat.le_of_ble_eq_true rfl) dX5_unit_38
    · have c_8 := bI_z1 c_8
      obtain ⟨jt0, hjt0, rfl⟩ := in_nI (n := 16) (by decide) c_8
      refine lv_iload_n hx hb dX5_unit_14 rfl (lv_at hl 3 rfl) ?_
      refine lv_i2l (v := u0.toInt64) hx hb dX5_unit_15 rfl ?_
      refine lv_lconst (v := 0) hx hb dX5_unit_16 (by decide) ?_
      refine lv_ldc2 hx hb hown (hts _ q731) dX5_unit_17 ?_
      refine k_calli (wr := [(o, mO ad nf mo), (ad 3, aI ca 64 g), (ad 4, aI ca 96 un), (ad 8, a4 ca x), (ad 9, a4 ca y), (ad 10, a4 ca z)]) (va_runS (As := [.long u0.toInt64, .long 0, .long 23]) (rest := []) ⟨hx, hb, hml, hown, hts⟩ (ct_X5_in hk l D ca H.size u0.toInt64 0 23) (va_cwS 3 hts (lw_S q635 q636 q24 q637) rfl rfl rfl (by decide +kernel) ⟨Nat.le_of_ble_eq_true rfl, Nat.le_of_ble_eq_true rfl⟩) (k_pre hk hK hN hP hD [] (by decide) rfl trivial) rfl rfl hl.1 rfl (lv_room (Nat.le_of_ble_eq_true rfl)) dX5_unit_20 ⟨Nat.le_of_ble_eq_true rfl, Nat.le_of_ble_eq_true rfl⟩) hP hD hS hA [] [0, 1, 2, 3, 4, 5] rfl rfl (by decide) (by decide) (fun r_9 u_10 H locs w_11 hP hD hxw_11 hzw_11 hqw_11 hS => ?_)
      obtain rfl : r_9 = bI (p_in u0.toInt64 0 23) := w_11
      refine lv_if_eq (tgt := 37) hx hb dX5_unit_23 (by decide) (fun c_12 => ?_) (fun c_12 => ?_)
      · have c_12 := bI_z0 c_12
        refine lv_iconst (v := (-1)) hx hb dX5_unit_37 (by decide) ?_
        exact k_iret (g, x, y, z) hx hb hr hlocks (by simp [m_unit, c_4, c_8, c_12, nI_clamp (show js0 < 2 ^ 31 by omega), nI_clamp (show jt0 < 2 ^ 31 by omega), d_b, show p_in 0 0 1 = true by decide]) hP hD trivial hS (Nat.le_of_ble_eq_true rfl) (Nat.le_of_ble_eq_true rfl) dX5_unit_38
      · have c_12 := bI_z1 c_12
        obtain ⟨ju0, hju0, rfl⟩ := in_nI (n := 24) (by decide) c_12
        refine lv_iload hx hb dX5_unit_26 (lv_at hl 4 rfl) ?_
        refine lv_i2l (v := d0.toInt64) hx hb dX5_unit_28 rfl ?_
        refine lv_lconst (v := 0) hx hb dX5_unit_29 (by decide) ?_
        refine lv_lconst (v := 1) hx hb dX5_unit_30 (by decide) ?_
        refine k_calli (wr := [(o, mO ad nf mo), (ad 3, aI ca 64 g), (ad 4, aI ca 96 un), (ad 8, a4 ca x), (ad 9, a4 ca y), (ad 10, a4 ca z)]) (va_runS (As := [.long d0.toInt64, .long 0, .long 1]) (rest := []) ⟨hx, hb, hml, hown, hts⟩ (ct_X5_in hk l D ca H.size d0.toInt64 0 1) (va_cwS 3 hts (lw_S q635 q636 q24 q637) rfl rfl rfl (by decide +kernel) ⟨Nat.le_of_ble_eq_true rfl, Nat.le_of_ble_eq_true rfl⟩) (k_pre hk hK hN hP hD [] (by decide) rfl trivial) rfl rfl hl.1 rfl (lv_room (Nat.le_of_ble_eq_true rfl)) dX5_unit_31 ⟨Nat.le_of_ble_eq_true rfl, Nat.le_of_ble_eq_true rfl⟩) hP hD hS hA [] [0, 1, 2, 3, 4, 5] rfl rfl (by decide) (by decide) (fun r_13 u_14 H locs w_15 hP hD hxw_15 hzw_15 hqw_15 hS => ?_)
        obtain rfl : r_13 = bI (p_in d0.toInt64 0 1) := w_15
        refine lv_if_ne (tgt := 39) hx hb dX5_unit_34 (by decide) (fun c_16 => ?_) (fun c_16 => ?_)
        · have c_16 := bI_z1 c_16
          refine lv_aload_n hx hb dX5_unit_39 rfl (lv_at hl 0 rfl) ?_
          refine lv_aload_n hx hb dX5_unit_40 rfl (lv_at hl 0 rfl) ?_
          refine va_get (D := D) (ci := 4) (v := .ref (ad 8)) (C := RX5) (T := TX5) (N := 18) hx hb hts in_X5 hown hK hP 0 rfl rfl 8 (by decide) (hts _ q581) (fun _ h9 => h9) rfl dX5_unit_41 ?_
          refine lv_iload_n hx hb dX5_unit_44 rfl (lv_at hl 2 rfl) ?_
          refine k_callv (wr := [(ad 4, aI ca 96 un), (ad 9, a4 ca y), (ad 10, a4 ca z)]) (va_runV (As := [.ref (ad 8), .int (nI jt0)]) (rest := []) ⟨hx, hb, hml, hown, hts⟩ (ct_X5_load hk l D ca H.size o ad nf mo (ad 8) g x jt0 (by omega)) (cwV 2 hts (lw_V q694 q696 qs10 q24 q697) rfl rfl rfl (by decide +kernel) ⟨Nat.le_of_ble_eq_true rfl, Nat.le_of_ble_eq_true rfl⟩) (k_preV hk hK hN hP hD [0, 1, 3] (by decide) rfl trivial hP rfl (q0 := 0) rfl) rfl rfl hl.1 rfl (lv_room (Nat.le_of_ble_eq_true rfl)) dX5_unit_45 ⟨Nat.le_of_ble_eq_true rfl, Nat.le_of_ble_eq_true rfl⟩) hP hD hS hA [0, 1, 3] [2, 4, 5] rfl rfl (by decide) (by decide) (fun u_18 H locs w_19 hP hD hxw_19 hzw_19 hqw_19 hS => ?_)
          have hP : va_P D vwCl [(ad 4, aI ca 96 un), (ad 9, a4 ca y), (ad 10, a4 ca z), (o, mO ad nf mo), (ad 3, aI ca 64 g), (ad 8, a4 ca (rq g jt0))] H := hP
          have hD : va_D A [(ad 4, aI ca 96 un), (ad 9, a4 ca y), (ad 10, a4 ca z), (o, mO ad nf mo), (ad 3, aI ca 64 g), (ad 8, a4 ca (rq g jt0))] := hD
          refine lv_aload_n hx hb dX5_unit_48 rfl (lv_at hl 0 rfl) ?_
          refine lv_aload_n hx hb dX5_unit_49 rfl (lv_at hl 0 rfl) ?_
          refine va_get (D := D) (ci := 4) (v := .ref (ad 9)) (C := RX5) (T := TX5) (N := 18) hx hb hts in_X5 hown hK hP 3 rfl rfl 9 (by decide) (hts _ q582) (fun _ h9 => h9) rfl dX5_unit_50 ?_
          refine lv_iload_n hx hb dX5_unit_53 rfl (lv_at hl 3 rfl) ?_
          refine k_callv (wr := [(ad 10, a4 ca z), (ad 3, aI ca 64 g), (ad 8, a4 ca (rq g jt0))]) (va_runV (As := [.ref (ad 9), .int (nI ju0)]) (rest := []) ⟨hx, hb, hml, hown, hts⟩ (ct_X5_loadUnit hk l D ca H.size o ad nf mo (ad 9) un y ju0 (by omega)) (cwV 2 hts (lw_V q732 q734 qs13 q24 q735) rfl rfl rfl (by decide +kernel) ⟨Nat.le_of_ble_eq_true rfl, Nat.le_of_ble_eq_true rfl⟩) (k_preV hk hK hN hP hD [3, 0, 1] (by decide) rfl trivial hP rfl (q0 := 3) rfl) rfl rfl hl.1 rfl (lv_room (Nat.le_of_ble_eq_true rfl)) dX5_unit_54 ⟨Nat.le_of_ble_eq_true rfl, Nat.le_of_ble_eq_true rfl⟩) hP hD hS hA [3, 0, 1] [2, 4, 5] rfl rfl (by decide) (by decide) (fun u_21 H locs w_22 hP hD hxw_22 hzw_22 hqw_22 hS => ?_)
          have hP : va_P D vwCl [(ad 10, a4 ca z), (ad 3, aI ca 64 g), (ad 8, a4 ca (rq g jt0)), (o, mO ad nf mo), (ad 4, aI ca 96 un), (ad 9, a4 ca (rq un ju0))] H := hP
          have hD : va_D A [(ad 10, a4 ca z), (ad 3, aI ca 64 g), (ad 8, a4 ca (rq g jt0)), (o, mO ad nf mo), (ad 4, aI ca 96 un), (ad 9, a4 ca (rq un ju0))] := hD
          refine lv_iload hx hb dX5_unit_57 (lv_at hl 4 rfl) ?_
          refine lv_if_ne (tgt := 80) hx hb dX5_unit_59 (by decide) (fun c_23 => ?_) (fun c_23 => ?_)
          · refine lv_aload_n hx hb dX5_unit_80 rfl (lv_at hl 0 rfl) ?_
            refine va_get (D := D) (ci := 4) (v := .ref (ad 10)) (C := RX5) (T := TX5) (N := 18) hx hb hts in_X5 hown hK hP 3 rfl rfl 10 (by decide) (hts _ q583) (fun _ h9 => h9) rfl dX5_unit_81 ?_
            refine lv_aload_n hx hb dX5_unit_84 rfl (lv_at hl 0 rfl) ?_
            refine va_get (D := D) (ci := 4) (v := .ref (ad 9)) (C := RX5) (T := TX5) (N := 18) hx hb hts in_X5 hown hK hP 3 rfl rfl 9 (by decide) (hts _ q582) (fun _ h9 => h9) rfl dX5_unit_85 ?_
            refine lv_aload_n hx hb dX5_unit_88 rfl (lv_at hl 0 rfl) ?_
            refine va_get (D := D) (ci := 4) (v := .ref (ad 8)) (C := RX5) (T := TX5) (N := 18) hx hb hts in_X5 hown hK hP 3 rfl rfl 8 (by decide) (hts _ q581) (fun _ h9 => h9) rfl dX5_unit_89 ?_
            refine k_callv (wr := [(ad 3, aI ca 64 g), (o, mO ad nf mo), (ad 4, aI ca 96 un)]) (va_runS (As := [.ref (ad 10), .ref (ad 9), .ref (ad 8)]) (rest := []) ⟨hx, hb, hml, hown, hts⟩ (ct_X5_times hk l D ca H.size (ad 10) (ad 9) (ad 8) z (rq un ju0) (rq g jt0)) (va_cwS 3 hts (lw_S q724 q725 q24 q726) rfl rfl rfl (by decide +kernel) ⟨Nat.le_of_ble_eq_true rfl, Nat.le_of_ble_eq_true rfl⟩) (k_pre hk hK hN hP hD [0, 5, 2] (by decide) rfl trivial) rfl rfl hl.1 rfl (lv_room (Nat.le_of_ble_eq_true rfl)) dX5_unit_92 ⟨Nat.le_of_ble_eq_true rfl, Nat.le_of_ble_eq_true rfl⟩) hP hD hS hA [0, 5, 2] [1, 3, 4] rfl rfl (by decide) (by decide) (fun u_25 H locs w_26 hP hD hxw_26 hzw_26 hqw_26 hS => ?_)
            have hP : va_P D vwCl [(ad 3, aI ca 64 g), (o, mO ad nf mo), (ad 4, aI ca 96 un), (ad 10, a4 ca (q_times (rq un ju0) (rq g jt0))), (ad 9, a4 ca (rq un ju0)), (ad 8, a4 ca (rq g jt0))] H := hP
            have hD : va_D A [(ad 3, aI ca 64 g), (o, mO ad nf mo), (ad 4, aI ca 96 un), (ad 10, a4 ca (q_times (rq un ju0) (rq g jt0))), (ad 9, a4 ca (rq un ju0)), (ad 8, a4 ca (rq g jt0))] := hD
            refine lv_aload_n hx hb dX5_unit_95 rfl (lv_at hl 0 rfl) ?_
            refine lv_iload_n hx hb dX5_unit_96 rfl (lv_at hl 1 rfl) ?_
            refine lv_aload_n hx hb dX5_unit_97 rfl (lv_at hl 0 rfl) ?_
            refine va_get (D := D) (ci := 4) (v := .ref (ad 10)) (C := RX5) (T := TX5) (N := 18) hx hb hts in_X5 hown hK hP 1 rfl rfl 10 (by decide) (hts _ q583) (fun _ h9 => h9) rfl dX5_unit_98 ?_
            refine k_calli (wr := [(ad 4, aI ca 96 un), (ad 9, a4 ca (rq un ju0)), (ad 8, a4 ca (rq g jt0))]) (va_runV (As := [.int (nI js0), .ref (ad 10)]) (rest := []) ⟨hx, hb, hml, hown, hts⟩ (ct_X5_holds hk l D ca H.size o ad nf mo (ad 10) g (q_times (rq un ju0) (rq g jt0)) js0 (by omega)) (cwV 2 hts (lw_V q677 q679 qs8 q24 q680) rfl rfl rfl (by decide +kernel) ⟨Nat.le_of_ble_eq_true rfl, Nat.le_of_ble_eq_true rfl⟩) (k_preV hk hK hN hP hD [1, 0, 3] (by decide) rfl trivial hP rfl (q0 := 1) rfl) rfl rfl hl.1 rfl (lv_room (Nat.le_of_ble_eq_true rfl)) dX5_unit_101 ⟨Nat.le_of_ble_eq_true rfl, Nat.le_of_ble_eq_true rfl⟩) hP hD hS hA [1, 0, 3] [2, 4, 5] rfl rfl (by decide) (by decide) (fun r_27 u_28 H locs w_29 hP hD hxw_29 hzw_29 hqw_29 hS => ?_)
            have hP : va_P D vwCl [(ad 4, aI ca 96 un), (ad 9, a4 ca (rq un ju0)), (ad 8, a4 ca (rq g jt0)), (o, mO ad nf mo), (ad 3, aI ca 64 u_28), (ad 10, a4 ca (q_times (rq un ju0) (rq g jt0)))] H := hP
            have hD : va_D A [(ad 4, aI ca 96 un), (ad 9, a4 ca (rq un ju0)), (ad 8, a4 ca (rq g jt0)), (o, mO ad nf mo), (ad 3, aI ca 64 u_28), (ad 10, a4 ca (q_times (rq un ju0) (rq g jt0)))] := hD
            obtain ⟨rfl, rfl⟩ := w_29
            have hP : va_P D vwCl [(ad 4, aI ca 96 un), (ad 9, a4 ca (rq un ju0)), (ad 8, a4 ca (rq g jt0)), (o, mO ad nf mo), (ad 3, aI ca 64 (h_g g js0 (q_times (rq un ju0) (rq g jt0)))), (ad 10, a4 ca (q_times (rq un ju0) (rq g jt0)))] H := hP
            have hD : va_D A [(ad 4, aI ca 96 un), (ad 9, a4 ca (rq un ju0)), (ad 8, a4 ca (rq g jt0)), (o, mO ad nf mo), (ad 3, aI ca 64 (h_g g js0 (q_times (rq un ju0) (rq g jt0)))), (ad 10, a4 ca (q_times (rq un ju0) (rq g jt0)))] := hD
            exact k_iret ((h_g g js0 (q_times (rq un ju0) (rq g jt0))), (rq g jt0), (rq un ju0), (q_times (rq un ju0) (rq g jt0))) hx hb hr hlocks (by simp [m_unit, c_4, c_8, c_12, c_16, c_23, nI_clamp (show js0 < 2 ^ 31 by omega), nI_clamp (show jt0 < 2 ^ 31 by omega), nI_clamp (show ju0 < 2 ^ 31 by omega), d_b, show p_in 0 0 1 = true by decide]) (hP.sub [3, 4, 0, 2, 1, 5] rfl) (hD.sub [3, 4, 0, 2, 1, 5] (by decide) rfl) trivial hS (Nat.le_of_ble_eq_true rfl) (Nat.le_of_ble_eq_true rfl) dX5_unit_104
          · refine lv_aload_n hx hb dX5_unit_62 rfl (lv_at hl 0 rfl) ?_
            refine va_get (D := D) (ci := 4) (v := .ref (ad 10)) (C := RX5) (T := TX5) (N := 18) hx hb hts in_X5 hown hK hP 3 rfl rfl 10 (by decide) (hts _ q583) (fun _ h9 => h9) rfl dX5_unit_63 ?_
            refine lv_aload_n hx hb dX5_unit_66 rfl (lv_at hl 0 rfl) ?_
            refine va_get (D := D) (ci := 4) (v := .ref (ad 8)) (C := RX5) (T := TX5) (N := 18) hx hb hts in_X5 hown hK hP 3 rfl rfl 8 (by decide) (hts _ q581) (fun _ h9 => h9) rfl dX5_unit_67 ?_
            refine lv_aload_n hx hb dX5_unit_70 rfl (lv_at hl 0 rfl) ?_
            refine va_get (D := D) (ci := 4) (v := .ref (ad 9)) (C := RX5) (T := TX5) (N := 18) hx hb hts in_X5 hown hK hP 3 rfl rfl 9 (by decide) (hts _ q582) (fun _ h9 => h9) rfl dX5_unit_71 ?_
            refine k_callv (wr := [(ad 3, aI ca 64 g), (o, mO ad nf mo), (ad 4, aI ca 96 un)]) (va_runS (As := [.ref (ad 10), .ref (ad 8), .ref (ad 9)]) (rest := []) ⟨hx, hb, hml, hown, hts⟩ (ct_X5_times hk l D ca H.size (ad 10) (ad 8) (ad 9) z (rq g jt0) (rq un ju0)) (va_cwS 3 hts (lw_S q724 q725 q24 q726) rfl rfl rfl (by decide +kernel) ⟨Nat.le_of_ble_eq_true rfl, Nat.le_of_ble_eq_true rfl⟩) (k_pre hk hK hN hP hD [0, 2, 5] (by decide) rfl trivial) rfl rfl hl.1 rfl (lv_room (Nat.le_of_ble_eq_true rfl)) dX5_unit_74 ⟨Nat.le_of_ble_eq_true rfl, Nat.le_of_ble_eq_true rfl⟩) hP hD hS hA [0, 2, 5] [1, 3, 4] rfl rfl (by decide) (by decide) (fun u_31 H locs w_32 hP hD hxw_32 hzw_32 hqw_32 hS => ?_)
            have hP : va_P D vwCl [(ad 3, aI ca 64 g), (o, mO ad nf mo), (ad 4, aI ca 96 un), (ad 10, a4 ca (q_times (rq g jt0) (rq un ju0))), (ad 8, a4 ca (rq g jt0)), (ad 9, a4 ca (rq un ju0))] H := hP
            have hD : va_D A [(ad 3, aI ca 64 g), (o, mO ad nf mo), (ad 4, aI ca 96 un), (ad 10, a4 ca (q_times (rq g jt0) (rq un ju0))), (ad 8, a4 ca (rq g jt0)), (ad 9, a4 ca (rq un ju0))] := hD
            refine lv_goto (tgt := 95) hx hb dX5_unit_77 (by decide) ?_
            refine lv_aload_n hx hb dX5_unit_95 rfl (lv_at hl 0 rfl) ?_
            refine lv_iload_n hx hb dX5_unit_96 rfl (lv_at hl 1 rfl) ?_
            refine lv_aload_n hx hb dX5_unit_97 rfl (lv_at hl 0 rfl) ?_
            refine va_get (D := D) (ci := 4) (v := .ref (ad 10)) (C := RX5) (T := TX5) (N := 18) hx hb hts in_X5 hown hK hP 1 rfl rfl 10 (by decide) (hts _ q583) (fun _ h9 => h9) rfl dX5_unit_98 ?_
            refine k_calli (wr := [(ad 4, aI ca 96 un), (ad 8, a4 ca (rq g jt0)), (ad 9, a4 ca (rq un ju0))]) (va_runV (As := [.int (nI js0), .ref (ad 10)]) (rest := []) ⟨hx, hb, hml, hown, hts⟩ (ct_X5_holds hk l D ca H.size o ad nf mo (ad 10) g (q_times (rq g jt0) (rq un ju0)) js0 (by omega)) (cwV 2 hts (lw_V q677 q679 qs8 q24 q680) rfl rfl rfl (by decide +kernel) ⟨Nat.le_of_ble_eq_true rfl, Nat.le_of_ble_eq_true rfl⟩) (k_preV hk hK hN hP hD [1, 0, 3] (by decide) rfl trivial hP rfl (q0 := 1) rfl) rfl rfl hl.1 rfl (lv_room (Nat.le_of_ble_eq_true rfl)) dX5_unit_101 ⟨Nat.le_of_ble_eq_true rfl, Nat.le_of_ble_eq_true rfl⟩) hP hD hS hA [1, 0, 3] [2, 4, 5] rfl rfl (by decide) (by decide) (fun r_33 u_34 H locs w_35 hP hD hxw_35 hzw_35 hqw_35 hS => ?_)
            have hP : va_P D vwCl [(ad 4, aI ca 96 un), (ad 8, a4 ca (rq g jt0)), (ad 9, a4 ca (rq un ju0)), (o, mO ad nf mo), (ad 3, aI ca 64 u_34), (ad 10, a4 ca (q_times (rq g jt0) (rq un ju0)))] H := hP
            have hD : va_D A [(ad 4, aI ca 96 un), (ad 8, a4 ca (rq g jt0)), (ad 9, a4 ca (rq un ju0)), (o, mO ad nf mo), (ad 3, aI ca 64 u_34), (ad 10, a4 ca (q_times (rq g jt0) (rq un ju0)))] := hD
            obtain ⟨rfl, rfl⟩ := w_35
            have hP : va_P D vwCl [(ad 4, aI ca 96 un), (ad 8, a4 ca (rq g jt0)), (ad 9, a4 ca (rq un ju0)), (o, mO ad nf mo), (ad 3, aI ca 64 (h_g g js0 (q_times (rq g jt0) (rq un ju0)))), (ad 10, a4 ca (q_times (rq g jt0) (rq un ju0)))] H := hP
            have hD : va_D A [(ad 4, aI ca 96 un), (ad 8, a4 ca (rq g jt0)), (ad 9, a4 ca (rq un ju0)), (o, mO ad nf mo), (ad 3, aI ca 64 (h_g g js0 (q_times (rq g jt0) (rq un ju0)))), (ad 10, a4 ca (q_times (rq g jt0) (rq un ju0)))] := hD
            exact k_iret ((h_g g js0 (q_times (rq g jt0) (rq un ju0))), (rq g jt0), (rq un ju0), (q_times (rq g jt0) (rq un ju0))) hx hb hr hlocks (by simp [m_unit, c_4, c_8, c_12, c_16, c_23, nI_clamp (show js0 < 2 ^ 31 by omega), nI_clamp (show jt0 < 2 ^ 31 by omega), nI_clamp (show ju0 < 2 ^ 31 by omega), d_b, show p_in 0 0 1 = true by decide]) (hP.sub [3, 4, 0, 1, 2, 5] rfl) (hD.sub [3, 4, 0, 1, 2, 5] (by decide) rfl) trivial hS (Nat.le_of_ble_eq_true rfl) (Nat.le_of_ble_eq_true rfl) dX5_unit_104
        · have c_16 := bI_z0 c_16
          refine lv_iconst (v := (-1)) hx hb dX5_unit_37 (by decide) ?_
          exact k_iret (g, x, y, z) hx hb hr hlocks (by simp [m_unit, c_4, c_8, c_12, c_16, nI_clamp (show js0 < 2 ^ 31 by omega), nI_clamp (show jt0 < 2 ^ 31 by omega), nI_clamp (show ju0 < 2 ^ 31 by omega), d_b, show p_in 0 0 1 = true by decide]) hP hD trivial hS (Nat.le_of_ble_eq_true rfl) (Nat.le_of_ble_eq_true rfl) dX5_unit_38
set_option maxHeartbeats 4000000 in
set_option maxRecDepth 100000 in
theorem ct_X5_divideBy {KN : State → Prop} (hk : KNok KN) (l : Launch) (D : va_G) (ca : Nat → ClassId) (zH : Nat) (o : Nat) (ad : Nat → Nat) (nf mo : Int32) (a1 a2 : Nat) (v t rs qt w0 tv : Q4) (d0 : Int32) (hn : ¬ 2 * q_norm t = 0) : Met l yX5_divideBy (ws_ yX5_divideBy cX5_divideBy 15 none) ({ frames := 1, cells := 0, slots := 0, locals := 25 }) (va_Pc [.ref o, .ref a1, .ref a2, .int d0] (pr_ KN D ca [(o, mO ad nf mo), (a1, a4 ca v), (a2, a4 ca t), (ad 11, a4 ca rs), (ad 13, a4 ca qt), (ad 14, a4 ca w0), (ad 15, a4 ca tv)] zH (fun _ => True))) (qV D (fun (u : Unit) => True) (fun u => [(o, mO ad nf mo), (a1, a4 ca v), (a2, a4 ca t), (ad 11, a4 ca (d_r d0 v t)), (ad 13, a4 ca (d_q d0 v t)), (ad 14, a4 ca (d_b d0 (d_q d0 v t) t)), (ad 15, a4 ca (q_mirror t))]) (fun u H => True) (va_A [(o, mO ad nf mo), (a1, a4 ca v), (a2, a4 ca t), (ad 11, a4 ca rs), (ad 13, a4 ca qt), (ad 14, a4 ca w0), (ad 15, a4 ca tv)] zH)) 0 0 (va_A [(o, mO ad nf mo), (a1, a4 ca v), (a2, a4 ca t), (ad 11, a4 ca rs), (ad 13, a4 ca qt), (ad 14, a4 ca w0), (ad 15, a4 ca tv)] zH) := by
  refine k_ofW (Qc := qV D (fun (u : Unit) => True) (fun u => [(o, mO ad nf mo), (a1, a4 ca v), (a2, a4 ca t), (ad 11, a4 ca (d_r d0 v t)), (ad 13, a4 ca (d_q d0 v t)), (ad 14, a4 ca (d_b d0 (d_q d0 v t) t)), (ad 15, a4 ca (q_mirror t))]) (fun u H => True)) (by decide) (Nat.le_of_ble_eq_true rfl) ?_
  intro p e s m below meth c ls A H hH hx hb hr hts hown hlocks hnm hml hsz hP hD hK hN hA hAn hS hro hl
  have hl : lv_has ls 15 [(0, .ref o), (1, .ref a1), (2, .ref a2), (3, .int d0)] := hl
  refine lv_aload_n hx hb dX5_divideBy_0 rfl (lv_at hl 0 rfl) ?_
  refine va_get (D := D) (ci := 4) (v := .ref (ad 15)) (C := RX5) (T := TX5) (N := 18) hx hb hts in_X5 hown hK hP 0 rfl rfl 15 (by decide) (hts _ q588) (fun _ h9 => h9) rfl dX5_divideBy_1 ?_
  refine lv_aload_n hx hb dX5_divideBy_4 rfl (lv_at hl 2 rfl) ?_
  refine k_callv (wr := [(o, mO ad nf mo), (a1, a4 ca v), (ad 11, a4 ca rs), (ad 13, a4 ca qt), (ad 14, a4 ca w0)]) (va_runS (As := [.ref (ad 15), .ref a2]) (rest := []) ⟨hx, hb, hml, hown, hts⟩ (ct_X5_copy4 hk l D ca H.size (ad 15) a2 tv t) (va_cwS 2 hts (lw_S q744 q745 q24 q746) rfl rfl rfl (by decide +kernel) ⟨Nat.le_of_ble_eq_true rfl, Nat.le_of_ble_eq_true rfl⟩) (k_pre hk hK hN hP hD [6, 2] (by decide) rfl trivial) rfl rfl hl.1 rfl (lv_room (Nat.le_of_ble_eq_true rfl)) dX5_divideBy_5 ⟨Nat.le_of_ble_eq_true rfl, Nat.le_of_ble_eq_true rfl⟩) hP hD hS hA [6, 2] [0, 1, 3, 4, 5] rfl rfl (by decide) (by decide) (fun u_2 H locs w_3 hP hD hxw_3 hzw_3 hqw_3 hS => ?_)
  have hP : va_P D vwCl [(o, mO ad nf mo), (a1, a4 ca v), (ad 11, a4 ca rs), (ad 13, a4 ca qt), (ad 14, a4 ca w0), (ad 15, a4 ca t), (a2, a4 ca t)] H := hP
  have hD : va_D A [(o, mO ad nf mo), (a1, a4 ca v), (ad 11, a4 ca rs), (ad 13, a4 ca qt), (ad 14, a4 ca w0), (ad 15, a4 ca t), (a2, a4 ca t)] := hD
  refine lv_aload_n hx hb dX5_divideBy_8 rfl (lv_at hl 0 rfl) ?_
  refine va_get (D := D) (ci := 4) (v := .ref (ad 15)) (C := RX5) (T := TX5) (N := 18) hx hb hts in_X5 hown hK hP 0 rfl rfl 15 (by decide) (hts _ q588) (fun _ h9 => h9) rfl dX5_divideBy_9 ?_
  refine k_callv (wr := [(o, mO ad nf mo), (a1, a4 ca v), (ad 11, a4 ca rs), (ad 13, a4 ca qt), (ad 14, a4 ca w0), (a2, a4 ca t)]) (va_runS (As := [.ref (ad 15)]) (rest := []) ⟨hx, hb, hml, hown, hts⟩ (ct_X5_mirror hk l D ca H.size (ad 15) t) (va_cwS 1 hts (lw_S q721 q722 q24 q723) rfl rfl rfl (by decide +kernel) ⟨Nat.le_of_ble_eq_true rfl, Nat.le_of_ble_eq_true rfl⟩) (k_pre hk hK hN hP hD [5] (by decide) rfl trivial) rfl rfl hl.1 rfl (lv_room (Nat.le_of_ble_eq_true rfl)) dX5_divideBy_12 ⟨Nat.le_of_ble_eq_true rfl, Nat.le_of_ble_eq_true rfl⟩) hP hD hS hA [5] [0, 1, 2, 3, 4, 6] rfl rfl (by decide) (by decide) (fun u_5 H locs w_6 hP hD hxw_6 hzw_6 hqw_6 hS => ?_)
  have hP : va_P D vwCl [(o, mO ad nf mo), (a1, a4 ca v), (ad 11, a4 ca rs), (ad 13, a4 ca qt), (ad 14, a4 ca w0), (a2, a4 ca t), (ad 15, a4 ca (q_mirror t))] H := hP
  have hD : va_D A [(o, mO ad nf mo), (a1, a4 ca v), (ad 11, a4 ca rs), (ad 13, a4 ca qt), (ad 14, a4 ca w0), (a2, a4 ca t), (ad 15, a4 ca (q_mirror t))] := hD
  refine lv_iload_n hx hb dX5_divideBy_15 rfl (lv_at hl 3 rfl) ?_
  refine lv_if_ne (tgt := 34) hx hb dX5_divideBy_16 (by decide) (fun c_7 => ?_) (fun c_7 => ?_)
  · refine lv_aload_n hx hb dX5_divideBy_34 rfl (lv_at hl 0 rfl) ?_
    refine va_get (D := D) (ci := 4) (v := .ref (ad 14)) (C := RX5) (T := TX5) (N := 18) hx hb hts in_X5 hown hK hP 0 rfl rfl 14 (by decide) (hts _ q587) (fun _ h9 => h9) rfl dX5_divideBy_35 ?_
    refine lv_aload_n hx hb dX5_divideBy_38 rfl (lv_at hl 0 rfl) ?_
    refine va_get (D := D) (ci := 4) (v := .ref (ad 15)) (C := RX5) (T := TX5) (N := 18) hx hb hts in_X5 hown hK hP 0 rfl rfl 15 (by decide) (hts _ q588) (fun _ h9 => h9) rfl dX5_divideBy_39 ?_
    refine lv_aload_n hx hb dX5_divideBy_42 rfl (lv_at hl 1 rfl) ?_
    refine k_callv (wr := [(o, mO ad nf mo), (ad 11, a4 ca rs), (ad 13, a4 ca qt), (a2, a4 ca t)]) (va_runS (As := [.ref (ad 14), .ref (ad 15), .ref a1]) (rest := []) ⟨hx, hb, hml, hown, hts⟩ (ct_X5_times hk l D ca H.size (ad 14) (ad 15) a1 w0 (q_mirror t) v) (va_cwS 3 hts (lw_S q724 q725 q24 q726) rfl rfl rfl (by decide +kernel) ⟨Nat.le_of_ble_eq_true rfl, Nat.le_of_ble_eq_true rfl⟩) (k_pre hk hK hN hP hD [4, 6, 1] (by decide) rfl trivial) rfl rfl hl.1 rfl (lv_room (Nat.le_of_ble_eq_true rfl)) dX5_divideBy_43 ⟨Nat.le_of_ble_eq_true rfl, Nat.le_of_ble_eq_true rfl⟩) hP hD hS hA [4, 6, 1] [0, 2, 3, 5] rfl rfl (by decide) (by decide) (fun u_9 H locs w_10 hP hD hxw_10 hzw_10 hqw_10 hS => ?_)
    have hP : va_P D vwCl [(o, mO ad nf mo), (ad 11, a4 ca rs), (ad 13, a4 ca qt), (a2, a4 ca t), (ad 14, a4 ca (q_times (q_mirror t) v)), (ad 15, a4 ca (q_mirror t)), (a1, a4 ca v)] H := hP
    have hD : va_D A [(o, mO ad nf mo), (ad 11, a4 ca rs), (ad 13, a4 ca qt), (a2, a4 ca t), (ad 14, a4 ca (q_times (q_mirror t) v)), (ad 15, a4 ca (q_mirror t)), (a1, a4 ca v)] := hD
    obtain ⟨wv, hwv⟩ : ∃ z : Q4, z = (q_times (q_mirror t) v) := ⟨_, rfl⟩
    rw [← hwv] at hP hD
    have hP : va_P D vwCl [(o, mO ad nf mo), (ad 11, a4 ca rs), (ad 13, a4 ca qt), (a2, a4 ca t), (ad 14, a4 ca wv), (ad 15, a4 ca (q_mirror t)), (a1, a4 ca v)] H := hP
    have hD : va_D A [(o, mO ad nf mo), (ad 11, a4 ca rs), (ad 13, a4 ca qt), (a2, a4 ca t), (ad 14, a4 ca wv), (ad 15, a4 ca (q_mirror t)), (a1, a4 ca v)] := hD
    refine lv_aload_n hx hb dX5_divideBy_46 rfl (lv_at hl 2 rfl) ?_
    refine k_calll (wr := [(o, mO ad nf mo), (ad 11, a4 ca rs), (ad 13, a4 ca qt), (ad 14, a4 ca wv), (ad 15, a4 ca (q_mirror t)), (a1, a4 ca v)]) (va_runS (As := [.ref a2]) (rest := []) ⟨hx, hb, hml, hown, hts⟩ (ct_X5_norm hk l D ca H.size a2 t) (va_cwS 1 hts (lw_S q698 q699 q24 q700) rfl rfl rfl (by decide +kernel) ⟨Nat.le_of_ble_eq_true rfl, Nat.le_of_ble_eq_true rfl⟩) (k_pre hk hK hN hP hD [3] (by decide) rfl trivial) rfl rfl hl.1 rfl (lv_room (Nat.le_of_ble_eq_true rfl)) dX5_divideBy_47 ⟨Nat.le_of_ble_eq_true rfl, Nat.le_of_ble_eq_true rfl⟩) hP hD hS hA [3] [0, 1, 2, 4, 5, 6] rfl rfl (by decide) (by decide) (fun r_11 u_12 H locs w_13 hP hD hxw_13 hzw_13 hqw_13 hS => ?_)
    have hP : va_P D vwCl [(o, mO ad nf mo), (ad 11, a4 ca rs), (ad 13, a4 ca qt), (ad 14, a4 ca wv), (ad 15, a4 ca (q_mirror t)), (a1, a4 ca v), (a2, a4 ca t)] H := hP
    have hD : va_D A [(o, mO ad nf mo), (ad 11, a4 ca rs), (ad 13, a4 ca qt), (ad 14, a4 ca wv), (ad 15, a4 ca (q_mirror t)), (a1, a4 ca v), (a2, a4 ca t)] := hD
    obtain rfl : r_11 = q_norm t := w_13
    refine lv_topl (fun nv hnv => ?_)
    refine lv_lstore (lv' := [(4, .long nv), (0, .ref o), (1, .ref a1), (2, .ref a2), (3, .int d0)]) hx hb dX5_divideBy_50 hl (by decide) rfl (fun ls hl => ?_)
    refine lv_lconst (v := 0) hx hb dX5_divideBy_52 (by decide) ?_
    refine lv_lstore (lv' := [(6, .long 0), (4, .long nv), (0, .ref o), (1, .ref a1), (2, .ref a2), (3, .int d0)]) hx hb dX5_divideBy_53 hl (by decide) rfl (fun ls hl => ?_)
    refine lv_lconst (v := 0) hx hb dX5_divideBy_55 (by decide) ?_
    refine lv_lstore (lv' := [(8, .long 0), (6, .long 0), (4, .long nv), (0, .ref o), (1, .ref a1), (2, .ref a2), (3, .int d0)]) hx hb dX5_divideBy_56 hl (by decide) rfl (fun ls hl => ?_)
    refine lv_iconst (v := 0) hx hb dX5_divideBy_58 (by decide) ?_
    refine lv_istore (lv' := [(10, .int 0), (8, .long 0), (6, .long 0), (4, .long nv), (0, .ref o), (1, .ref a1), (2, .ref a2), (3, .int d0)]) hx hb dX5_divideBy_59 hl (by decide) rfl (fun ls hl => ?_)
    refine lv_iload hx hb dX5_divideBy_61 (lv_at hl 0 rfl) ?_
    refine lv_iconst (v := 4) hx hb dX5_divideBy_63 (by decide) ?_
    refine lv_icmp_ge (tgt := 164) hx hb dX5_divideBy_64 (by decide) (fun c_14 => absurd c_14 (by decide)) (fun c_14 => ?_)
    refine lv_aload_n hx hb dX5_divideBy_67 rfl (lv_at hl 4 rfl) ?_
    refine va_get (D := D) (ci := 4) (v := .ref (ad 14)) (C := RX5) (T := TX5) (N := 18) hx hb hts in_X5 hown hK hP 0 rfl rfl 14 (by decide) (hts _ q587) (fun _ h9 => h9) rfl dX5_divideBy_68 ?_
    refine lv_iload hx hb dX5_divideBy_71 (lv_at hl 0 rfl) ?_
    refine va_lald hx hb hK hP 3 2 rfl rfl (vin (by decide)) dX5_divideBy_73 ?_
    refine lv_topl (fun z_15 ez_15 => ?_)
    obtain rfl : z_15 = wv.1 := ez_15.trans rfl
    refine lv_ldc2 hx hb hown (hts _ q639) dX5_divideBy_74 ?_
    refine lv_lload hx hb dX5_divideBy_77 (lv_at hl 3 rfl) ?_
    refine lv_lmul hx hb dX5_divideBy_79 ?_
    refine lv_aload_n hx hb dX5_divideBy_80 rfl (lv_at hl 4 rfl) ?_
    refine va_get (D := D) (ci := 4) (v := .ref (ad 14)) (C := RX5) (T := TX5) (N := 18) hx hb hts in_X5 hown hK hP 0 rfl rfl 14 (by decide) (hts _ q587) (fun _ h9 => h9) rfl dX5_divideBy_81 ?_
    refine lv_iload hx hb dX5_divideBy_84 (lv_at hl 0 rfl) ?_
    refine va_lald hx hb hK hP 3 2 rfl rfl (vin (by decide)) dX5_divideBy_86 ?_
    refine lv_topl (fun z_16 ez_16 => ?_)
    obtain rfl : z_16 = wv.1 := ez_16.trans rfl
    refine lv_lload hx hb dX5_divideBy_87 (lv_at hl 3 rfl) ?_
    refine lv_ladd hx hb dX5_divideBy_89 ?_
    refine lv_ldc2 hx hb hown (hts _ q639) dX5_divideBy_90 ?_
    refine lv_lload hx hb dX5_divideBy_93 (lv_at hl 3 rfl) ?_
    refine lv_lmul hx hb dX5_divideBy_95 ?_
    refine k_calll (wr := [(o, mO ad nf mo), (ad 11, a4 ca rs), (ad 13, a4 ca qt), (ad 14, a4 ca wv), (ad 15, a4 ca (q_mirror t)), (a1, a4 ca v), (a2, a4 ca t)]) (va_runS (As := [.long (wv.1 + nv), .long (2 * nv)]) (rest := [.long (2 * nv), .long wv.1]) ⟨hx, hb, hml, hown, hts⟩ (ct_X5_floored hk l D ca H.size (wv.1 + nv) (2 * nv) (by rw [hnv]; exact hn)) (va_cwS 2 hts (lw_S q747 q748 q24 q749) rfl rfl rfl (by decide +kernel) ⟨Nat.le_of_ble_eq_true rfl, Nat.le_of_ble_eq_true rfl⟩) (k_pre hk hK hN hP hD [] (by decide) rfl trivial) rfl rfl hl.1 rfl (lv_room (Nat.le_of_ble_eq_true rfl)) dX5_divideBy_96 ⟨Nat.le_of_ble_eq_true rfl, Nat.le_of_ble_eq_true rfl⟩) hP hD hS hA [] [0, 1, 2, 3, 4, 5, 6] rfl rfl (by decide) (by decide) (fun r_17 u_18 H locs w_19 hP hD hxw_19 hzw_19 hqw_19 hS => ?_)
    obtain rfl : r_17 = p_fl (wv.1 + nv) (2 * nv) := w_19
    refine lv_lmul hx hb dX5_divideBy_99 ?_
    refine lv_lsub hx hb dX5_divideBy_100 ?_
    refine lv_topl (fun of_20 hof_20 => ?_)
    refine lv_lstore (lv' := [(11, .long of_20), (10, .int 0), (8, .long 0), (6, .long 0), (4, .long nv), (0, .ref o), (1, .ref a1), (2, .ref a2), (3, .int d0)]) hx hb dX5_divideBy_101 hl (by decide) rfl (fun ls hl => ?_)
    refine lv_aload_n hx hb dX5_divideBy_103 rfl (lv_at hl 5 rfl) ?_
    refine va_get (D := D) (ci := 4) (v := .ref (ad 14)) (C := RX5) (T := TX5) (N := 18) hx hb hts in_X5 hown hK hP 0 rfl rfl 14 (by decide) (hts _ q587) (fun _ h9 => h9) rfl dX5_divideBy_104 ?_
    refine lv_iload hx hb dX5_divideBy_107 (lv_at hl 1 rfl) ?_
    refine va_lald hx hb hK hP 3 2 rfl rfl (vin (by decide)) dX5_divideBy_109 ?_
    refine lv_topl (fun z_21 ez_21 => ?_)
    obtain rfl : z_21 = wv.1 := ez_21.trans rfl
    refine lv_lload hx hb dX5_divideBy_110 (lv_at hl 4 rfl) ?_
    refine lv_ldc2 hx hb hown (hts _ q639) dX5_divideBy_112 ?_
    refine lv_aload_n hx hb dX5_divideBy_115 rfl (lv_at hl 5 rfl) ?_
    refine va_get (D := D) (ci := 4) (v := .ref (ad 14)) (C := RX5) (T := TX5) (N := 18) hx hb hts in_X5 hown hK hP 0 rfl rfl 14 (by decide) (hts _ q587) (fun _ h9 => h9) rfl dX5_divideBy_116 ?_
    refine lv_iload hx hb dX5_divideBy_119 (lv_at hl 1 rfl) ?_
    refine va_lald hx hb hK hP 3 2 rfl rfl (vin (by decide)) dX5_divideBy_121 ?_
    refine lv_topl (fun z_22 ez_22 => ?_)
    obtain rfl : z_22 = wv.1 := ez_22.trans rfl
    refine lv_ldc2 hx hb hown (hts _ q639) dX5_divideBy_122 ?_
    refine lv_lload hx hb dX5_divideBy_125 (lv_at hl 4 rfl) ?_
    refine lv_lmul hx hb dX5_divideBy_127 ?_
    refine k_calll (wr := [(o, mO ad nf mo), (ad 11, a4 ca rs), (ad 13, a4 ca qt), (ad 14, a4 ca wv), (ad 15, a4 ca (q_mirror t)), (a1, a4 ca v), (a2, a4 ca t)]) (va_runS (As := [.long wv.1, .long (2 * nv)]) (rest := [.long 2, .long nv, .long wv.1]) ⟨hx, hb, hml, hown, hts⟩ (ct_X5_floored hk l D ca H.size wv.1 (2 * nv) (by rw [hnv]; exact hn)) (va_cwS 2 hts (lw_S q747 q748 q24 q749) rfl rfl rfl (by decide +kernel) ⟨Nat.le_of_ble_eq_true rfl, Nat.le_of_ble_eq_true rfl⟩) (k_pre hk hK hN hP hD [] (by decide) rfl trivial) rfl rfl hl.1 rfl (lv_room (Nat.le_of_ble_eq_true rfl)) dX5_divideBy_128 ⟨Nat.le_of_ble_eq_true rfl, Nat.le_of_ble_eq_true rfl⟩) hP hD hS hA [] [0, 1, 2, 3, 4, 5, 6] rfl rfl (by decide) (by decide) (fun r_23 u_24 H locs w_25 hP hD hxw_25 hzw_25 hqw_25 hS => ?_)
    obtain rfl : r_23 = p_fl wv.1 (2 * nv) := w_25
    refine lv_lmul hx hb dX5_divideBy_131 ?_
    refine lv_lconst (v := 1) hx hb dX5_divideBy_132 (by decide) ?_
    refine lv_ladd hx hb dX5_divideBy_133 ?_
    refine lv_lmul hx hb dX5_divideBy_134 ?_
    refine lv_lsub hx hb dX5_divideBy_135 ?_
    refine lv_topl (fun ot_26 hot_26 => ?_)
    refine lv_lstore (lv' := [(13, .long ot_26), (11, .long of_20), (10, .int 0), (8, .long 0), (6, .long 0), (4, .long nv), (0, .ref o), (1, .ref a1), (2, .ref a2), (3, .int d0)]) hx hb dX5_divideBy_136 hl (by decide) rfl (fun ls hl => ?_)
    refine lv_lload hx hb dX5_divideBy_138 (lv_at hl 4 rfl) ?_
    refine lv_lload hx hb dX5_divideBy_140 (lv_at hl 1 rfl) ?_
    refine lv_lload hx hb dX5_divideBy_142 (lv_at hl 1 rfl) ?_
    refine lv_lmul hx hb dX5_divideBy_144 ?_
    refine lv_ladd hx hb dX5_divideBy_145 ?_
    refine lv_topl (fun wh_27 hwh_27 => ?_)
    refine lv_lstore (lv' := [(6, .long wh_27), (13, .long ot_26), (11, .long of_20), (10, .int 0), (8, .long 0), (4, .long nv), (0, .ref o), (1, .ref a1), (2, .ref a2), (3, .int d0)]) hx hb dX5_divideBy_146 hl (by decide) rfl (fun ls hl => ?_)
    refine lv_lload hx hb dX5_divideBy_148 (lv_at hl 4 rfl) ?_
    refine lv_lload hx hb dX5_divideBy_150 (lv_at hl 1 rfl) ?_
    refine lv_lload hx hb dX5_divideBy_152 (lv_at hl 1 rfl) ?_
    refine lv_lmul hx hb dX5_divideBy_154 ?_
    refine lv_ladd hx hb dX5_divideBy_155 ?_
    refine lv_topl (fun ha_28 hha_28 => ?_)
    refine lv_lstore (lv' := [(8, .long ha_28), (6, .long wh_27), (13, .long ot_26), (11, .long of_20), (10, .int 0), (4, .long nv), (0, .ref o), (1, .ref a1), (2, .ref a2), (3, .int d0)]) hx hb dX5_divideBy_156 hl (by decide) rfl (fun ls hl => ?_)
    refine lv_iinc (v := 1) (lv' := [(10, .int 1), (8, .long ha_28), (6, .long wh_27), (13, .long ot_26), (11, .long of_20), (4, .long nv), (0, .ref o), (1, .ref a1), (2, .ref a2), (3, .int d0)]) hx hb dX5_divideBy_158 hl (k := 4) rfl (by decide) (by decide) rfl (fun ls hl => ?_)
    refine lv_goto (tgt := 61) hx hb dX5_divideBy_161 (by decide) ?_
    refine lv_iload hx hb dX5_divideBy_61 (lv_at hl 0 rfl) ?_
    refine lv_iconst (v := 4) hx hb dX5_divideBy_63 (by decide) ?_
    refine lv_icmp_ge (tgt := 164) hx hb dX5_divideBy_64 (by decide) (fun c_29 => absurd c_29 (by decide)) (fun c_29 => ?_)
    refine lv_aload_n hx hb dX5_divideBy_67 rfl (lv_at hl 6 rfl) ?_
    refine va_get (D := D) (ci := 4) (v := .ref (ad 14)) (C := RX5) (T := TX5) (N := 18) hx hb hts in_X5 hown hK hP 0 rfl rfl 14 (by decide) (hts _ q587) (fun _ h9 => h9) rfl dX5_divideBy_68 ?_
    refine lv_iload hx hb dX5_divideBy_71 (lv_at hl 0 rfl) ?_
    refine va_lald hx hb hK hP 3 2 rfl rfl (vin (by decide)) dX5_divideBy_73 ?_
    refine lv_topl (fun z_30 ez_30 => ?_)
    obtain rfl : z_30 = wv.2.1 := ez_30.trans rfl
    refine lv_ldc2 hx hb hown (hts _ q639) dX5_divideBy_74 ?_
    refine lv_lload hx hb dX5_divideBy_77 (lv_at hl 5 rfl) ?_
    refine lv_lmul hx hb dX5_divideBy_79 ?_
    refine lv_aload_n hx hb dX5_divideBy_80 rfl (lv_at hl 6 rfl) ?_
    refine va_get (D := D) (ci := 4) (v := .ref (ad 14)) (C := RX5) (T := TX5) (N := 18) hx hb hts in_X5 hown hK hP 0 rfl rfl 14 (by decide) (hts _ q587) (fun _ h9 => h9) rfl dX5_divideBy_81 ?_
    refine lv_iload hx hb dX5_divideBy_84 (lv_at hl 0 rfl) ?_
    refine va_lald hx hb hK hP 3 2 rfl rfl (vin (by decide)) dX5_divideBy_86 ?_
    refine lv_topl (fun z_31 ez_31 => ?_)
    obtain rfl : z_31 = wv.2.1 := ez_31.trans rfl
    refine lv_lload hx hb dX5_divideBy_87 (lv_at hl 5 rfl) ?_
    refine lv_ladd hx hb dX5_divideBy_89 ?_
    refine lv_ldc2 hx hb hown (hts _ q639) dX5_divideBy_90 ?_
    refine lv_lload hx hb dX5_divideBy_93 (lv_at hl 5 rfl) ?_
    refine lv_lmul hx hb dX5_divideBy_95 ?_
    refine k_calll (wr := [(o, mO ad nf mo), (ad 11, a4 ca rs), (ad 13, a4 ca qt), (ad 14, a4 ca wv), (ad 15, a4 ca (q_mirror t)), (a1, a4 ca v), (a2, a4 ca t)]) (va_runS (As := [.long (wv.2.1 + nv), .long (2 * nv)]) (rest := [.long (2 * nv), .long wv.2.1]) ⟨hx, hb, hml, hown, hts⟩ (ct_X5_floored hk l D ca H.size (wv.2.1 + nv) (2 * nv) (by rw [hnv]; exact hn)) (va_cwS 2 hts (lw_S q747 q748 q24 q749) rfl rfl rfl (by decide +kernel) ⟨Nat.le_of_ble_eq_true rfl, Nat.le_of_ble_eq_true rfl⟩) (k_pre hk hK hN hP hD [] (by decide) rfl trivial) rfl rfl hl.1 rfl (lv_room (Nat.le_of_ble_eq_true rfl)) dX5_divideBy_96 ⟨Nat.le_of_ble_eq_true rfl, Nat.le_of_ble_eq_true rfl⟩) hP hD hS hA [] [0, 1, 2, 3, 4, 5, 6] rfl rfl (by decide) (by decide) (fun r_32 u_33 H locs w_34 hP hD hxw_34 hzw_34 hqw_34 hS => ?_)
    obtain rfl : r_32 = p_fl (wv.2.1 + nv) (2 * nv) := w_34
    refine lv_lmul hx hb dX5_divideBy_99 ?_
    refine lv_lsub hx hb dX5_divideBy_100 ?_
    refine lv_topl (fun of_35 hof_35 => ?_)
    refine lv_lstore (lv' := [(11, .long of_35), (10, .int 1), (8, .long ha_28), (6, .long wh_27), (13, .long ot_26), (4, .long nv), (0, .ref o), (1, .ref a1), (2, .ref a2), (3, .int d0)]) hx hb dX5_divideBy_101 hl (by decide) rfl (fun ls hl => ?_)
    refine lv_aload_n hx hb dX5_divideBy_103 rfl (lv_at hl 6 rfl) ?_
    refine va_get (D := D) (ci := 4) (v := .ref (ad 14)) (C := RX5) (T := TX5) (N := 18) hx hb hts in_X5 hown hK hP 0 rfl rfl 14 (by decide) (hts _ q587) (fun _ h9 => h9) rfl dX5_divideBy_104 ?_
    refine lv_iload hx hb dX5_divideBy_107 (lv_at hl 1 rfl) ?_
    refine va_lald hx hb hK hP 3 2 rfl rfl (vin (by decide)) dX5_divideBy_109 ?_
    refine lv_topl (fun z_36 ez_36 => ?_)
    obtain rfl : z_36 = wv.2.1 := ez_36.trans rfl
    refine lv_lload hx hb dX5_divideBy_110 (lv_at hl 5 rfl) ?_
    refine lv_ldc2 hx hb hown (hts _ q639) dX5_divideBy_112 ?_
    refine lv_aload_n hx hb dX5_divideBy_115 rfl (lv_at hl 6 rfl) ?_
    refine va_get (D := D) (ci := 4) (v := .ref (ad 14)) (C := RX5) (T := TX5) (N := 18) hx hb hts in_X5 hown hK hP 0 rfl rfl 14 (by decide) (hts _ q587) (fun _ h9 => h9) rfl dX5_divideBy_116 ?_
    refine lv_iload hx hb dX5_divideBy_119 (lv_at hl 1 rfl) ?_
    refine va_lald hx hb hK hP 3 2 rfl rfl (vin (by decide)) dX5_divideBy_121 ?_
    refine lv_topl (fun z_37 ez_37 => ?_)
    obtain rfl : z_37 = wv.2.1 := ez_37.trans rfl
    refine lv_ldc2 hx hb hown (hts _ q639) dX5_divideBy_122 ?_
    refine lv_lload hx hb dX5_divideBy_125 (lv_at hl 5 rfl) ?_
    refine lv_lmul hx hb dX5_divideBy_127 ?_
    refine k_calll (wr := [(o, mO ad nf mo), (ad 11, a4 ca rs), (ad 13, a4 ca qt), (ad 14, a4 ca wv), (ad 15, a4 ca (q_mirror t)), (a1, a4 ca v), (a2, a4 ca t)]) (va_runS (As := [.long wv.2.1, .long (2 * nv)]) (rest := [.long 2, .long nv, .long wv.2.1]) ⟨hx, hb, hml, hown, hts⟩ (ct_X5_floored hk l D ca H.size wv.2.1 (2 * nv) (by rw [hnv]; exact hn)) (va_cwS 2 hts (lw_S q747 q748 q24 q749) rfl rfl rfl (by decide +kernel) ⟨Nat.le_of_ble_eq_true rfl, Nat.le_of_ble_eq_true rfl⟩) (k_pre hk hK hN hP hD [] (by decide) rfl trivial) rfl rfl hl.1 rfl (lv_room (Nat.le_of_ble_eq_true rfl)) dX5_divideBy_128 ⟨Nat.le_of_ble_eq_true rfl, Nat.le_of_ble_eq_true rfl⟩) hP hD hS hA [] [0, 1, 2, 3, 4, 5, 6] rfl rfl (by decide) (by decide) (fun r_38 u_39 H locs w_40 hP hD hxw_40 hzw_40 hqw_40 hS => ?_)
    obtain rfl : r_38 = p_fl wv.2.1 (2 * nv) := w_40
    refine lv_lmul hx hb dX5_divideBy_131 ?_
    refine lv_lconst (v := 1) hx hb dX5_divideBy_132 (by decide) ?_
    refine lv_ladd hx hb dX5_divideBy_133 ?_
    refine lv_lmul hx hb dX5_divideBy_134 ?_
    refine lv_lsub hx hb dX5_divideBy_135 ?_
    refine lv_topl (fun ot_41 hot_41 => ?_)
    refine lv_lstore (lv' := [(13, .long ot_41), (11, .long of_35), (10, .int 1), (8, .long ha_28), (6, .long wh_27), (4, .long nv), (0, .ref o), (1, .ref a1), (2, .ref a2), (3, .int d0)]) hx hb dX5_divideBy_136 hl (by decide) rfl (fun ls hl => ?_)
    refine lv_lload hx hb dX5_divideBy_138 (lv_at hl 4 rfl) ?_
    refine lv_lload hx hb dX5_divideBy_140 (lv_at hl 1 rfl) ?_
    refine lv_lload hx hb dX5_divideBy_142 (lv_at hl 1 rfl) ?_
    refine lv_lmul hx hb dX5_divideBy_144 ?_
    refine lv_ladd hx hb dX5_divideBy_145 ?_
    refine lv_topl (fun wh_42 hwh_42 => ?_)
    refine lv_lstore (lv' := [(6, .long wh_42), (13, .long ot_41), (11, .long of_35), (10, .int 1), (8, .long ha_28), (4, .long nv), (0, .ref o), (1, .ref a1), (2, .ref a2), (3, .int d0)]) hx hb dX5_divideBy_146 hl (by decide) rfl (fun ls hl => ?_)
    refine lv_lload hx hb dX5_divideBy_148 (lv_at hl 4 rfl) ?_
    refine lv_lload hx hb dX5_divideBy_150 (lv_at hl 1 rfl) ?_
    refine lv_lload hx hb dX5_divideBy_152 (lv_at hl 1 rfl) ?_
    refine lv_lmul hx hb dX5_divideBy_154 ?_
    refine lv_ladd hx hb dX5_divideBy_155 ?_
    refine lv_topl (fun ha_43 hha_43 => ?_)
    refine lv_lstore (lv' := [(8, .long ha_43), (6, .long wh_42), (13, .long ot_41), (11, .long of_35), (10, .int 1), (4, .long nv), (0, .ref o), (1, .ref a1), (2, .ref a2), (3, .int d0)]) hx hb dX5_divideBy_156 hl (by decide) rfl (fun ls hl => ?_)
    refine lv_iinc (v := 2) (lv' := [(10, .int 2), (8, .long ha_43), (6, .long wh_42), (13, .long ot_41), (11, .long of_35), (4, .long nv), (0, .ref o), (1, .ref a1), (2, .ref a2), (3, .int d0)]) hx hb dX5_divideBy_158 hl (k := 4) rfl (by decide) (by decide) rfl (fun ls hl => ?_)
    refine lv_goto (tgt := 61) hx hb dX5_divideBy_161 (by decide) ?_
    refine lv_iload hx hb dX5_divideBy_61 (lv_at hl 0 rfl) ?_
    refine lv_iconst (v := 4) hx hb dX5_divideBy_63 (by decide) ?_
    refine lv_icmp_ge (tgt := 164) hx hb dX5_divideBy_64 (by decide) (fun c_44 => absurd c_44 (by decide)) (fun c_44 => ?_)
    refine lv_aload_n hx hb dX5_divideBy_67 rfl (lv_at hl 6 rfl) ?_
    refine va_get (D := D) (ci := 4) (v := .ref (ad 14)) (C := RX5) (T := TX5) (N := 18) hx hb hts in_X5 hown hK hP 0 rfl rfl 14 (by decide) (hts _ q587) (fun _ h9 => h9) rfl dX5_divideBy_68 ?_
    refine lv_iload hx hb dX5_divideBy_71 (lv_at hl 0 rfl) ?_
    refine va_lald hx hb hK hP 3 2 rfl rfl (vin (by decide)) dX5_divideBy_73 ?_
    refine lv_topl (fun z_45 ez_45 => ?_)
    obtain rfl : z_45 = wv.2.2.1 := ez_45.trans rfl
    refine lv_ldc2 hx hb hown (hts _ q639) dX5_divideBy_74 ?_
    refine lv_lload hx hb dX5_divideBy_77 (lv_at hl 5 rfl) ?_
    refine lv_lmul hx hb dX5_divideBy_79 ?_
    refine lv_aload_n hx hb dX5_divideBy_80 rfl (lv_at hl 6 rfl) ?_
    refine va_get (D := D) (ci := 4) (v := .ref (ad 14)) (C := RX5) (T := TX5) (N := 18) hx hb hts in_X5 hown hK hP 0 rfl rfl 14 (by decide) (hts _ q587) (fun _ h9 => h9) rfl dX5_divideBy_81 ?_
    refine lv_iload hx hb dX5_divideBy_84 (lv_at hl 0 rfl) ?_
    refine va_lald hx hb hK hP 3 2 rfl rfl (vin (by decide)) dX5_divideBy_86 ?_
    refine lv_topl (fun z_46 ez_46 => ?_)
    obtain rfl : z_46 = wv.2.2.1 := ez_46.trans rfl
    refine lv_lload hx hb dX5_divideBy_87 (lv_at hl 5 rfl) ?_
    refine lv_ladd hx hb dX5_divideBy_89 ?_
    refine lv_ldc2 hx hb hown (hts _ q639) dX5_divideBy_90 ?_
    refine lv_lload hx hb dX5_divideBy_93 (lv_at hl 5 rfl) ?_
    refine lv_lmul hx hb dX5_divideBy_95 ?_
    refine k_calll (wr := [(o, mO ad nf mo), (ad 11, a4 ca rs), (ad 13, a4 ca qt), (ad 14, a4 ca wv), (ad 15, a4 ca (q_mirror t)), (a1, a4 ca v), (a2, a4 ca t)]) (va_runS (As := [.long (wv.2.2.1 + nv), .long (2 * nv)]) (rest := [.long (2 * nv), .long wv.2.2.1]) ⟨hx, hb, hml, hown, hts⟩ (ct_X5_floored hk l D ca H.size (wv.2.2.1 + nv) (2 * nv) (by rw [hnv]; exact hn)) (va_cwS 2 hts (lw_S q747 q748 q24 q749) rfl rfl rfl (by decide +kernel) ⟨Nat.le_of_ble_eq_true rfl, Nat.le_of_ble_eq_true rfl⟩) (k_pre hk hK hN hP hD [] (by decide) rfl trivial) rfl rfl hl.1 rfl (lv_room (Nat.le_of_ble_eq_true rfl)) dX5_divideBy_96 ⟨Nat.le_of_ble_eq_true rfl, Nat.le_of_ble_eq_true rfl⟩) hP hD hS hA [] [0, 1, 2, 3, 4, 5, 6] rfl rfl (by decide) (by decide) (fun r_47 u_48 H locs w_49 hP hD hxw_49 hzw_49 hqw_49 hS => ?_)
    obtain rfl : r_47 = p_fl (wv.2.2.1 + nv) (2 * nv) := w_49
    refine lv_lmul hx hb dX5_divideBy_99 ?_
    refine lv_lsub hx hb dX5_divideBy_100 ?_
    refine lv_topl (fun of_50 hof_50 => ?_)
    refine lv_lstore (lv' := [(11, .long of_50), (10, .int 2), (8, .long ha_43), (6, .long wh_42), (13, .long ot_41), (4, .long nv), (0, .ref o), (1, .ref a1), (2, .ref a2), (3, .int d0)]) hx hb dX5_divideBy_101 hl (by decide) rfl (fun ls hl => ?_)
    refine lv_aload_n hx hb dX5_divideBy_103 rfl (lv_at hl 6 rfl) ?_
    refine va_get (D := D) (ci := 4) (v := .ref (ad 14)) (C := RX5) (T := TX5) (N := 18) hx hb hts in_X5 hown hK hP 0 rfl rfl 14 (by decide) (hts _ q587) (fun _ h9 => h9) rfl dX5_divideBy_104 ?_
    refine lv_iload hx hb dX5_divideBy_107 (lv_at hl 1 rfl) ?_
    refine va_lald hx hb hK hP 3 2 rfl rfl (vin (by decide)) dX5_divideBy_109 ?_
    refine lv_topl (fun z_51 ez_51 => ?_)
    obtain rfl : z_51 = wv.2.2.1 := ez_51.trans rfl
    refine lv_lload hx hb dX5_divideBy_110 (lv_at hl 5 rfl) ?_
    refine lv_ldc2 hx hb hown (hts _ q639) dX5_divideBy_112 ?_
    refine lv_aload_n hx hb dX5_divideBy_115 rfl (lv_at hl 6 rfl) ?_
    refine va_get (D := D) (ci := 4) (v := .ref (ad 14)) (C := RX5) (T := TX5) (N := 18) hx hb hts in_X5 hown hK hP 0 rfl rfl 14 (by decide) (hts _ q587) (fun _ h9 => h9) rfl dX5_divideBy_116 ?_
    refine lv_iload hx hb dX5_divideBy_119 (lv_at hl 1 rfl) ?_
    refine va_lald hx hb hK hP 3 2 rfl rfl (vin (by decide)) dX5_divideBy_121 ?_
    refine lv_topl (fun z_52 ez_52 => ?_)
    obtain rfl : z_52 = wv.2.2.1 := ez_52.trans rfl
    refine lv_ldc2 hx hb hown (hts _ q639) dX5_divideBy_122 ?_
    refine lv_lload hx hb dX5_divideBy_125 (lv_at hl 5 rfl) ?_
    refine lv_lmul hx hb dX5_divideBy_127 ?_
    refine k_calll (wr := [(o, mO ad nf mo), (ad 11, a4 ca rs), (ad 13, a4 ca qt), (ad 14, a4 ca wv), (ad 15, a4 ca (q_mirror t)), (a1, a4 ca v), (a2, a4 ca t)]) (va_runS (As := [.long wv.2.2.1, .long (2 * nv)]) (rest := [.long 2, .long nv, .long wv.2.2.1]) ⟨hx, hb, hml, hown, hts⟩ (ct_X5_floored hk l D ca H.size wv.2.2.1 (2 * nv) (by rw [hnv]; exact hn)) (va_cwS 2 hts (lw_S q747 q748 q24 q749) rfl rfl rfl (by decide +kernel) ⟨Nat.le_of_ble_eq_true rfl, Nat.le_of_ble_eq_true rfl⟩) (k_pre hk hK hN hP hD [] (by decide) rfl trivial) rfl rfl hl.1 rfl (lv_room (Nat.le_of_ble_eq_true rfl)) dX5_divideBy_128 ⟨Nat.le_of_ble_eq_true rfl, Nat.le_of_ble_eq_true rfl⟩) hP hD hS hA [] [0, 1, 2, 3, 4, 5, 6] rfl rfl (by decide) (by decide) (fun r_53 u_54 H locs w_55 hP hD hxw_55 hzw_55 hqw_55 hS => ?_)
    obtain rfl : r_53 = p_fl wv.2.2.1 (2 * nv) := w_55
    refine lv_lmul hx hb dX5_divideBy_131 ?_
    refine lv_lconst (v := 1) hx hb dX5_divideBy_132 (by decide) ?_
    refine lv_ladd hx hb dX5_divideBy_133 ?_
    refine lv_lmul hx hb dX5_divideBy_134 ?_
    refine lv_lsub hx hb dX5_divideBy_135 ?_
    refine lv_topl (fun ot_56 hot_56 => ?_)
    refine lv_lstore (lv' := [(13, .long ot_56), (11, .long of_50), (10, .int 2), (8, .long ha_43), (6, .long wh_42), (4, .long nv), (0, .ref o), (1, .ref a1), (2, .ref a2), (3, .int d0)]) hx hb dX5_divideBy_136 hl (by decide) rfl (fun ls hl => ?_)
    refine lv_lload hx hb dX5_divideBy_138 (lv_at hl 4 rfl) ?_
    refine lv_lload hx hb dX5_divideBy_140 (lv_at hl 1 rfl) ?_
    refine lv_lload hx hb dX5_divideBy_142 (lv_at hl 1 rfl) ?_
    refine lv_lmul hx hb dX5_divideBy_144 ?_
    refine lv_ladd hx hb dX5_divideBy_145 ?_
    refine lv_topl (fun wh_57 hwh_57 => ?_)
    refine lv_lstore (lv' := [(6, .long wh_57), (13, .long ot_56), (11, .long of_50), (10, .int 2), (8, .long ha_43), (4, .long nv), (0, .ref o), (1, .ref a1), (2, .ref a2), (3, .int d0)]) hx hb dX5_divideBy_146 hl (by decide) rfl (fun ls hl => ?_)
    refine lv_lload hx hb dX5_divideBy_148 (lv_at hl 4 rfl) ?_
    refine lv_lload hx hb dX5_divideBy_150 (lv_at hl 1 rfl) ?_
    refine lv_lload hx hb dX5_divideBy_152 (lv_at hl 1 rfl) ?_
    refine lv_lmul hx hb dX5_divideBy_154 ?_
    refine lv_ladd hx hb dX5_divideBy_155 ?_
    refine lv_topl (fun ha_58 hha_58 => ?_)
    refine lv_lstore (lv' := [(8, .long ha_58), (6, .long wh_57), (13, .long ot_56), (11, .long of_50), (10, .int 2), (4, .long nv), (0, .ref o), (1, .ref a1), (2, .ref a2), (3, .int d0)]) hx hb dX5_divideBy_156 hl (by decide) rfl (fun ls hl => ?_)
    refine lv_iinc (v := 3) (lv' := [(10, .int 3), (8, .long ha_58), (6, .long wh_57), (13, .long ot_56), (11, .long of_50), (4, .long nv), (0, .ref o), (1, .ref a1), (2, .ref a2), (3, .int d0)]) hx hb dX5_divideBy_158 hl (k := 4) rfl (by decide) (by decide) rfl (fun ls hl => ?_)
    refine lv_goto (tgt := 61) hx hb dX5_divideBy_161 (by decide) ?_
    refine lv_iload hx hb dX5_divideBy_61 (lv_at hl 0 rfl) ?_
    refine lv_iconst (v := 4) hx hb dX5_divideBy_63 (by decide) ?_
    refine lv_icmp_ge (tgt := 164) hx hb dX5_divideBy_64 (by decide) (fun c_59 => absurd c_59 (by decide)) (fun c_59 => ?_)
    refine lv_aload_n hx hb dX5_divideBy_67 rfl (lv_at hl 6 rfl) ?_
    refine va_get (D := D) (ci := 4) (v := .ref (ad 14)) (C := RX5) (T := TX5) (N := 18) hx hb hts in_X5 hown hK hP 0 rfl rfl 14 (by decide) (hts _ q587) (fun _ h9 => h9) rfl dX5_divideBy_68 ?_
    refine lv_iload hx hb dX5_divideBy_71 (lv_at hl 0 rfl) ?_
    refine va_lald hx hb hK hP 3 2 rfl rfl (vin (by decide)) dX5_divideBy_73 ?_
    refine lv_topl (fun z_60 ez_60 => ?_)
    obtain rfl : z_60 = wv.2.2.2 := ez_60.trans rfl
    refine lv_ldc2 hx hb hown (hts _ q639) dX5_divideBy_74 ?_
    refine lv_lload hx hb dX5_divideBy_77 (lv_at hl 5 rfl) ?_
    refine lv_lmul hx hb dX5_divideBy_79 ?_
    refine lv_aload_n hx hb dX5_divideBy_80 rfl (lv_at hl 6 rfl) ?_
    refine va_get (D := D) (ci := 4) (v := .ref (ad 14)) (C := RX5) (T := TX5) (N := 18) hx hb hts in_X5 hown hK hP 0 rfl rfl 14 (by decide) (hts _ q587) (fun _ h9 => h9) rfl dX5_divideBy_81 ?_
    refine lv_iload hx hb dX5_divideBy_84 (lv_at hl 0 rfl) ?_
    refine va_lald hx hb hK hP 3 2 rfl rfl (vin (by decide)) dX5_divideBy_86 ?_
    refine lv_topl (fun z_61 ez_61 => ?_)
    obtain rfl : z_61 = wv.2.2.2 := ez_61.trans rfl
    refine lv_lload hx hb dX5_divideBy_87 (lv_at hl 5 rfl) ?_
    refine lv_ladd hx hb dX5_divideBy_89 ?_
    refine lv_ldc2 hx hb hown (hts _ q639) dX5_divideBy_90 ?_
    refine lv_lload hx hb dX5_divideBy_93 (lv_at hl 5 rfl) ?_
    refine lv_lmul hx hb dX5_divideBy_95 ?_
    refine k_calll (wr := [(o, mO ad nf mo), (ad 11, a4 ca rs), (ad 13, a4 ca qt), (ad 14, a4 ca wv), (ad 15, a4 ca (q_mirror t)), (a1, a4 ca v), (a2, a4 ca t)]) (va_runS (As := [.long (wv.2.2.2 + nv), .long (2 * nv)]) (rest := [.long (2 * nv), .long wv.2.2.2]) ⟨hx, hb, hml, hown, hts⟩ (ct_X5_floored hk l D ca H.size (wv.2.2.2 + nv) (2 * nv) (by rw [hnv]; exact hn)) (va_cwS 2 hts (lw_S q747 q748 q24 q749) rfl rfl rfl (by decide +kernel) ⟨Nat.le_of_ble_eq_true rfl, Nat.le_of_ble_eq_true rfl⟩) (k_pre hk hK hN hP hD [] (by decide) rfl trivial) rfl rfl hl.1 rfl (lv_room (Nat.le_of_ble_eq_true rfl)) dX5_divideBy_96 ⟨Nat.le_of_ble_eq_true rfl, Nat.le_of_ble_eq_true rfl⟩) hP hD hS hA [] [0, 1, 2, 3, 4, 5, 6] rfl rfl (by decide) (by decide) (fun r_62 u_63 H locs w_64 hP hD hxw_64 hzw_64 hqw_64 hS => ?_)
    obtain rfl : r_62 = p_fl (wv.2.2.2 + nv) (2 * nv) := w_64
    refine lv_lmul hx hb dX5_divideBy_99 ?_
    refine lv_lsub hx hb dX5_divideBy_100 ?_
    refine lv_topl (fun of_65 hof_65 => ?_)
    refine lv_lstore (lv' := [(11, .long of_65), (10, .int 3), (8, .long ha_58), (6, .long wh_57), (13, .long ot_56), (4, .long nv), (0, .ref o), (1, .ref a1), (2, .ref a2), (3, .int d0)]) hx hb dX5_divideBy_101 hl (by decide) rfl (fun ls hl => ?_)
    refine lv_aload_n hx hb dX5_divideBy_103 rfl (lv_at hl 6 rfl) ?_
    refine va_get (D := D) (ci := 4) (v := .ref (ad 14)) (C := RX5) (T := TX5) (N := 18) hx hb hts in_X5 hown hK hP 0 rfl rfl 14 (by decide) (hts _ q587) (fun _ h9 => h9) rfl dX5_divideBy_104 ?_
    refine lv_iload hx hb dX5_divideBy_107 (lv_at hl 1 rfl) ?_
    refine va_lald hx hb hK hP 3 2 rfl rfl (vin (by decide)) dX5_divideBy_109 ?_
    refine lv_topl (fun z_66 ez_66 => ?_)
    obtain rfl : z_66 = wv.2.2.2 := ez_66.trans rfl
    refine lv_lload hx hb dX5_divideBy_110 (lv_at hl 5 rfl) ?_
    refine lv_ldc2 hx hb hown (hts _ q639) dX5_divideBy_112 ?_
    refine lv_aload_n hx hb dX5_divideBy_115 rfl (lv_at hl 6 rfl) ?_
    refine va_get (D := D) (ci := 4) (v := .ref (ad 14)) (C := RX5) (T := TX5) (N := 18) hx hb hts in_X5 hown hK hP 0 rfl rfl 14 (by decide) (hts _ q587) (fun _ h9 => h9) rfl dX5_divideBy_116 ?_
    refine lv_iload hx hb dX5_divideBy_119 (lv_at hl 1 rfl) ?_
    refine va_lald hx hb hK hP 3 2 rfl rfl (vin (by decide)) dX5_divideBy_121 ?_
    refine lv_topl (fun z_67 ez_67 => ?_)
    obtain rfl : z_67 = wv.2.2.2 := ez_67.trans rfl
    refine lv_ldc2 hx hb hown (hts _ q639) dX5_divideBy_122 ?_
    refine lv_lload hx hb dX5_divideBy_125 (lv_at hl 5 rfl) ?_
    refine lv_lmul hx hb dX5_divideBy_127 ?_
    refine k_calll (wr := [(o, mO ad nf mo), (ad 11, a4 ca rs), (ad 13, a4 ca qt), (ad 14, a4 ca wv), (ad 15, a4 ca (q_mirror t)), (a1, a4 ca v), (a2, a4 ca t)]) (va_runS (As := [.long wv.2.2.2, .long (2 * nv)]) (rest := [.long 2, .long nv, .long wv.2.2.2]) ⟨hx, hb, hml, hown, hts⟩ (ct_X5_floored hk l D ca H.size wv.2.2.2 (2 * nv) (by rw [hnv]; exact hn)) (va_cwS 2 hts (lw_S q747 q748 q24 q749) rfl rfl rfl (by decide +kernel) ⟨Nat.le_of_ble_eq_true rfl, Nat.le_of_ble_eq_true rfl⟩) (k_pre hk hK hN hP hD [] (by decide) rfl trivial) rfl rfl hl.1 rfl (lv_room (Nat.le_of_ble_eq_true rfl)) dX5_divideBy_128 ⟨Nat.le_of_ble_eq_true rfl, Nat.le_of_ble_eq_true rfl⟩) hP hD hS hA [] [0, 1, 2, 3, 4, 5, 6] rfl rfl (by decide) (by decide) (fun r_68 u_69 H locs w_70 hP hD hxw_70 hzw_70 hqw_70 hS => ?_)
    obtain rfl : r_68 = p_fl wv.2.2.2 (2 * nv) := w_70
    refine lv_lmul hx hb dX5_divideBy_131 ?_
    refine lv_lconst (v := 1) hx hb dX5_divideBy_132 (by decide) ?_
    refine lv_ladd hx hb dX5_divideBy_133 ?_
    refine lv_lmul hx hb dX5_divideBy_134 ?_
    refine lv_lsub hx hb dX5_divideBy_135 ?_
    refine lv_topl (fun ot_71 hot_71 => ?_)
    refine lv_lstore (lv' := [(13, .long ot_71), (11, .long of_65), (10, .int 3), (8, .long ha_58), (6, .long wh_57), (4, .long nv), (0, .ref o), (1, .ref a1), (2, .ref a2), (3, .int d0)]) hx hb dX5_divideBy_136 hl (by decide) rfl (fun ls hl => ?_)
    refine lv_lload hx hb dX5_divideBy_138 (lv_at hl 4 rfl) ?_
    refine lv_lload hx hb dX5_divideBy_140 (lv_at hl 1 rfl) ?_
    refine lv_lload hx hb dX5_divideBy_142 (lv_at hl 1 rfl) ?_
    refine lv_lmul hx hb dX5_divideBy_144 ?_
    refine lv_ladd hx hb dX5_divideBy_145 ?_
    refine lv_topl (fun wh_72 hwh_72 => ?_)
    refine lv_lstore (lv' := [(6, .long wh_72), (13, .long ot_71), (11, .long of_65), (10, .int 3), (8, .long ha_58), (4, .long nv), (0, .ref o), (1, .ref a1), (2, .ref a2), (3, .int d0)]) hx hb dX5_divideBy_146 hl (by decide) rfl (fun ls hl => ?_)
    refine lv_lload hx hb dX5_divideBy_148 (lv_at hl 4 rfl) ?_
    refine lv_lload hx hb dX5_divideBy_150 (lv_at hl 1 rfl) ?_
    refine lv_lload hx hb dX5_divideBy_152 (lv_at hl 1 rfl) ?_
    refine lv_lmul hx hb dX5_divideBy_154 ?_
    refine lv_ladd hx hb dX5_divideBy_155 ?_
    refine lv_topl (fun ha_73 hha_73 => ?_)
    refine lv_lstore (lv' := [(8, .long ha_73), (6, .long wh_72), (13, .long ot_71), (11, .long of_65), (10, .int 3), (4, .long nv), (0, .ref o), (1, .ref a1), (2, .ref a2), (3, .int d0)]) hx hb dX5_divideBy_156 hl (by decide) rfl (fun ls hl => ?_)
    refine lv_iinc (v := 4) (lv' := [(10, .int 4), (8, .long ha_73), (6, .long wh_72), (13, .long ot_71), (11, .long of_65), (4, .long nv), (0, .ref o), (1, .ref a1), (2, .ref a2), (3, .int d0)]) hx hb dX5_divideBy_158 hl (k := 4) rfl (by decide) (by decide) rfl (fun ls hl => ?_)
    refine lv_goto (tgt := 61) hx hb dX5_divideBy_161 (by decide) ?_
    refine lv_iload hx hb dX5_divideBy_61 (lv_at hl 0 rfl) ?_
    refine lv_iconst (v := 4) hx hb dX5_divideBy_63 (by decide) ?_
    refine lv_icmp_ge (tgt := 164) hx hb dX5_divideBy_64 (by decide) (fun c_74 => ?_) (fun c_74 => absurd (by decide) c_74)
    refine lv_iconst (v := 0) hx hb dX5_divideBy_164 (by decide) ?_
    refine lv_istore (lv' := [(10, .int 0), (8, .long ha_73), (6, .long wh_72), (13, .long ot_71), (11, .long of_65), (4, .long nv), (0, .ref o), (1, .ref a1), (2, .ref a2), (3, .int d0)]) hx hb dX5_divideBy_165 hl (by decide) rfl (fun ls hl => ?_)
    refine lv_iload hx hb dX5_divideBy_167 (lv_at hl 0 rfl) ?_
    refine lv_iconst (v := 4) hx hb dX5_divideBy_169 (by decide) ?_
    refine lv_icmp_ge (tgt := 242) hx hb dX5_divideBy_170 (by decide) (fun c_75 => absurd c_75 (by decide)) (fun c_75 => ?_)
    refine lv_aload_n hx hb dX5_divideBy_173 rfl (lv_at hl 6 rfl) ?_
    refine va_get (D := D) (ci := 4) (v := .ref (ad 13)) (C := RX5) (T := TX5) (N := 18) hx hb hts in_X5 hown hK hP 0 rfl rfl 13 (by decide) (hts _ q586) (fun _ h9 => h9) rfl dX5_divideBy_174 ?_
    refine lv_iload hx hb dX5_divideBy_177 (lv_at hl 0 rfl) ?_
    refine lv_lload hx hb dX5_divideBy_179 (lv_at hl 2 rfl) ?_
    refine lv_lload hx hb dX5_divideBy_181 (lv_at hl 1 rfl) ?_
    refine k_lc_gt (tgt := 213) hx hb dX5_divideBy_183 dX5_divideBy_184 (by decide) (fun c_76 => ?_) (fun c_76 => ?_)
    · refine lv_ldc2 hx hb hown (hts _ q639) dX5_divideBy_213 ?_
      refine lv_aload_n hx hb dX5_divideBy_216 rfl (lv_at hl 6 rfl) ?_
      refine va_get (D := D) (ci := 4) (v := .ref (ad 14)) (C := RX5) (T := TX5) (N := 18) hx hb hts in_X5 hown hK hP 0 rfl rfl 14 (by decide) (hts _ q587) (fun _ h9 => h9) rfl dX5_divideBy_217 ?_
      refine lv_iload hx hb dX5_divideBy_220 (lv_at hl 0 rfl) ?_
      refine va_lald hx hb hK hP 3 2 rfl rfl (vin (by decide)) dX5_divideBy_222 ?_
      refine lv_topl (fun z_77 ez_77 => ?_)
      obtain rfl : z_77 = wv.1 := ez_77.trans rfl
      refine lv_ldc2 hx hb hown (hts _ q639) dX5_divideBy_223 ?_
      refine lv_lload hx hb dX5_divideBy_226 (lv_at hl 5 rfl) ?_
      refine lv_lmul hx hb dX5_divideBy_228 ?_
      refine k_calll (wr := [(o, mO ad nf mo), (ad 11, a4 ca rs), (ad 13, a4 ca qt), (ad 14, a4 ca wv), (ad 15, a4 ca (q_mirror t)), (a1, a4 ca v), (a2, a4 ca t)]) (va_runS (As := [.long wv.1, .long (2 * nv)]) (rest := [.long 2, .int 0, .ref (ad 13)]) ⟨hx, hb, hml, hown, hts⟩ (ct_X5_floored hk l D ca H.size wv.1 (2 * nv) (by rw [hnv]; exact hn)) (va_cwS 2 hts (lw_S q747 q748 q24 q749) rfl rfl rfl (by decide +kernel) ⟨Nat.le_of_ble_eq_true rfl, Nat.le_of_ble_eq_true rfl⟩) (k_pre hk hK hN hP hD [] (by decide) rfl trivial) rfl rfl hl.1 rfl (lv_room (Nat.le_of_ble_eq_true rfl)) dX5_divideBy_229 ⟨Nat.le_of_ble_eq_true rfl, Nat.le_of_ble_eq_true rfl⟩) hP hD hS hA [] [0, 1, 2, 3, 4, 5, 6] rfl rfl (by decide) (by decide) (fun r_78 u_79 H locs w_80 hP hD hxw_80 hzw_80 hqw_80 hS => ?_)
      obtain rfl : r_78 = p_fl wv.1 (2 * nv) := w_80
      refine lv_lmul hx hb dX5_divideBy_232 ?_
      refine lv_lconst (v := 1) hx hb dX5_divideBy_233 (by decide) ?_
      refine lv_ladd hx hb dX5_divideBy_234 ?_
      refine va_last hx hb hK hP hD hS 2 2 rfl rfl (vin (by decide)) dX5_divideBy_235 (fun H locs hP hD hS => ?_)
      rw [L4_s0] at hP hD
      have hP : va_P D vwCl [(o, mO ad nf mo), (ad 11, a4 ca rs), (ad 13, a4 ca ((2 * (p_fl wv.1 (2 * nv))) + 1, qt.2.1, qt.2.2.1, qt.2.2.2)), (ad 14, a4 ca wv), (ad 15, a4 ca (q_mirror t)), (a1, a4 ca v), (a2, a4 ca t)] H := hP
      have hD : va_D A [(o, mO ad nf mo), (ad 11, a4 ca rs), (ad 13, a4 ca ((2 * (p_fl wv.1 (2 * nv))) + 1, qt.2.1, qt.2.2.1, qt.2.2.2)), (ad 14, a4 ca wv), (ad 15, a4 ca (q_mirror t)), (a1, a4 ca v), (a2, a4 ca t)] := hD
      refine lv_iinc (v := 1) (lv' := [(10, .int 1), (8, .long ha_73), (6, .long wh_72), (13, .long ot_71), (11, .long of_65), (4, .long nv), (0, .ref o), (1, .ref a1), (2, .ref a2), (3, .int d0)]) hx hb dX5_divideBy_236 hl (k := 0) rfl (by decide) (by decide) rfl (fun ls hl => ?_)
      refine lv_goto (tgt := 167) hx hb dX5_divideBy_239 (by decide) ?_
      refine lv_iload hx hb dX5_divideBy_167 (lv_at hl 0 rfl) ?_
      refine lv_iconst (v := 4) hx hb dX5_divideBy_169 (by decide) ?_
      refine lv_icmp_ge (tgt := 242) hx hb dX5_divideBy_170 (by decide) (fun c_81 => absurd c_81 (by decide)) (fun c_81 => ?_)
      refine lv_aload_n hx hb dX5_divideBy_173 rfl (lv_at hl 6 rfl) ?_
      refine va_get (D := D) (ci := 4) (v := .ref (ad 13)) (C := RX5) (T := TX5) (N := 18) hx hb hts in_X5 hown hK hP 0 rfl rfl 13 (by decide) (hts _ q586) (fun _ h9 => h9) rfl dX5_divideBy_174 ?_
      refine lv_iload hx hb dX5_divideBy_177 (lv_at hl 0 rfl) ?_
      refine lv_lload hx hb dX5_divideBy_179 (lv_at hl 2 rfl) ?_
      refine lv_lload hx hb dX5_divideBy_181 (lv_at hl 1 rfl) ?_
      refine k_lc_gt (tgt := 213) hx hb dX5_divideBy_183 dX5_divideBy_184 (by decide) (fun c_82 => ?_) (fun c_82 => absurd c_76 c_82)
      refine lv_ldc2 hx hb hown (hts _ q639) dX5_divideBy_213 ?_
      refine lv_aload_n hx hb dX5_divideBy_216 rfl (lv_at hl 6 rfl) ?_
      refine va_get (D := D) (ci := 4) (v := .ref (ad 14)) (C := RX5) (T := TX5) (N := 18) hx hb hts in_X5 hown hK hP 0 rfl rfl 14 (by decide) (hts _ q587) (fun _ h9 => h9) rfl dX5_divideBy_217 ?_
      refine lv_iload hx hb dX5_divideBy_220 (lv_at hl 0 rfl) ?_
      refine va_lald hx hb hK hP 3 2 rfl rfl (vin (by decide)) dX5_divideBy_222 ?_
      refine lv_topl (fun z_83 ez_83 => ?_)
      obtain rfl : z_83 = wv.2.1 := ez_83.trans rfl
      refine lv_ldc2 hx hb hown (hts _ q639) dX5_divideBy_223 ?_
      refine lv_lload hx hb dX5_divideBy_226 (lv_at hl 5 rfl) ?_
      refine lv_lmul hx hb dX5_divideBy_228 ?_
      refine k_calll (wr := [(o, mO ad nf mo), (ad 11, a4 ca rs), (ad 13, a4 ca ((2 * (p_fl wv.1 (2 * nv))) + 1, qt.2.1, qt.2.2.1, qt.2.2.2)), (ad 14, a4 ca wv), (ad 15, a4 ca (q_mirror t)), (a1, a4 ca v), (a2, a4 ca t)]) (va_runS (As := [.long wv.2.1, .long (2 * nv)]) (rest := [.long 2, .int 1, .ref (ad 13)]) ⟨hx, hb, hml, hown, hts⟩ (ct_X5_floored hk l D ca H.size wv.2.1 (2 * nv) (by rw [hnv]; exact hn)) (va_cwS 2 hts (lw_S q747 q748 q24 q749) rfl rfl rfl (by decide +kernel) ⟨Nat.le_of_ble_eq_true rfl, Nat.le_of_ble_eq_true rfl⟩) (k_pre hk hK hN hP hD [] (by decide) rfl trivial) rfl rfl hl.1 rfl (lv_room (Nat.le_of_ble_eq_true rfl)) dX5_divideBy_229 ⟨Nat.le_of_ble_eq_true rfl, Nat.le_of_ble_eq_true rfl⟩) hP hD hS hA [] [0, 1, 2, 3, 4, 5, 6] rfl rfl (by decide) (by decide) (fun r_84 u_85 H locs w_86 hP hD hxw_86 hzw_86 hqw_86 hS => ?_)
      obtain rfl : r_84 = p_fl wv.2.1 (2 * nv) := w_86
      refine lv_lmul hx hb dX5_divideBy_232 ?_
      refine lv_lconst (v := 1) hx hb dX5_divideBy_233 (by decide) ?_
      refine lv_ladd hx hb dX5_divideBy_234 ?_
      refine va_last hx hb hK hP hD hS 2 2 rfl rfl (vin (by decide)) dX5_divideBy_235 (fun H locs hP hD hS => ?_)
      rw [L4_s1] at hP hD
      have hP : va_P D vwCl [(o, mO ad nf mo), (ad 11, a4 ca rs), (ad 13, a4 ca ((2 * (p_fl wv.1 (2 * nv))) + 1, (2 * (p_fl wv.2.1 (2 * nv))) + 1, qt.2.2.1, qt.2.2.2)), (ad 14, a4 ca wv), (ad 15, a4 ca (q_mirror t)), (a1, a4 ca v), (a2, a4 ca t)] H := hP
      have hD : va_D A [(o, mO ad nf mo), (ad 11, a4 ca rs), (ad 13, a4 ca ((2 * (p_fl wv.1 (2 * nv))) + 1, (2 * (p_fl wv.2.1 (2 * nv))) + 1, qt.2.2.1, qt.2.2.2)), (ad 14, a4 ca wv), (ad 15, a4 ca (q_mirror t)), (a1, a4 ca v), (a2, a4 ca t)] := hD
      refine lv_iinc (v := 2) (lv' := [(10, .int 2), (8, .long ha_73), (6, .long wh_72), (13, .long ot_71), (11, .long of_65), (4, .long nv), (0, .ref o), (1, .ref a1), (2, .ref a2), (3, .int d0)]) hx hb dX5_divideBy_236 hl (k := 0) rfl (by decide) (by decide) rfl (fun ls hl => ?_)
      refine lv_goto (tgt := 167) hx hb dX5_divideBy_239 (by decide) ?_
      refine lv_iload hx hb dX5_divideBy_167 (lv_at hl 0 rfl) ?_
      refine lv_iconst (v := 4) hx hb dX5_divideBy_169 (by decide) ?_
      refine lv_icmp_ge (tgt := 242) hx hb dX5_divideBy_170 (by decide) (fun c_87 => absurd c_87 (by decide)) (fun c_87 => ?_)
      refine lv_aload_n hx hb dX5_divideBy_173 rfl (lv_at hl 6 rfl) ?_
      refine va_get (D := D) (ci := 4) (v := .ref (ad 13)) (C := RX5) (T := TX5) (N := 18) hx hb hts in_X5 hown hK hP 0 rfl rfl 13 (by decide) (hts _ q586) (fun _ h9 => h9) rfl dX5_divideBy_174 ?_
      refine lv_iload hx hb dX5_divideBy_177 (lv_at hl 0 rfl) ?_
      refine lv_lload hx hb dX5_divideBy_179 (lv_at hl 2 rfl) ?_
      refine lv_lload hx hb dX5_divideBy_181 (lv_at hl 1 rfl) ?_
      refine k_lc_gt (tgt := 213) hx hb dX5_divideBy_183 dX5_divideBy_184 (by decide) (fun c_88 => ?_) (fun c_88 => absurd c_76 c_88)
      refine lv_ldc2 hx hb hown (hts _ q639) dX5_divideBy_213 ?_
      refine lv_aload_n hx hb dX5_divideBy_216 rfl (lv_at hl 6 rfl) ?_
      refine va_get (D := D) (ci := 4) (v := .ref (ad 14)) (C := RX5) (T := TX5) (N := 18) hx hb hts in_X5 hown hK hP 0 rfl rfl 14 (by decide) (hts _ q587) (fun _ h9 => h9) rfl dX5_divideBy_217 ?_
      refine lv_iload hx hb dX5_divideBy_220 (lv_at hl 0 rfl) ?_
      refine va_lald hx hb hK hP 3 2 rfl rfl (vin (by decide)) dX5_divideBy_222 ?_
      refine lv_topl (fun z_89 ez_89 => ?_)
      obtain rfl : z_89 = wv.2.2.1 := ez_89.trans rfl
      refine lv_ldc2 hx hb hown (hts _ q639) dX5_divideBy_223 ?_
      refine lv_lload hx hb dX5_divideBy_226 (lv_at hl 5 rfl) ?_
      refine lv_lmul hx hb dX5_divideBy_228 ?_
      refine k_calll (wr := [(o, mO ad nf mo), (ad 11, a4 ca rs), (ad 13, a4 ca ((2 * (p_fl wv.1 (2 * nv))) + 1, (2 * (p_fl wv.2.1 (2 * nv))) + 1, qt.2.2.1, qt.2.2.2)), (ad 14, a4 ca wv), (ad 15, a4 ca (q_mirror t)), (a1, a4 ca v), (a2, a4 ca t)]) (va_runS (As := [.long wv.2.2.1, .long (2 * nv)]) (rest := [.long 2, .int 2, .ref (ad 13)]) ⟨hx, hb, hml, hown, hts⟩ (ct_X5_floored hk l D ca H.size wv.2.2.1 (2 * nv) (by rw [hnv]; exact hn)) (va_cwS 2 hts (lw_S q747 q748 q24 q749) rfl rfl rfl (by decide +kernel) ⟨Nat.le_of_ble_eq_true rfl, Nat.le_of_ble_eq_true rfl⟩) (k_pre hk hK hN hP hD [] (by decide) rfl trivial) rfl rfl hl.1 rfl (lv_room (Nat.le_of_ble_eq_true rfl)) dX5_divideBy_229 ⟨Nat.le_of_ble_eq_true rfl, Nat.le_of_ble_eq_true rfl⟩) hP hD hS hA [] [0, 1, 2, 3, 4, 5, 6] rfl rfl (by decide) (by decide) (fun r_90 u_91 H locs w_92 hP hD hxw_92 hzw_92 hqw_92 hS => ?_)
      obtain rfl : r_90 = p_fl wv.2.2.1 (2 * nv) := w_92
      refine lv_lmul hx hb dX5_divideBy_232 ?_
      refine lv_lconst (v := 1) hx hb dX5_divideBy_233 (by decide) ?_
      refine lv_ladd hx hb dX5_divideBy_234 ?_
      refine va_last hx hb hK hP hD hS 2 2 rfl rfl (vin (by decide)) dX5_divideBy_235 (fun H locs hP hD hS => ?_)
      rw [L4_s2] at hP hD
      have hP : va_P D vwCl [(o, mO ad nf mo), (ad 11, a4 ca rs), (ad 13, a4 ca ((2 * (p_fl wv.1 (2 * nv))) + 1, (2 * (p_fl wv.2.1 (2 * nv))) + 1, (2 * (p_fl wv.2.2.1 (2 * nv))) + 1, qt.2.2.2)), (ad 14, a4 ca wv), (ad 15, a4 ca (q_mirror t)), (a1, a4 ca v), (a2, a4 ca t)] H := hP
      have hD : va_D A [(o, mO ad nf mo), (ad 11, a4 ca rs), (ad 13, a4 ca ((2 * (p_fl wv.1 (2 * nv))) + 1, (2 * (p_fl wv.2.1 (2 * nv))) + 1, (2 * (p_fl wv.2.2.1 (2 * nv))) + 1, qt.2.2.2)), (ad 14, a4 ca wv), (ad 15, a4 ca (q_mirror t)), (a1, a4 ca v), (a2, a4 ca t)] := hD
      refine lv_iinc (v := 3) (lv' := [(10, .int 3), (8, .long ha_73), (6, .long wh_72), (13, .long ot_71), (11, .long of_65), (4, .long nv), (0, .ref o), (1, .ref a1), (2, .ref a2), (3, .int d0)]) hx hb dX5_divideBy_236 hl (k := 0) rfl (by decide) (by decide) rfl (fun ls hl => ?_)
      refine lv_goto (tgt := 167) hx hb dX5_divideBy_239 (by decide) ?_
      refine lv_iload hx hb dX5_divideBy_167 (lv_at hl 0 rfl) ?_
      refine lv_iconst (v := 4) hx hb dX5_divideBy_169 (by decide) ?_
      refine lv_icmp_ge (tgt := 242) hx hb dX5_divideBy_170 (by decide) (fun c_93 => absurd c_93 (by decide)) (fun c_93 => ?_)
      refine lv_aload_n hx hb dX5_divideBy_173 rfl (lv_at hl 6 rfl) ?_
      refine va_get (D := D) (ci := 4) (v := .ref (ad 13)) (C := RX5) (T := TX5) (N := 18) hx hb hts in_X5 hown hK hP 0 rfl rfl 13 (by decide) (hts _ q586) (fun _ h9 => h9) rfl dX5_divideBy_174 ?_
      refine lv_iload hx hb dX5_divideBy_177 (lv_at hl 0 rfl) ?_
      refine lv_lload hx hb dX5_divideBy_179 (lv_at hl 2 rfl) ?_
      refine lv_lload hx hb dX5_divideBy_181 (lv_at hl 1 rfl) ?_
      refine k_lc_gt (tgt := 213) hx hb dX5_divideBy_183 dX5_divideBy_184 (by decide) (fun c_94 => ?_) (fun c_94 => absurd c_76 c_94)
      refine lv_ldc2 hx hb hown (hts _ q639) dX5_divideBy_213 ?_
      refine lv_aload_n hx hb dX5_divideBy_216 rfl (lv_at hl 6 rfl) ?_
      refine va_get (D := D) (ci := 4) (v := .ref (ad 14)) (C := RX5) (T := TX5) (N := 18) hx hb hts in_X5 hown hK hP 0 rfl rfl 14 (by decide) (hts _ q587) (fun _ h9 => h9) rfl dX5_divideBy_217 ?_
      refine lv_iload hx hb dX5_divideBy_220 (lv_at hl 0 rfl) ?_
      refine va_lald hx hb hK hP 3 2 rfl rfl (vin (by decide)) dX5_divideBy_222 ?_
      refine lv_topl (fun z_95 ez_95 => ?_)
      obtain rfl : z_95 = wv.2.2.2 := ez_95.trans rfl
      refine lv_ldc2 hx hb hown (hts _ q639) dX5_divideBy_223 ?_
      refine lv_lload hx hb dX5_divideBy_226 (lv_at hl 5 rfl) ?_
      refine lv_lmul hx hb dX5_divideBy_228 ?_
      refine k_calll (wr := [(o, mO ad nf mo), (ad 11, a4 ca rs), (ad 13, a4 ca ((2 * (p_fl wv.1 (2 * nv))) + 1, (2 * (p_fl wv.2.1 (2 * nv))) + 1, (2 * (p_fl wv.2.2.1 (2 * nv))) + 1, qt.2.2.2)), (ad 14, a4 ca wv), (ad 15, a4 ca (q_mirror t)), (a1, a4 ca v), (a2, a4 ca t)]) (va_runS (As := [.long wv.2.2.2, .long (2 * nv)]) (rest := [.long 2, .int 3, .ref (ad 13)]) ⟨hx, hb, hml, hown, hts⟩ (ct_X5_floored hk l D ca H.size wv.2.2.2 (2 * nv) (by rw [hnv]; exact hn)) (va_cwS 2 hts (lw_S q747 q748 q24 q749) rfl rfl rfl (by decide +kernel) ⟨Nat.le_of_ble_eq_true rfl, Nat.le_of_ble_eq_true rfl⟩) (k_pre hk hK hN hP hD [] (by decide) rfl trivial) rfl rfl hl.1 rfl (lv_room (Nat.le_of_ble_eq_true rfl)) dX5_divideBy_229 ⟨Nat.le_of_ble_eq_true rfl, Nat.le_of_ble_eq_true rfl⟩) hP hD hS hA [] [0, 1, 2, 3, 4, 5, 6] rfl rfl (by decide) (by decide) (fun r_96 u_97 H locs w_98 hP hD hxw_98 hzw_98 hqw_98 hS => ?_)
      obtain rfl : r_96 = p_fl wv.2.2.2 (2 * nv) := w_98
      refine lv_lmul hx hb dX5_divideBy_232 ?_
      refine lv_lconst (v := 1) hx hb dX5_divideBy_233 (by decide) ?_
      refine lv_ladd hx hb dX5_divideBy_234 ?_
      refine va_last hx hb hK hP hD hS 2 2 rfl rfl (vin (by decide)) dX5_divideBy_235 (fun H locs hP hD hS => ?_)
      rw [L4_s3] at hP hD
      have hP : va_P D vwCl [(o, mO ad nf mo), (ad 11, a4 ca rs), (ad 13, a4 ca ((2 * (p_fl wv.1 (2 * nv))) + 1, (2 * (p_fl wv.2.1 (2 * nv))) + 1, (2 * (p_fl wv.2.2.1 (2 * nv))) + 1, (2 * (p_fl wv.2.2.2 (2 * nv))) + 1)), (ad 14, a4 ca wv), (ad 15, a4 ca (q_mirror t)), (a1, a4 ca v), (a2, a4 ca t)] H := hP
      have hD : va_D A [(o, mO ad nf mo), (ad 11, a4 ca rs), (ad 13, a4 ca ((2 * (p_fl wv.1 (2 * nv))) + 1, (2 * (p_fl wv.2.1 (2 * nv))) + 1, (2 * (p_fl wv.2.2.1 (2 * nv))) + 1, (2 * (p_fl wv.2.2.2 (2 * nv))) + 1)), (ad 14, a4 ca wv), (ad 15, a4 ca (q_mirror t)), (a1, a4 ca v), (a2, a4 ca t)] := hD
      refine lv_iinc (v := 4) (lv' := [(10, .int 4), (8, .long ha_73), (6, .long wh_72), (13, .long ot_71), (11, .long of_65), (4, .long nv), (0, .ref o), (1, .ref a1), (2, .ref a2), (3, .int d0)]) hx hb dX5_divideBy_236 hl (k := 0) rfl (by decide) (by decide) rfl (fun ls hl => ?_)
      refine lv_goto (tgt := 167) hx hb dX5_divideBy_239 (by decide) ?_
      refine lv_iload hx hb dX5_divideBy_167 (lv_at hl 0 rfl) ?_
      refine lv_iconst (v := 4) hx hb dX5_divideBy_169 (by decide) ?_
      refine lv_icmp_ge (tgt := 242) hx hb dX5_divideBy_170 (by decide) (fun c_99 => ?_) (fun c_99 => absurd (by decide) c_99)
      have hw1 : wv = d_w d0 v t := by rw [hwv]; simp [d_w, c_7]
      have hq : ((2 * (p_fl wv.1 (2 * nv))) + 1, (2 * (p_fl wv.2.1 (2 * nv))) + 1, (2 * (p_fl wv.2.2.1 (2 * nv))) + 1, (2 * (p_fl wv.2.2.2 (2 * nv))) + 1) = d_q d0 v t := by
        rw [d_q, ← hw1, ← hnv]
        have hz := c_76
        rw [hha_73, hwh_72, hot_71, hof_65, hha_58, hwh_57, hot_56, hof_50, hha_43, hwh_42, hot_41, hof_35, hha_28, hwh_27, hot_26, hof_20] at hz
        exact (if_pos hz).symm
      rw [hq] at hP hD
      have hP : va_P D vwCl [(o, mO ad nf mo), (ad 11, a4 ca rs), (ad 13, a4 ca (d_q d0 v t)), (ad 14, a4 ca wv), (ad 15, a4 ca (q_mirror t)), (a1, a4 ca v), (a2, a4 ca t)] H := hP
      have hD : va_D A [(o, mO ad nf mo), (ad 11, a4 ca rs), (ad 13, a4 ca (d_q d0 v t)), (ad 14, a4 ca wv), (ad 15, a4 ca (q_mirror t)), (a1, a4 ca v), (a2, a4 ca t)] := hD
      refine lv_iload_n hx hb dX5_divideBy_242 rfl (lv_at hl 9 rfl) ?_
      refine lv_if_ne (tgt := 261) hx hb dX5_divideBy_243 (by decide) (fun c_100 => ?_) (fun c_100 => absurd c_100 c_7)
      refine lv_aload_n hx hb dX5_divideBy_261 rfl (lv_at hl 6 rfl) ?_
      refine va_get (D := D) (ci := 4) (v := .ref (ad 14)) (C := RX5) (T := TX5) (N := 18) hx hb hts in_X5 hown hK hP 0 rfl rfl 14 (by decide) (hts _ q587) (fun _ h9 => h9) rfl dX5_divideBy_262 ?_
      refine lv_aload_n hx hb dX5_divideBy_265 rfl (lv_at hl 8 rfl) ?_
      refine lv_aload_n hx hb dX5_divideBy_266 rfl (lv_at hl 6 rfl) ?_
      refine va_get (D := D) (ci := 4) (v := .ref (ad 13)) (C := RX5) (T := TX5) (N := 18) hx hb hts in_X5 hown hK hP 0 rfl rfl 13 (by decide) (hts _ q586) (fun _ h9 => h9) rfl dX5_divideBy_267 ?_
      refine k_callv (wr := [(o, mO ad nf mo), (ad 11, a4 ca rs), (ad 15, a4 ca (q_mirror t)), (a1, a4 ca v)]) (va_runS (As := [.ref (ad 14), .ref a2, .ref (ad 13)]) (rest := []) ⟨hx, hb, hml, hown, hts⟩ (ct_X5_times hk l D ca H.size (ad 14) a2 (ad 13) wv t (d_q d0 v t)) (va_cwS 3 hts (lw_S q724 q725 q24 q726) rfl rfl rfl (by decide +kernel) ⟨Nat.le_of_ble_eq_true rfl, Nat.le_of_ble_eq_true rfl⟩) (k_pre hk hK hN hP hD [3, 6, 2] (by decide) rfl trivial) rfl rfl hl.1 rfl (lv_room (Nat.le_of_ble_eq_true rfl)) dX5_divideBy_270 ⟨Nat.le_of_ble_eq_true rfl, Nat.le_of_ble_eq_true rfl⟩) hP hD hS hA [3, 6, 2] [0, 1, 4, 5] rfl rfl (by decide) (by decide) (fun u_102 H locs w_103 hP hD hxw_103 hzw_103 hqw_103 hS => ?_)
      have hP : va_P D vwCl [(o, mO ad nf mo), (ad 11, a4 ca rs), (ad 15, a4 ca (q_mirror t)), (a1, a4 ca v), (ad 14, a4 ca (q_times t (d_q d0 v t))), (a2, a4 ca t), (ad 13, a4 ca (d_q d0 v t))] H := hP
      have hD : va_D A [(o, mO ad nf mo), (ad 11, a4 ca rs), (ad 15, a4 ca (q_mirror t)), (a1, a4 ca v), (ad 14, a4 ca (q_times t (d_q d0 v t))), (a2, a4 ca t), (ad 13, a4 ca (d_q d0 v t))] := hD
      have hb1 : (q_times t (d_q d0 v t)) = d_b d0 (d_q d0 v t) t := by simp [d_b, c_7]
      rw [hb1] at hP hD
      have hP : va_P D vwCl [(o, mO ad nf mo), (ad 11, a4 ca rs), (ad 15, a4 ca (q_mirror t)), (a1, a4 ca v), (ad 14, a4 ca (d_b d0 (d_q d0 v t) t)), (a2, a4 ca t), (ad 13, a4 ca (d_q d0 v t))] H := hP
      have hD : va_D A [(o, mO ad nf mo), (ad 11, a4 ca rs), (ad 15, a4 ca (q_mirror t)), (a1, a4 ca v), (ad 14, a4 ca (d_b d0 (d_q d0 v t) t)), (a2, a4 ca t), (ad 13, a4 ca (d_q d0 v t))] := hD
      refine lv_iconst (v := 0) hx hb dX5_divideBy_273 (by decide) ?_
      refine lv_istore (lv' := [(10, .int 0), (8, .long ha_73), (6, .long wh_72), (13, .long ot_71), (11, .long of_65), (4, .long nv), (0, .ref o), (1, .ref a1), (2, .ref a2), (3, .int d0)]) hx hb dX5_divideBy_274 hl (by decide) rfl (fun ls hl => ?_)
      refine lv_iload hx hb dX5_divideBy_276 (lv_at hl 0 rfl) ?_
      refine lv_iconst (v := 4) hx hb dX5_divideBy_278 (by decide) ?_
      refine lv_icmp_ge (tgt := 307) hx hb dX5_divideBy_279 (by decide) (fun c_104 => absurd c_104 (by decide)) (fun c_104 => ?_)
      refine lv_aload_n hx hb dX5_divideBy_282 rfl (lv_at hl 6 rfl) ?_
      refine va_get (D := D) (ci := 4) (v := .ref (ad 11)) (C := RX5) (T := TX5) (N := 18) hx hb hts in_X5 hown hK hP 0 rfl rfl 11 (by decide) (hts _ q584) (fun _ h9 => h9) rfl dX5_divideBy_283 ?_
      refine lv_iload hx hb dX5_divideBy_286 (lv_at hl 0 rfl) ?_
      refine lv_aload_n hx hb dX5_divideBy_288 rfl (lv_at hl 7 rfl) ?_
      refine lv_iload hx hb dX5_divideBy_289 (lv_at hl 0 rfl) ?_
      refine va_lald hx hb hK hP 3 2 rfl rfl (vin (by decide)) dX5_divideBy_291 ?_
      refine lv_topl (fun z_105 ez_105 => ?_)
      obtain rfl : z_105 = v.1 := ez_105.trans rfl
      refine lv_aload_n hx hb dX5_divideBy_292 rfl (lv_at hl 6 rfl) ?_
      refine va_get (D := D) (ci := 4) (v := .ref (ad 14)) (C := RX5) (T := TX5) (N := 18) hx hb hts in_X5 hown hK hP 0 rfl rfl 14 (by decide) (hts _ q587) (fun _ h9 => h9) rfl dX5_divideBy_293 ?_
      refine lv_iload hx hb dX5_divideBy_296 (lv_at hl 0 rfl) ?_
      refine va_lald hx hb hK hP 4 2 rfl rfl (vin (by decide)) dX5_divideBy_298 ?_
      refine lv_topl (fun z_106 ez_106 => ?_)
      obtain rfl : z_106 = (d_b d0 (d_q d0 v t) t).1 := ez_106.trans rfl
      refine lv_lsub hx hb dX5_divideBy_299 ?_
      refine va_last hx hb hK hP hD hS 1 2 rfl rfl (vin (by decide)) dX5_divideBy_300 (fun H locs hP hD hS => ?_)
      rw [L4_s0] at hP hD
      have hP : va_P D vwCl [(o, mO ad nf mo), (ad 11, a4 ca (v.1 - ((d_b d0 (d_q d0 v t) t).1), rs.2.1, rs.2.2.1, rs.2.2.2)), (ad 15, a4 ca (q_mirror t)), (a1, a4 ca v), (ad 14, a4 ca (d_b d0 (d_q d0 v t) t)), (a2, a4 ca t), (ad 13, a4 ca (d_q d0 v t))] H := hP
      have hD : va_D A [(o, mO ad nf mo), (ad 11, a4 ca (v.1 - ((d_b d0 (d_q d0 v t) t).1), rs.2.1, rs.2.2.1, rs.2.2.2)), (ad 15, a4 ca (q_mirror t)), (a1, a4 ca v), (ad 14, a4 ca (d_b d0 (d_q d0 v t) t)), (a2, a4 ca t), (ad 13, a4 ca (d_q d0 v t))] := hD
      refine lv_iinc (v := 1) (lv' := [(10, .int 1), (8, .long ha_73), (6, .long wh_72), (13, .long ot_71), (11, .long of_65), (4, .long nv), (0, .ref o), (1, .ref a1), (2, .ref a2), (3, .int d0)]) hx hb dX5_divideBy_301 hl (k := 0) rfl (by decide) (by decide) rfl (fun ls hl => ?_)
      refine lv_goto (tgt := 276) hx hb dX5_divideBy_304 (by decide) ?_
      refine lv_iload hx hb dX5_divideBy_276 (lv_at hl 0 rfl) ?_
      refine lv_iconst (v := 4) hx hb dX5_divideBy_278 (by decide) ?_
      refine lv_icmp_ge (tgt := 307) hx hb dX5_divideBy_279 (by decide) (fun c_107 => absurd c_107 (by decide)) (fun c_107 => ?_)
      refine lv_aload_n hx hb dX5_divideBy_282 rfl (lv_at hl 6 rfl) ?_
      refine va_get (D := D) (ci := 4) (v := .ref (ad 11)) (C := RX5) (T := TX5) (N := 18) hx hb hts in_X5 hown hK hP 0 rfl rfl 11 (by decide) (hts _ q584) (fun _ h9 => h9) rfl dX5_divideBy_283 ?_
      refine lv_iload hx hb dX5_divideBy_286 (lv_at hl 0 rfl) ?_
      refine lv_aload_n hx hb dX5_divideBy_288 rfl (lv_at hl 7 rfl) ?_
      refine lv_iload hx hb dX5_divideBy_289 (lv_at hl 0 rfl) ?_
      refine va_lald hx hb hK hP 3 2 rfl rfl (vin (by decide)) dX5_divideBy_291 ?_
      refine lv_topl (fun z_108 ez_108 => ?_)
      obtain rfl : z_108 = v.2.1 := ez_108.trans rfl
      refine lv_aload_n hx hb dX5_divideBy_292 rfl (lv_at hl 6 rfl) ?_
      refine va_get (D := D) (ci := 4) (v := .ref (ad 14)) (C := RX5) (T := TX5) (N := 18) hx hb hts in_X5 hown hK hP 0 rfl rfl 14 (by decide) (hts _ q587) (fun _ h9 => h9) rfl dX5_divideBy_293 ?_
      refine lv_iload hx hb dX5_divideBy_296 (lv_at hl 0 rfl) ?_
      refine va_lald hx hb hK hP 4 2 rfl rfl (vin (by decide)) dX5_divideBy_298 ?_
      refine lv_topl (fun z_109 ez_109 => ?_)
      obtain rfl : z_109 = (d_b d0 (d_q d0 v t) t).2.1 := ez_109.trans rfl
      refine lv_lsub hx hb dX5_divideBy_299 ?_
      refine va_last hx hb hK hP hD hS 1 2 rfl rfl (vin (by decide)) dX5_divideBy_300 (fun H locs hP hD hS => ?_)
      rw [L4_s1] at hP hD
      have hP : va_P D vwCl [(o, mO ad nf mo), (ad 11, a4 ca (v.1 - ((d_b d0 (d_q d0 v t) t).1), v.2.1 - ((d_b d0 (d_q d0 v t) t).2.1), rs.2.2.1, rs.2.2.2)), (ad 15, a4 ca (q_mirror t)), (a1, a4 ca v), (ad 14, a4 ca (d_b d0 (d_q d0 v t) t)), (a2, a4 ca t), (ad 13, a4 ca (d_q d0 v t))] H := hP
      have hD : va_D A [(o, mO ad nf mo), (ad 11, a4 ca (v.1 - ((d_b d0 (d_q d0 v t) t).1), v.2.1 - ((d_b d0 (d_q d0 v t) t).2.1), rs.2.2.1, rs.2.2.2)), (ad 15, a4 ca (q_mirror t)), (a1, a4 ca v), (ad 14, a4 ca (d_b d0 (d_q d0 v t) t)), (a2, a4 ca t), (ad 13, a4 ca (d_q d0 v t))] := hD
      refine lv_iinc (v := 2) (lv' := [(10, .int 2), (8, .long ha_73), (6, .long wh_72), (13, .long ot_71), (11, .long of_65), (4, .long nv), (0, .ref o), (1, .ref a1), (2, .ref a2), (3, .int d0)]) hx hb dX5_divideBy_301 hl (k := 0) rfl (by decide) (by decide) rfl (fun ls hl => ?_)
      refine lv_goto (tgt := 276) hx hb dX5_divideBy_304 (by decide) ?_
      refine lv_iload hx hb dX5_divideBy_276 (lv_at hl 0 rfl) ?_
      refine lv_iconst (v := 4) hx hb dX5_divideBy_278 (by decide) ?_
      refine lv_icmp_ge (tgt := 307) hx hb dX5_divideBy_279 (by decide) (fun c_110 => absurd c_110 (by decide)) (fun c_110 => ?_)
      refine lv_aload_n hx hb dX5_divideBy_282 rfl (lv_at hl 6 rfl) ?_
      refine va_get (D := D) (ci := 4) (v := .ref (ad 11)) (C := RX5) (T := TX5) (N := 18) hx hb hts in_X5 hown hK hP 0 rfl rfl 11 (by decide) (hts _ q584) (fun _ h9 => h9) rfl dX5_divideBy_283 ?_
      refine lv_iload hx hb dX5_divideBy_286 (lv_at hl 0 rfl) ?_
      refine lv_aload_n hx hb dX5_divideBy_288 rfl (lv_at hl 7 rfl) ?_
      refine lv_iload hx hb dX5_divideBy_289 (lv_at hl 0 rfl) ?_
      refine va_lald hx hb hK hP 3 2 rfl rfl (vin (by decide)) dX5_divideBy_291 ?_
      refine lv_topl (fun z_111 ez_111 => ?_)
      obtain rfl : z_111 = v.2.2.1 := ez_111.trans rfl
      refine lv_aload_n hx hb dX5_divideBy_292 rfl (lv_at hl 6 rfl) ?_
      refine va_get (D := D) (ci := 4) (v := .ref (ad 14)) (C := RX5) (T := TX5) (N := 18) hx hb hts in_X5 hown hK hP 0 rfl rfl 14 (by decide) (hts _ q587) (fun _ h9 => h9) rfl dX5_divideBy_293 ?_
      refine lv_iload hx hb dX5_divideBy_296 (lv_at hl 0 rfl) ?_
      refine va_lald hx hb hK hP 4 2 rfl rfl (vin (by decide)) dX5_divideBy_298 ?_
      refine lv_topl (fun z_112 ez_112 => ?_)
      obtain rfl : z_112 = (d_b d0 (d_q d0 v t) t).2.2.1 := ez_112.trans rfl
      refine lv_lsub hx hb dX5_divideBy_299 ?_
      refine va_last hx hb hK hP hD hS 1 2 rfl rfl (vin (by decide)) dX5_divideBy_300 (fun H locs hP hD hS => ?_)
      rw [L4_s2] at hP hD
      have hP : va_P D vwCl [(o, mO ad nf mo), (ad 11, a4 ca (v.1 - ((d_b d0 (d_q d0 v t) t).1), v.2.1 - ((d_b d0 (d_q d0 v t) t).2.1), v.2.2.1 - ((d_b d0 (d_q d0 v t) t).2.2.1), rs.2.2.2)), (ad 15, a4 ca (q_mirror t)), (a1, a4 ca v), (ad 14, a4 ca (d_b d0 (d_q d0 v t) t)), (a2, a4 ca t), (ad 13, a4 ca (d_q d0 v t))] H := hP
      have hD : va_D A [(o, mO ad nf mo), (ad 11, a4 ca (v.1 - ((d_b d0 (d_q d0 v t) t).1), v.2.1 - ((d_b d0 (d_q d0 v t) t).2.1), v.2.2.1 - ((d_b d0 (d_q d0 v t) t).2.2.1), rs.2.2.2)), (ad 15, a4 ca (q_mirror t)), (a1, a4 ca v), (ad 14, a4 ca (d_b d0 (d_q d0 v t) t)), (a2, a4 ca t), (ad 13, a4 ca (d_q d0 v t))] := hD
      refine lv_iinc (v := 3) (lv' := [(10, .int 3), (8, .long ha_73), (6, .long wh_72), (13, .long ot_71), (11, .long of_65), (4, .long nv), (0, .ref o), (1, .ref a1), (2, .ref a2), (3, .int d0)]) hx hb dX5_divideBy_301 hl (k := 0) rfl (by decide) (by decide) rfl (fun ls hl => ?_)
      refine lv_goto (tgt := 276) hx hb dX5_divideBy_304 (by decide) ?_
      refine lv_iload hx hb dX5_divideBy_276 (lv_at hl 0 rfl) ?_
      refine lv_iconst (v := 4) hx hb dX5_divideBy_278 (by decide) ?_
      refine lv_icmp_ge (tgt := 307) hx hb dX5_divideBy_279 (by decide) (fun c_113 => absurd c_113 (by decide)) (fun c_113 => ?_)
      refine lv_aload_n hx hb dX5_divideBy_282 rfl (lv_at hl 6 rfl) ?_
      refine va_get (D := D) (ci := 4) (v := .ref (ad 11)) (C := RX5) (T := TX5) (N := 18) hx hb hts in_X5 hown hK hP 0 rfl rfl 11 (by decide) (hts _ q584) (fun _ h9 => h9) rfl dX5_divideBy_283 ?_
      refine lv_iload hx hb dX5_divideBy_286 (lv_at hl 0 rfl) ?_
      refine lv_aload_n hx hb dX5_divideBy_288 rfl (lv_at hl 7 rfl) ?_
      refine lv_iload hx hb dX5_divideBy_289 (lv_at hl 0 rfl) ?_
      refine va_lald hx hb hK hP 3 2 rfl rfl (vin (by decide)) dX5_divideBy_291 ?_
      refine lv_topl (fun z_114 ez_114 => ?_)
      obtain rfl : z_114 = v.2.2.2 := ez_114.trans rfl
      refine lv_aload_n hx hb dX5_divideBy_292 rfl (lv_at hl 6 rfl) ?_
      refine va_get (D := D) (ci := 4) (v := .ref (ad 14)) (C := RX5) (T := TX5) (N := 18) hx hb hts in_X5 hown hK hP 0 rfl rfl 14 (by decide) (hts _ q587) (fun _ h9 => h9) rfl dX5_divideBy_293 ?_
      refine lv_iload hx hb dX5_divideBy_296 (lv_at hl 0 rfl) ?_
      refine va_lald hx hb hK hP 4 2 rfl rfl (vin (by decide)) dX5_divideBy_298 ?_
      refine lv_topl (fun z_115 ez_115 => ?_)
      obtain rfl : z_115 = (d_b d0 (d_q d0 v t) t).2.2.2 := ez_115.trans rfl
      refine lv_lsub hx hb dX5_divideBy_299 ?_
      refine va_last hx hb hK hP hD hS 1 2 rfl rfl (vin (by decide)) dX5_divideBy_300 (fun H locs hP hD hS => ?_)
      rw [L4_s3] at hP hD
      have hP : va_P D vwCl [(o, mO ad nf mo), (ad 11, a4 ca (v.1 - ((d_b d0 (d_q d0 v t) t).1), v.2.1 - ((d_b d0 (d_q d0 v t) t).2.1), v.2.2.1 - ((d_b d0 (d_q d0 v t) t).2.2.1), v.2.2.2 - ((d_b d0 (d_q d0 v t) t).2.2.2))), (ad 15, a4 ca (q_mirror t)), (a1, a4 ca v), (ad 14, a4 ca (d_b d0 (d_q d0 v t) t)), (a2, a4 ca t), (ad 13, a4 ca (d_q d0 v t))] H := hP
      have hD : va_D A [(o, mO ad nf mo), (ad 11, a4 ca (v.1 - ((d_b d0 (d_q d0 v t) t).1), v.2.1 - ((d_b d0 (d_q d0 v t) t).2.1), v.2.2.1 - ((d_b d0 (d_q d0 v t) t).2.2.1), v.2.2.2 - ((d_b d0 (d_q d0 v t) t).2.2.2))), (ad 15, a4 ca (q_mirror t)), (a1, a4 ca v), (ad 14, a4 ca (d_b d0 (d_q d0 v t) t)), (a2, a4 ca t), (ad 13, a4 ca (d_q d0 v t))] := hD
      refine lv_iinc (v := 4) (lv' := [(10, .int 4), (8, .long ha_73), (6, .long wh_72), (13, .long ot_71), (11, .long of_65), (4, .long nv), (0, .ref o), (1, .ref a1), (2, .ref a2), (3, .int d0)]) hx hb dX5_divideBy_301 hl (k := 0) rfl (by decide) (by decide) rfl (fun ls hl => ?_)
      refine lv_goto (tgt := 276) hx hb dX5_divideBy_304 (by decide) ?_
      refine lv_iload hx hb dX5_divideBy_276 (lv_at hl 0 rfl) ?_
      refine lv_iconst (v := 4) hx hb dX5_divideBy_278 (by decide) ?_
      refine lv_icmp_ge (tgt := 307) hx hb dX5_divideBy_279 (by decide) (fun c_116 => ?_) (fun c_116 => absurd (by decide) c_116)
      exact k_vret () hx hb hr hlocks (trivial) (hP.sub [0, 3, 5, 1, 6, 4, 2] rfl) (hD.sub [0, 3, 5, 1, 6, 4, 2] (by decide) rfl) trivial hS (Nat.le_of_ble_eq_true rfl) (Nat.le_of_ble_eq_true rfl) dX5_divideBy_307
    · refine lv_ldc2 hx hb hown (hts _ q639) dX5_divideBy_187 ?_
      refine lv_aload_n hx hb dX5_divideBy_190 rfl (lv_at hl 6 rfl) ?_
      refine va_get (D := D) (ci := 4) (v := .ref (ad 14)) (C := RX5) (T := TX5) (N := 18) hx hb hts in_X5 hown hK hP 0 rfl rfl 14 (by decide) (hts _ q587) (fun _ h9 => h9) rfl dX5_divideBy_191 ?_
      refine lv_iload hx hb dX5_divideBy_194 (lv_at hl 0 rfl) ?_
      refine va_lald hx hb hK hP 3 2 rfl rfl (vin (by decide)) dX5_divideBy_196 ?_
      refine lv_topl (fun z_117 ez_117 => ?_)
      obtain rfl : z_117 = wv.1 := ez_117.trans rfl
      refine lv_lload hx hb dX5_divideBy_197 (lv_at hl 5 rfl) ?_
      refine lv_ladd hx hb dX5_divideBy_199 ?_
      refine lv_ldc2 hx hb hown (hts _ q639) dX5_divideBy_200 ?_
      refine lv_lload hx hb dX5_divideBy_203 (lv_at hl 5 rfl) ?_
      refine lv_lmul hx hb dX5_divideBy_205 ?_
      refine k_calll (wr := [(o, mO ad nf mo), (ad 11, a4 ca rs), (ad 13, a4 ca qt), (ad 14, a4 ca wv), (ad 15, a4 ca (q_mirror t)), (a1, a4 ca v), (a2, a4 ca t)]) (va_runS (As := [.long (wv.1 + nv), .long (2 * nv)]) (rest := [.long 2, .int 0, .ref (ad 13)]) ⟨hx, hb, hml, hown, hts⟩ (ct_X5_floored hk l D ca H.size (wv.1 + nv) (2 * nv) (by rw [hnv]; exact hn)) (va_cwS 2 hts (lw_S q747 q748 q24 q749) rfl rfl rfl (by decide +kernel) ⟨Nat.le_of_ble_eq_true rfl, Nat.le_of_ble_eq_true rfl⟩) (k_pre hk hK hN hP hD [] (by decide) rfl trivial) rfl rfl hl.1 rfl (lv_room (Nat.le_of_ble_eq_true rfl)) dX5_divideBy_206 ⟨Nat.le_of_ble_eq_true rfl, Nat.le_of_ble_eq_true rfl⟩) hP hD hS hA [] [0, 1, 2, 3, 4, 5, 6] rfl rfl (by decide) (by decide) (fun r_118 u_119 H locs w_120 hP hD hxw_120 hzw_120 hqw_120 hS => ?_)
      obtain rfl : r_118 = p_fl (wv.1 + nv) (2 * nv) := w_120
      refine lv_lmul hx hb dX5_divideBy_209 ?_
      refine lv_goto (tgt := 235) hx hb dX5_divideBy_210 (by decide) ?_
      refine va_last hx hb hK hP hD hS 2 2 rfl rfl (vin (by decide)) dX5_divideBy_235 (fun H locs hP hD hS => ?_)
      rw [L4_s0] at hP hD
      have hP : va_P D vwCl [(o, mO ad nf mo), (ad 11, a4 ca rs), (ad 13, a4 ca (2 * (p_fl (wv.1 + nv) (2 * nv)), qt.2.1, qt.2.2.1, qt.2.2.2)), (ad 14, a4 ca wv), (ad 15, a4 ca (q_mirror t)), (a1, a4 ca v), (a2, a4 ca t)] H := hP
      have hD : va_D A [(o, mO ad nf mo), (ad 11, a4 ca rs), (ad 13, a4 ca (2 * (p_fl (wv.1 + nv) (2 * nv)), qt.2.1, qt.2.2.1, qt.2.2.2)), (ad 14, a4 ca wv), (ad 15, a4 ca (q_mirror t)), (a1, a4 ca v), (a2, a4 ca t)] := hD
      refine lv_iinc (v := 1) (lv' := [(10, .int 1), (8, .long ha_73), (6, .long wh_72), (13, .long ot_71), (11, .long of_65), (4, .long nv), (0, .ref o), (1, .ref a1), (2, .ref a2), (3, .int d0)]) hx hb dX5_divideBy_236 hl (k := 0) rfl (by decide) (by decide) rfl (fun ls hl => ?_)
      refine lv_goto (tgt := 167) hx hb dX5_divideBy_239 (by decide) ?_
      refine lv_iload hx hb dX5_divideBy_167 (lv_at hl 0 rfl) ?_
      refine lv_iconst (v := 4) hx hb dX5_divideBy_169 (by decide) ?_
      refine lv_icmp_ge (tgt := 242) hx hb dX5_divideBy_170 (by decide) (fun c_121 => absurd c_121 (by decide)) (fun c_121 => ?_)
      refine lv_aload_n hx hb dX5_divideBy_173 rfl (lv_at hl 6 rfl) ?_
      refine va_get (D := D) (ci := 4) (v := .ref (ad 13)) (C := RX5) (T := TX5) (N := 18) hx hb hts in_X5 hown hK hP 0 rfl rfl 13 (by decide) (hts _ q586) (fun _ h9 => h9) rfl dX5_divideBy_174 ?_
      refine lv_iload hx hb dX5_divideBy_177 (lv_at hl 0 rfl) ?_
      refine lv_lload hx hb dX5_divideBy_179 (lv_at hl 2 rfl) ?_
      refine lv_lload hx hb dX5_divideBy_181 (lv_at hl 1 rfl) ?_
      refine k_lc_gt (tgt := 213) hx hb dX5_divideBy_183 dX5_divideBy_184 (by decide) (fun c_122 => absurd c_122 c_76) (fun c_122 => ?_)
      refine lv_ldc2 hx hb hown (hts _ q639) dX5_divideBy_187 ?_
      refine lv_aload_n hx hb dX5_divideBy_190 rfl (lv_at hl 6 rfl) ?_
      refine va_get (D := D) (ci := 4) (v := .ref (ad 14)) (C := RX5) (T := TX5) (N := 18) hx hb hts in_X5 hown hK hP 0 rfl rfl 14 (by decide) (hts _ q587) (fun _ h9 => h9) rfl dX5_divideBy_191 ?_
      refine lv_iload hx hb dX5_divideBy_194 (lv_at hl 0 rfl) ?_
      refine va_lald hx hb hK hP 3 2 rfl rfl (vin (by decide)) dX5_divideBy_196 ?_
      refine lv_topl (fun z_123 ez_123 => ?_)
      obtain rfl : z_123 = wv.2.1 := ez_123.trans rfl
      refine lv_lload hx hb dX5_divideBy_197 (lv_at hl 5 rfl) ?_
      refine lv_ladd hx hb dX5_divideBy_199 ?_
      refine lv_ldc2 hx hb hown (hts _ q639) dX5_divideBy_200 ?_
      refine lv_lload hx hb dX5_divideBy_203 (lv_at hl 5 rfl) ?_
      refine lv_lmul hx hb dX5_divideBy_205 ?_
      refine k_calll (wr := [(o, mO ad nf mo), (ad 11, a4 ca rs), (ad 13, a4 ca (2 * (p_fl (wv.1 + nv) (2 * nv)), qt.2.1, qt.2.2.1, qt.2.2.2)), (ad 14, a4 ca wv), (ad 15, a4 ca (q_mirror t)), (a1, a4 ca v), (a2, a4 ca t)]) (va_runS (As := [.long (wv.2.1 + nv), .long (2 * nv)]) (rest := [.long 2, .int 1, .ref (ad 13)]) ⟨hx, hb, hml, hown, hts⟩ (ct_X5_floored hk l D ca H.size (wv.2.1 + nv) (2 * nv) (by rw [hnv]; exact hn)) (va_cwS 2 hts (lw_S q747 q748 q24 q749) rfl rfl rfl (by decide +kernel) ⟨Nat.le_of_ble_eq_true rfl, Nat.le_of_ble_eq_true rfl⟩) (k_pre hk hK hN hP hD [] (by decide) rfl trivial) rfl rfl hl.1 rfl (lv_room (Nat.le_of_ble_eq_true rfl)) dX5_divideBy_206 ⟨Nat.le_of_ble_eq_true rfl, Nat.le_of_ble_eq_true rfl⟩) hP hD hS hA [] [0, 1, 2, 3, 4, 5, 6] rfl rfl (by decide) (by decide) (fun r_124 u_125 H locs w_126 hP hD hxw_126 hzw_126 hqw_126 hS => ?_)
      obtain rfl : r_124 = p_fl (wv.2.1 + nv) (2 * nv) := w_126
      refine lv_lmul hx hb dX5_divideBy_209 ?_
      refine lv_goto (tgt := 235) hx hb dX5_divideBy_210 (by decide) ?_
      refine va_last hx hb hK hP hD hS 2 2 rfl rfl (vin (by decide)) dX5_divideBy_235 (fun H locs hP hD hS => ?_)
      rw [L4_s1] at hP hD
      have hP : va_P D vwCl [(o, mO ad nf mo), (ad 11, a4 ca rs), (ad 13, a4 ca (2 * (p_fl (wv.1 + nv) (2 * nv)), 2 * (p_fl (wv.2.1 + nv) (2 * nv)), qt.2.2.1, qt.2.2.2)), (ad 14, a4 ca wv), (ad 15, a4 ca (q_mirror t)), (a1, a4 ca v), (a2, a4 ca t)] H := hP
      have hD : va_D A [(o, mO ad nf mo), (ad 11, a4 ca rs), (ad 13, a4 ca (2 * (p_fl (wv.1 + nv) (2 * nv)), 2 * (p_fl (wv.2.1 + nv) (2 * nv)), qt.2.2.1, qt.2.2.2)), (ad 14, a4 ca wv), (ad 15, a4 ca (q_mirror t)), (a1, a4 ca v), (a2, a4 ca t)] := hD
      refine lv_iinc (v := 2) (lv' := [(10, .int 2), (8, .long ha_73), (6, .long wh_72), (13, .long ot_71), (11, .long of_65), (4, .long nv), (0, .ref o), (1, .ref a1), (2, .ref a2), (3, .int d0)]) hx hb dX5_divideBy_236 hl (k := 0) rfl (by decide) (by decide) rfl (fun ls hl => ?_)
      refine lv_goto (tgt := 167) hx hb dX5_divideBy_239 (by decide) ?_
      refine lv_iload hx hb dX5_divideBy_167 (lv_at hl 0 rfl) ?_
      refine lv_iconst (v := 4) hx hb dX5_divideBy_169 (by decide) ?_
      refine lv_icmp_ge (tgt := 242) hx hb dX5_divideBy_170 (by decide) (fun c_127 => absurd c_127 (by decide)) (fun c_127 => ?_)
      refine lv_aload_n hx hb dX5_divideBy_173 rfl (lv_at hl 6 rfl) ?_
      refine va_get (D := D) (ci := 4) (v := .ref (ad 13)) (C := RX5) (T := TX5) (N := 18) hx hb hts in_X5 hown hK hP 0 rfl rfl 13 (by decide) (hts _ q586) (fun _ h9 => h9) rfl dX5_divideBy_174 ?_
      refine lv_iload hx hb dX5_divideBy_177 (lv_at hl 0 rfl) ?_
      refine lv_lload hx hb dX5_divideBy_179 (lv_at hl 2 rfl) ?_
      refine lv_lload hx hb dX5_divideBy_181 (lv_at hl 1 rfl) ?_
      refine k_lc_gt (tgt := 213) hx hb dX5_divideBy_183 dX5_divideBy_184 (by decide) (fun c_128 => absurd c_128 c_76) (fun c_128 => ?_)
      refine lv_ldc2 hx hb hown (hts _ q639) dX5_divideBy_187 ?_
      refine lv_aload_n hx hb dX5_divideBy_190 rfl (lv_at hl 6 rfl) ?_
      refine va_get (D := D) (ci := 4) (v := .ref (ad 14)) (C := RX5) (T := TX5) (N := 18) hx hb hts in_X5 hown hK hP 0 rfl rfl 14 (by decide) (hts _ q587) (fun _ h9 => h9) rfl dX5_divideBy_191 ?_
      refine lv_iload hx hb dX5_divideBy_194 (lv_at hl 0 rfl) ?_
      refine va_lald hx hb hK hP 3 2 rfl rfl (vin (by decide)) dX5_divideBy_196 ?_
      refine lv_topl (fun z_129 ez_129 => ?_)
      obtain rfl : z_129 = wv.2.2.1 := ez_129.trans rfl
      refine lv_lload hx hb dX5_divideBy_197 (lv_at hl 5 rfl) ?_
      refine lv_ladd hx hb dX5_divideBy_199 ?_
      refine lv_ldc2 hx hb hown (hts _ q639) dX5_divideBy_200 ?_
      refine lv_lload hx hb dX5_divideBy_203 (lv_at hl 5 rfl) ?_
      refine lv_lmul hx hb dX5_divideBy_205 ?_
      refine k_calll (wr := [(o, mO ad nf mo), (ad 11, a4 ca rs), (ad 13, a4 ca (2 * (p_fl (wv.1 + nv) (2 * nv)), 2 * (p_fl (wv.2.1 + nv) (2 * nv)), qt.2.2.1, qt.2.2.2)), (ad 14, a4 ca wv), (ad 15, a4 ca (q_mirror t)), (a1, a4 ca v), (a2, a4 ca t)]) (va_runS (As := [.long (wv.2.2.1 + nv), .long (2 * nv)]) (rest := [.long 2, .int 2, .ref (ad 13)]) ⟨hx, hb, hml, hown, hts⟩ (ct_X5_floored hk l D ca H.size (wv.2.2.1 + nv) (2 * nv) (by rw [hnv]; exact hn)) (va_cwS 2 hts (lw_S q747 q748 q24 q749) rfl rfl rfl (by decide +kernel) ⟨Nat.le_of_ble_eq_true rfl, Nat.le_of_ble_eq_true rfl⟩) (k_pre hk hK hN hP hD [] (by decide) rfl trivial) rfl rfl hl.1 rfl (lv_room (Nat.le_of_ble_eq_true rfl)) dX5_divideBy_206 ⟨Nat.le_of_ble_eq_true rfl, Nat.le_of_ble_eq_true rfl⟩) hP hD hS hA [] [0, 1, 2, 3, 4, 5, 6] rfl rfl (by decide) (by decide) (fun r_130 u_131 H locs w_132 hP hD hxw_132 hzw_132 hqw_132 hS => ?_)
      obtain rfl : r_130 = p_fl (wv.2.2.1 + nv) (2 * nv) := w_132
      refine lv_lmul hx hb dX5_divideBy_209 ?_
      refine lv_goto (tgt := 235) hx hb dX5_divideBy_210 (by decide) ?_
      refine va_last hx hb hK hP hD hS 2 2 rfl rfl (vin (by decide)) dX5_divideBy_235 (fun H locs hP hD hS => ?_)
      rw [L4_s2] at hP hD
      have hP : va_P D vwCl [(o, mO ad nf mo), (ad 11, a4 ca rs), (ad 13, a4 ca (2 * (p_fl (wv.1 + nv) (2 * nv)), 2 * (p_fl (wv.2.1 + nv) (2 * nv)), 2 * (p_fl (wv.2.2.1 + nv) (2 * nv)), qt.2.2.2)), (ad 14, a4 ca wv), (ad 15, a4 ca (q_mirror t)), (a1, a4 ca v), (a2, a4 ca t)] H := hP
      have hD : va_D A [(o, mO ad nf mo), (ad 11, a4 ca rs), (ad 13, a4 ca (2 * (p_fl (wv.1 + nv) (2 * nv)), 2 * (p_fl (wv.2.1 + nv) (2 * nv)), 2 * (p_fl (wv.2.2.1 + nv) (2 * nv)), qt.2.2.2)), (ad 14, a4 ca wv), (ad 15, a4 ca (q_mirror t)), (a1, a4 ca v), (a2, a4 ca t)] := hD
      refine lv_iinc (v := 3) (lv' := [(10, .int 3), (8, .long ha_73), (6, .long wh_72), (13, .long ot_71), (11, .long of_65), (4, .long nv), (0, .ref o), (1, .ref a1), (2, .ref a2), (3, .int d0)]) hx hb dX5_divideBy_236 hl (k := 0) rfl (by decide) (by decide) rfl (fun ls hl => ?_)
      refine lv_goto (tgt := 167) hx hb dX5_divideBy_239 (by decide) ?_
      refine lv_iload hx hb dX5_divideBy_167 (lv_at hl 0 rfl) ?_
      refine lv_iconst (v := 4) hx hb dX5_divideBy_169 (by decide) ?_
      refine lv_icmp_ge (tgt := 242) hx hb dX5_divideBy_170 (by decide) (fun c_133 => absurd c_133 (by decide)) (fun c_133 => ?_)
      refine lv_aload_n hx hb dX5_divideBy_173 rfl (lv_at hl 6 rfl) ?_
      refine va_get (D := D) (ci := 4) (v := .ref (ad 13)) (C := RX5) (T := TX5) (N := 18) hx hb hts in_X5 hown hK hP 0 rfl rfl 13 (by decide) (hts _ q586) (fun _ h9 => h9) rfl dX5_divideBy_174 ?_
      refine lv_iload hx hb dX5_divideBy_177 (lv_at hl 0 rfl) ?_
      refine lv_lload hx hb dX5_divideBy_179 (lv_at hl 2 rfl) ?_
      refine lv_lload hx hb dX5_divideBy_181 (lv_at hl 1 rfl) ?_
      refine k_lc_gt (tgt := 213) hx hb dX5_divideBy_183 dX5_divideBy_184 (by decide) (fun c_134 => absurd c_134 c_76) (fun c_134 => ?_)
      refine lv_ldc2 hx hb hown (hts _ q639) dX5_divideBy_187 ?_
      refine lv_aload_n hx hb dX5_divideBy_190 rfl (lv_at hl 6 rfl) ?_
      refine va_get (D := D) (ci := 4) (v := .ref (ad 14)) (C := RX5) (T := TX5) (N := 18) hx hb hts in_X5 hown hK hP 0 rfl rfl 14 (by decide) (hts _ q587) (fun _ h9 => h9) rfl dX5_divideBy_191 ?_
      refine lv_iload hx hb dX5_divideBy_194 (lv_at hl 0 rfl) ?_
      refine va_lald hx hb hK hP 3 2 rfl rfl (vin (by decide)) dX5_divideBy_196 ?_
      refine lv_topl (fun z_135 ez_135 => ?_)
      obtain rfl : z_135 = wv.2.2.2 := ez_135.trans rfl
      refine lv_lload hx hb dX5_divideBy_197 (lv_at hl 5 rfl) ?_
      refine lv_ladd hx hb dX5_divideBy_199 ?_
      refine lv_ldc2 hx hb hown (hts _ q639) dX5_divideBy_200 ?_
      refine lv_lload hx hb dX5_divideBy_203 (lv_at hl 5 rfl) ?_
      refine lv_lmul hx hb dX5_divideBy_205 ?_
      refine k_calll (wr := [(o, mO ad nf mo), (ad 11, a4 ca rs), (ad 13, a4 ca (2 * (p_fl (wv.1 + nv) (2 * nv)), 2 * (p_fl (wv.2.1 + nv) (2 * nv)), 2 * (p_fl (wv.2.2.1 + nv) (2 * nv)), qt.2.2.2)), (ad 14, a4 ca wv), (ad 15, a4 ca (q_mirror t)), (a1, a4 ca v), (a2, a4 ca t)]) (va_runS (As := [.long (wv.2.2.2 + nv), .long (2 * nv)]) (rest := [.long 2, .int 3, .ref (ad 13)]) ⟨hx, hb, hml, hown, hts⟩ (ct_X5_floored hk l D ca H.size (wv.2.2.2 + nv) (2 * nv) (by rw [hnv]; exact hn)) (va_cwS 2 hts (lw_S q747 q748 q24 q749) rfl rfl rfl (by decide +kernel) ⟨Nat.le_of_ble_eq_true rfl, Nat.le_of_ble_eq_true rfl⟩) (k_pre hk hK hN hP hD [] (by decide) rfl trivial) rfl rfl hl.1 rfl (lv_room (Nat.le_of_ble_eq_true rfl)) dX5_divideBy_206 ⟨Nat.le_of_ble_eq_true rfl, Nat.le_of_ble_eq_true rfl⟩) hP hD hS hA [] [0, 1, 2, 3, 4, 5, 6] rfl rfl (by decide) (by decide) (fun r_136 u_137 H locs w_138 hP hD hxw_138 hzw_138 hqw_138 hS => ?_)
      obtain rfl : r_136 = p_fl (wv.2.2.2 + nv) (2 * nv) := w_138
      refine lv_lmul hx hb dX5_divideBy_209 ?_
      refine lv_goto (tgt := 235) hx hb dX5_divideBy_210 (by decide) ?_
      refine va_last hx hb hK hP hD hS 2 2 rfl rfl (vin (by decide)) dX5_divideBy_235 (fun H locs hP hD hS => ?_)
      rw [L4_s3] at hP hD
      have hP : va_P D vwCl [(o, mO ad nf mo), (ad 11, a4 ca rs), (ad 13, a4 ca (2 * (p_fl (wv.1 + nv) (2 * nv)), 2 * (p_fl (wv.2.1 + nv) (2 * nv)), 2 * (p_fl (wv.2.2.1 + nv) (2 * nv)), 2 * (p_fl (wv.2.2.2 + nv) (2 * nv)))), (ad 14, a4 ca wv), (ad 15, a4 ca (q_mirror t)), (a1, a4 ca v), (a2, a4 ca t)] H := hP
      have hD : va_D A [(o, mO ad nf mo), (ad 11, a4 ca rs), (ad 13, a4 ca (2 * (p_fl (wv.1 + nv) (2 * nv)), 2 * (p_fl (wv.2.1 + nv) (2 * nv)), 2 * (p_fl (wv.2.2.1 + nv) (2 * nv)), 2 * (p_fl (wv.2.2.2 + nv) (2 * nv)))), (ad 14, a4 ca wv), (ad 15, a4 ca (q_mirror t)), (a1, a4 ca v), (a2, a4 ca t)] := hD
      refine lv_iinc (v := 4) (lv' := [(10, .int 4), (8, .long ha_73), (6, .long wh_72), (13, .long ot_71), (11, .long of_65), (4, .long nv), (0, .ref o), (1, .ref a1), (2, .ref a2), (3, .int d0)]) hx hb dX5_divideBy_236 hl (k := 0) rfl (by decide) (by decide) rfl (fun ls hl => ?_)
      refine lv_goto (tgt := 167) hx hb dX5_divideBy_239 (by decide) ?_
      refine lv_iload hx hb dX5_divideBy_167 (lv_at hl 0 rfl) ?_
      refine lv_iconst (v := 4) hx hb dX5_divideBy_169 (by decide) ?_
      refine lv_icmp_ge (tgt := 242) hx hb dX5_divideBy_170 (by decide) (fun c_139 => ?_) (fun c_139 => absurd (by decide) c_139)
      have hw1 : wv = d_w d0 v t := by rw [hwv]; simp [d_w, c_7]
      have hq : (2 * (p_fl (wv.1 + nv) (2 * nv)), 2 * (p_fl (wv.2.1 + nv) (2 * nv)), 2 * (p_fl (wv.2.2.1 + nv) (2 * nv)), 2 * (p_fl (wv.2.2.2 + nv) (2 * nv))) = d_q d0 v t := by
        rw [d_q, ← hw1, ← hnv]
        have hz := c_76
        rw [hha_73, hwh_72, hot_71, hof_65, hha_58, hwh_57, hot_56, hof_50, hha_43, hwh_42, hot_41, hof_35, hha_28, hwh_27, hot_26, hof_20] at hz
        exact (if_neg hz).symm
      rw [hq] at hP hD
      have hP : va_P D vwCl [(o, mO ad nf mo), (ad 11, a4 ca rs), (ad 13, a4 ca (d_q d0 v t)), (ad 14, a4 ca wv), (ad 15, a4 ca (q_mirror t)), (a1, a4 ca v), (a2, a4 ca t)] H := hP
      have hD : va_D A [(o, mO ad nf mo), (ad 11, a4 ca rs), (ad 13, a4 ca (d_q d0 v t)), (ad 14, a4 ca wv), (ad 15, a4 ca (q_mirror t)), (a1, a4 ca v), (a2, a4 ca t)] := hD
      refine lv_iload_n hx hb dX5_divideBy_242 rfl (lv_at hl 9 rfl) ?_
      refine lv_if_ne (tgt := 261) hx hb dX5_divideBy_243 (by decide) (fun c_140 => ?_) (fun c_140 => absurd c_140 c_7)
      refine lv_aload_n hx hb dX5_divideBy_261 rfl (lv_at hl 6 rfl) ?_
      refine va_get (D := D) (ci := 4) (v := .ref (ad 14)) (C := RX5) (T := TX5) (N := 18) hx hb hts in_X5 hown hK hP 0 rfl rfl 14 (by decide) (hts _ q587) (fun _ h9 => h9) rfl dX5_divideBy_262 ?_
      refine lv_aload_n hx hb dX5_divideBy_265 rfl (lv_at hl 8 rfl) ?_
      refine lv_aload_n hx hb dX5_divideBy_266 rfl (lv_at hl 6 rfl) ?_
      refine va_get (D := D) (ci := 4) (v := .ref (ad 13)) (C := RX5) (T := TX5) (N := 18) hx hb hts in_X5 hown hK hP 0 rfl rfl 13 (by decide) (hts _ q586) (fun _ h9 => h9) rfl dX5_divideBy_267 ?_
      refine k_callv (wr := [(o, mO ad nf mo), (ad 11, a4 ca rs), (ad 15, a4 ca (q_mirror t)), (a1, a4 ca v)]) (va_runS (As := [.ref (ad 14), .ref a2, .ref (ad 13)]) (rest := []) ⟨hx, hb, hml, hown, hts⟩ (ct_X5_times hk l D ca H.size (ad 14) a2 (ad 13) wv t (d_q d0 v t)) (va_cwS 3 hts (lw_S q724 q725 q24 q726) rfl rfl rfl (by decide +kernel) ⟨Nat.le_of_ble_eq_true rfl, Nat.le_of_ble_eq_true rfl⟩) (k_pre hk hK hN hP hD [3, 6, 2] (by decide) rfl trivial) rfl rfl hl.1 rfl (lv_room (Nat.le_of_ble_eq_true rfl)) dX5_divideBy_270 ⟨Nat.le_of_ble_eq_true rfl, Nat.le_of_ble_eq_true rfl⟩) hP hD hS hA [3, 6, 2] [0, 1, 4, 5] rfl rfl (by decide) (by decide) (fun u_142 H locs w_143 hP hD hxw_143 hzw_143 hqw_143 hS => ?_)
      have hP : va_P D vwCl [(o, mO ad nf mo), (ad 11, a4 ca rs), (ad 15, a4 ca (q_mirror t)), (a1, a4 ca v), (ad 14, a4 ca (q_times t (d_q d0 v t))), (a2, a4 ca t), (ad 13, a4 ca (d_q d0 v t))] H := hP
      have hD : va_D A [(o, mO ad nf mo), (ad 11, a4 ca rs), (ad 15, a4 ca (q_mirror t)), (a1, a4 ca v), (ad 14, a4 ca (q_times t (d_q d0 v t))), (a2, a4 ca t), (ad 13, a4 ca (d_q d0 v t))] := hD
      have hb1 : (q_times t (d_q d0 v t)) = d_b d0 (d_q d0 v t) t := by simp [d_b, c_7]
      rw [hb1] at hP hD
      have hP : va_P D vwCl [(o, mO ad nf mo), (ad 11, a4 ca rs), (ad 15, a4 ca (q_mirror t)), (a1, a4 ca v), (ad 14, a4 ca (d_b d0 (d_q d0 v t) t)), (a2, a4 ca t), (ad 13, a4 ca (d_q d0 v t))] H := hP
      have hD : va_D A [(o, mO ad nf mo), (ad 11, a4 ca rs), (ad 15, a4 ca (q_mirror t)), (a1, a4 ca v), (ad 14, a4 ca (d_b d0 (d_q d0 v t) t)), (a2, a4 ca t), (ad 13, a4 ca (d_q d0 v t))] := hD
      refine lv_iconst (v := 0) hx hb dX5_divideBy_273 (by decide) ?_
      refine lv_istore (lv' := [(10, .int 0), (8, .long ha_73), (6, .long wh_72), (13, .long ot_71), (11, .long of_65), (4, .long nv), (0, .ref o), (1, .ref a1), (2, .ref a2), (3, .int d0)]) hx hb dX5_divideBy_274 hl (by decide) rfl (fun ls hl => ?_)
      refine lv_iload hx hb dX5_divideBy_276 (lv_at hl 0 rfl) ?_
      refine lv_iconst (v := 4) hx hb dX5_divideBy_278 (by decide) ?_
      refine lv_icmp_ge (tgt := 307) hx hb dX5_divideBy_279 (by decide) (fun c_144 => absurd c_144 (by decide)) (fun c_144 => ?_)
      refine lv_aload_n hx hb dX5_divideBy_282 rfl (lv_at hl 6 rfl) ?_
      refine va_get (D := D) (ci := 4) (v := .ref (ad 11)) (C := RX5) (T := TX5) (N := 18) hx hb hts in_X5 hown hK hP 0 rfl rfl 11 (by decide) (hts _ q584) (fun _ h9 => h9) rfl dX5_divideBy_283 ?_
      refine lv_iload hx hb dX5_divideBy_286 (lv_at hl 0 rfl) ?_
      refine lv_aload_n hx hb dX5_divideBy_288 rfl (lv_at hl 7 rfl) ?_
      refine lv_iload hx hb dX5_divideBy_289 (lv_at hl 0 rfl) ?_
      refine va_lald hx hb hK hP 3 2 rfl rfl (vin (by decide)) dX5_divideBy_291 ?_
      refine lv_topl (fun z_145 ez_145 => ?_)
      obtain rfl : z_145 = v.1 := ez_145.trans rfl
      refine lv_aload_n hx hb dX5_divideBy_292 rfl (lv_at hl 6 rfl) ?_
      refine va_get (D := D) (ci := 4) (v := .ref (ad 14)) (C := RX5) (T := TX5) (N := 18) hx hb hts in_X5 hown hK hP 0 rfl rfl 14 (by decide) (hts _ q587) (fun _ h9 => h9) rfl dX5_divideBy_293 ?_
      refine lv_iload hx hb dX5_divideBy_296 (lv_at hl 0 rfl) ?_
      refine va_lald hx hb hK hP 4 2 rfl rfl (vin (by decide)) dX5_divideBy_298 ?_
      refine lv_topl (fun z_146 ez_146 => ?_)
      obtain rfl : z_146 = (d_b d0 (d_q d0 v t) t).1 := ez_146.trans rfl
      refine lv_lsub hx hb dX5_divideBy_299 ?_
      refine va_last hx hb hK hP hD hS 1 2 rfl rfl (vin (by decide)) dX5_divideBy_300 (fun H locs hP hD hS => ?_)
      rw [L4_s0] at hP hD
      have hP : va_P D vwCl [(o, mO ad nf mo), (ad 11, a4 ca (v.1 - ((d_b d0 (d_q d0 v t) t).1), rs.2.1, rs.2.2.1, rs.2.2.2)), (ad 15, a4 ca (q_mirror t)), (a1, a4 ca v), (ad 14, a4 ca (d_b d0 (d_q d0 v t) t)), (a2, a4 ca t), (ad 13, a4 ca (d_q d0 v t))] H := hP
      have hD : va_D A [(o, mO ad nf mo), (ad 11, a4 ca (v.1 - ((d_b d0 (d_q d0 v t) t).1), rs.2.1, rs.2.2.1, rs.2.2.2)), (ad 15, a4 ca (q_mirror t)), (a1, a4 ca v), (ad 14, a4 ca (d_b d0 (d_q d0 v t) t)), (a2, a4 ca t), (ad 13, a4 ca (d_q d0 v t))] := hD
      refine lv_iinc (v := 1) (lv' := [(10, .int 1), (8, .long ha_73), (6, .long wh_72), (13, .long ot_71), (11, .long of_65), (4, .long nv), (0, .ref o), (1, .ref a1), (2, .ref a2), (3, .int d0)]) hx hb dX5_divideBy_301 hl (k := 0) rfl (by decide) (by decide) rfl (fun ls hl => ?_)
      refine lv_goto (tgt := 276) hx hb dX5_divideBy_304 (by decide) ?_
      refine lv_iload hx hb dX5_divideBy_276 (lv_at hl 0 rfl) ?_
      refine lv_iconst (v := 4) hx hb dX5_divideBy_278 (by decide) ?_
      refine lv_icmp_ge (tgt := 307) hx hb dX5_divideBy_279 (by decide) (fun c_147 => absurd c_147 (by decide)) (fun c_147 => ?_)
      refine lv_aload_n hx hb dX5_divideBy_282 rfl (lv_at hl 6 rfl) ?_
      refine va_get (D := D) (ci := 4) (v := .ref (ad 11)) (C := RX5) (T := TX5) (N := 18) hx hb hts in_X5 hown hK hP 0 rfl rfl 11 (by decide) (hts _ q584) (fun _ h9 => h9) rfl dX5_divideBy_283 ?_
      refine lv_iload hx hb dX5_divideBy_286 (lv_at hl 0 rfl) ?_
      refine lv_aload_n hx hb dX5_divideBy_288 rfl (lv_at hl 7 rfl) ?_
      refine lv_iload hx hb dX5_divideBy_289 (lv_at hl 0 rfl) ?_
      refine va_lald hx hb hK hP 3 2 rfl rfl (vin (by decide)) dX5_divideBy_291 ?_
      refine lv_topl (fun z_148 ez_148 => ?_)
      obtain rfl : z_148 = v.2.1 := ez_148.trans rfl
      refine lv_aload_n hx hb dX5_divideBy_292 rfl (lv_at hl 6 rfl) ?_
      refine va_get (D := D) (ci := 4) (v := .ref (ad 14)) (C := RX5) (T := TX5) (N := 18) hx hb hts in_X5 hown hK hP 0 rfl rfl 14 (by decide) (hts _ q587) (fun _ h9 => h9) rfl dX5_divideBy_293 ?_
      refine lv_iload hx hb dX5_divideBy_296 (lv_at hl 0 rfl) ?_
      refine va_lald hx hb hK hP 4 2 rfl rfl (vin (by decide)) dX5_divideBy_298 ?_
      refine lv_topl (fun z_149 ez_149 => ?_)
      obtain rfl : z_149 = (d_b d0 (d_q d0 v t) t).2.1 := ez_149.trans rfl
      refine lv_lsub hx hb dX5_divideBy_299 ?_
      refine va_last hx hb hK hP hD hS 1 2 rfl rfl (vin (by decide)) dX5_divideBy_300 (fun H locs hP hD hS => ?_)
      rw [L4_s1] at hP hD
      have hP : va_P D vwCl [(o, mO ad nf mo), (ad 11, a4 ca (v.1 - ((d_b d0 (d_q d0 v t) t).1), v.2.1 - ((d_b d0 (d_q d0 v t) t).2.1), rs.2.2.1, rs.2.2.2)), (ad 15, a4 ca (q_mirror t)), (a1, a4 ca v), (ad 14, a4 ca (d_b d0 (d_q d0 v t) t)), (a2, a4 ca t), (ad 13, a4 ca (d_q d0 v t))] H := hP
      have hD : va_D A [(o, mO ad nf mo), (ad 11, a4 ca (v.1 - ((d_b d0 (d_q d0 v t) t).1), v.2.1 - ((d_b d0 (d_q d0 v t) t).2.1), rs.2.2.1, rs.2.2.2)), (ad 15, a4 ca (q_mirror t)), (a1, a4 ca v), (ad 14, a4 ca (d_b d0 (d_q d0 v t) t)), (a2, a4 ca t), (ad 13, a4 ca (d_q d0 v t))] := hD
      refine lv_iinc (v := 2) (lv' := [(10, .int 2), (8, .long ha_73), (6, .long wh_72), (13, .long ot_71), (11, .long of_65), (4, .long nv), (0, .ref o), (1, .ref a1), (2, .ref a2), (3, .int d0)]) hx hb dX5_divideBy_301 hl (k := 0) rfl (by decide) (by decide) rfl (fun ls hl => ?_)
      refine lv_goto (tgt := 276) hx hb dX5_divideBy_304 (by decide) ?_
      refine lv_iload hx hb dX5_divideBy_276 (lv_at hl 0 rfl) ?_
      refine lv_iconst (v := 4) hx hb dX5_divideBy_278 (by decide) ?_
      refine lv_icmp_ge (tgt := 307) hx hb dX5_divideBy_279 (by decide) (fun c_150 => absurd c_150 (by decide)) (fun c_150 => ?_)
      refine lv_aload_n hx hb dX5_divideBy_282 rfl (lv_at hl 6 rfl) ?_
      refine va_get (D := D) (ci := 4) (v := .ref (ad 11)) (C := RX5) (T := TX5) (N := 18) hx hb hts in_X5 hown hK hP 0 rfl rfl 11 (by decide) (hts _ q584) (fun _ h9 => h9) rfl dX5_divideBy_283 ?_
      refine lv_iload hx hb dX5_divideBy_286 (lv_at hl 0 rfl) ?_
      refine lv_aload_n hx hb dX5_divideBy_288 rfl (lv_at hl 7 rfl) ?_
      refine lv_iload hx hb dX5_divideBy_289 (lv_at hl 0 rfl) ?_
      refine va_lald hx hb hK hP 3 2 rfl rfl (vin (by decide)) dX5_divideBy_291 ?_
      refine lv_topl (fun z_151 ez_151 => ?_)
      obtain rfl : z_151 = v.2.2.1 := ez_151.trans rfl
      refine lv_aload_n hx hb dX5_divideBy_292 rfl (lv_at hl 6 rfl) ?_
      refine va_get (D := D) (ci := 4) (v := .ref (ad 14)) (C := RX5) (T := TX5) (N := 18) hx hb hts in_X5 hown hK hP 0 rfl rfl 14 (by decide) (hts _ q587) (fun _ h9 => h9) rfl dX5_divideBy_293 ?_
      refine lv_iload hx hb dX5_divideBy_296 (lv_at hl 0 rfl) ?_
      refine va_lald hx hb hK hP 4 2 rfl rfl (vin (by decide)) dX5_divideBy_298 ?_
      refine lv_topl (fun z_152 ez_152 => ?_)
      obtain rfl : z_152 = (d_b d0 (d_q d0 v t) t).2.2.1 := ez_152.trans rfl
      refine lv_lsub hx hb dX5_divideBy_299 ?_
      refine va_last hx hb hK hP hD hS 1 2 rfl rfl (vin (by decide)) dX5_divideBy_300 (fun H locs hP hD hS => ?_)
      rw [L4_s2] at hP hD
      have hP : va_P D vwCl [(o, mO ad nf mo), (ad 11, a4 ca (v.1 - ((d_b d0 (d_q d0 v t) t).1), v.2.1 - ((d_b d0 (d_q d0 v t) t).2.1), v.2.2.1 - ((d_b d0 (d_q d0 v t) t).2.2.1), rs.2.2.2)), (ad 15, a4 ca (q_mirror t)), (a1, a4 ca v), (ad 14, a4 ca (d_b d0 (d_q d0 v t) t)), (a2, a4 ca t), (ad 13, a4 ca (d_q d0 v t))] H := hP
      have hD : va_D A [(o, mO ad nf mo), (ad 11, a4 ca (v.1 - ((d_b d0 (d_q d0 v t) t).1), v.2.1 - ((d_b d0 (d_q d0 v t) t).2.1), v.2.2.1 - ((d_b d0 (d_q d0 v t) t).2.2.1), rs.2.2.2)), (ad 15, a4 ca (q_mirror t)), (a1, a4 ca v), (ad 14, a4 ca (d_b d0 (d_q d0 v t) t)), (a2, a4 ca t), (ad 13, a4 ca (d_q d0 v t))] := hD
      refine lv_iinc (v := 3) (lv' := [(10, .int 3), (8, .long ha_73), (6, .long wh_72), (13, .long ot_71), (11, .long of_65), (4, .long nv), (0, .ref o), (1, .ref a1), (2, .ref a2), (3, .int d0)]) hx hb dX5_divideBy_301 hl (k := 0) rfl (by decide) (by decide) rfl (fun ls hl => ?_)
      refine lv_goto (tgt := 276) hx hb dX5_divideBy_304 (by decide) ?_
      refine lv_iload hx hb dX5_divideBy_276 (lv_at hl 0 rfl) ?_
      refine lv_iconst (v := 4) hx hb dX5_divideBy_278 (by decide) ?_
      refine lv_icmp_ge (tgt := 307) hx hb dX5_divideBy_279 (by decide) (fun c_153 => absurd c_153 (by decide)) (fun c_153 => ?_)
      refine lv_aload_n hx hb dX5_divideBy_282 rfl (lv_at hl 6 rfl) ?_
      refine va_get (D := D) (ci := 4) (v := .ref (ad 11)) (C := RX5) (T := TX5) (N := 18) hx hb hts in_X5 hown hK hP 0 rfl rfl 11 (by decide) (hts _ q584) (fun _ h9 => h9) rfl dX5_divideBy_283 ?_
      refine lv_iload hx hb dX5_divideBy_286 (lv_at hl 0 rfl) ?_
      refine lv_aload_n hx hb dX5_divideBy_288 rfl (lv_at hl 7 rfl) ?_
      refine lv_iload hx hb dX5_divideBy_289 (lv_at hl 0 rfl) ?_
      refine va_lald hx hb hK hP 3 2 rfl rfl (vin (by decide)) dX5_divideBy_291 ?_
      refine lv_topl (fun z_154 ez_154 => ?_)
      obtain rfl : z_154 = v.2.2.2 := ez_154.trans rfl
      refine lv_aload_n hx hb dX5_divideBy_292 rfl (lv_at hl 6 rfl) ?_
      refine va_get (D := D) (ci := 4) (v := .ref (ad 14)) (C := RX5) (T := TX5) (N := 18) hx hb hts in_X5 hown hK hP 0 rfl rfl 14 (by decide) (hts _ q587) (fun _ h9 => h9) rfl dX5_divideBy_293 ?_
      refine lv_iload hx hb dX5_divideBy_296 (lv_at hl 0 rfl) ?_
      refine va_lald hx hb hK hP 4 2 rfl rfl (vin (by decide)) dX5_divideBy_298 ?_
      refine lv_topl (fun z_155 ez_155 => ?_)
      obtain rfl : z_155 = (d_b d0 (d_q d0 v t) t).2.2.2 := ez_155.trans rfl
      refine lv_lsub hx hb dX5_divideBy_299 ?_
      refine va_last hx hb hK hP hD hS 1 2 rfl rfl (vin (by decide)) dX5_divideBy_300 (fun H locs hP hD hS => ?_)
      rw [L4_s3] at hP hD
      have hP : va_P D vwCl [(o, mO ad nf mo), (ad 11, a4 ca (v.1 - ((d_b d0 (d_q d0 v t) t).1), v.2.1 - ((d_b d0 (d_q d0 v t) t).2.1), v.2.2.1 - ((d_b d0 (d_q d0 v t) t).2.2.1), v.2.2.2 - ((d_b d0 (d_q d0 v t) t).2.2.2))), (ad 15, a4 ca (q_mirror t)), (a1, a4 ca v), (ad 14, a4 ca (d_b d0 (d_q d0 v t) t)), (a2, a4 ca t), (ad 13, a4 ca (d_q d0 v t))] H := hP
      have hD : va_D A [(o, mO ad nf mo), (ad 11, a4 ca (v.1 - ((d_b d0 (d_q d0 v t) t).1), v.2.1 - ((d_b d0 (d_q d0 v t) t).2.1), v.2.2.1 - ((d_b d0 (d_q d0 v t) t).2.2.1), v.2.2.2 - ((d_b d0 (d_q d0 v t) t).2.2.2))), (ad 15, a4 ca (q_mirror t)), (a1, a4 ca v), (ad 14, a4 ca (d_b d0 (d_q d0 v t) t)), (a2, a4 ca t), (ad 13, a4 ca (d_q d0 v t))] := hD
      refine lv_iinc (v := 4) (lv' := [(10, .int 4), (8, .long ha_73), (6, .long wh_72), (13, .long ot_71), (11, .long of_65), (4, .long nv), (0, .ref o), (1, .ref a1), (2, .ref a2), (3, .int d0)]) hx hb dX5_divideBy_301 hl (k := 0) rfl (by decide) (by decide) rfl (fun ls hl => ?_)
      refine lv_goto (tgt := 276) hx hb dX5_divideBy_304 (by decide) ?_
      refine lv_iload hx hb dX5_divideBy_276 (lv_at hl 0 rfl) ?_
      refine lv_iconst (v := 4) hx hb dX5_divideBy_278 (by decide) ?_
      refine lv_icmp_ge (tgt := 307) hx hb dX5_divideBy_279 (by decide) (fun c_156 => ?_) (fun c_156 => absurd (by decide) c_156)
      exact k_vret () hx hb hr hlocks (trivial) (hP.sub [0, 3, 5, 1, 6, 4, 2] rfl) (hD.sub [0, 3, 5, 1, 6, 4, 2] (by decide) rfl) trivial hS (Nat.le_of_ble_eq_true rfl) (Nat.le_of_ble_eq_true rfl) dX5_divideBy_307
  · refine lv_aload_n hx hb dX5_divideBy_19 rfl (lv_at hl 0 rfl) ?_
    refine va_get (D := D) (ci := 4) (v := .ref (ad 14)) (C := RX5) (T := TX5) (N := 18) hx hb hts in_X5 hown hK hP 0 rfl rfl 14 (by decide) (hts _ q587) (fun _ h9 => h9) rfl dX5_divideBy_20 ?_
    refine lv_aload_n hx hb dX5_divideBy_23 rfl (lv_at hl 1 rfl) ?_
    refine lv_aload_n hx hb dX5_divideBy_24 rfl (lv_at hl 0 rfl) ?_
    refine va_get (D := D) (ci := 4) (v := .ref (ad 15)) (C := RX5) (T := TX5) (N := 18) hx hb hts in_X5 hown hK hP 0 rfl rfl 15 (by decide) (hts _ q588) (fun _ h9 => h9) rfl dX5_divideBy_25 ?_
    refine k_callv (wr := [(o, mO ad nf mo), (ad 11, a4 ca rs), (ad 13, a4 ca qt), (a2, a4 ca t)]) (va_runS (As := [.ref (ad 14), .ref a1, .ref (ad 15)]) (rest := []) ⟨hx, hb, hml, hown, hts⟩ (ct_X5_times hk l D ca H.size (ad 14) a1 (ad 15) w0 v (q_mirror t)) (va_cwS 3 hts (lw_S q724 q725 q24 q726) rfl rfl rfl (by decide +kernel) ⟨Nat.le_of_ble_eq_true rfl, Nat.le_of_ble_eq_true rfl⟩) (k_pre hk hK hN hP hD [4, 1, 6] (by decide) rfl trivial) rfl rfl hl.1 rfl (lv_room (Nat.le_of_ble_eq_true rfl)) dX5_divideBy_28 ⟨Nat.le_of_ble_eq_true rfl, Nat.le_of_ble_eq_true rfl⟩) hP hD hS hA [4, 1, 6] [0, 2, 3, 5] rfl rfl (by decide) (by decide) (fun u_158 H locs w_159 hP hD hxw_159 hzw_159 hqw_159 hS => ?_)
    have hP : va_P D vwCl [(o, mO ad nf mo), (ad 11, a4 ca rs), (ad 13, a4 ca qt), (a2, a4 ca t), (ad 14, a4 ca (q_times v (q_mirror t))), (a1, a4 ca v), (ad 15, a4 ca (q_mirror t))] H := hP
    have hD : va_D A [(o, mO ad nf mo), (ad 11, a4 ca rs), (ad 13, a4 ca qt), (a2, a4 ca t), (ad 14, a4 ca (q_times v (q_mirror t))), (a1, a4 ca v), (ad 15, a4 ca (q_mirror t))] := hD
    refine lv_goto (tgt := 46) hx hb dX5_divideBy_31 (by decide) ?_
    obtain ⟨wv, hwv⟩ : ∃ z : Q4, z = (q_times v (q_mirror t)) := ⟨_, rfl⟩
    rw [← hwv] at hP hD
    have hP : va_P D vwCl [(o, mO ad nf mo), (ad 11, a4 ca rs), (ad 13, a4 ca qt), (a2, a4 ca t), (ad 14, a4 ca wv), (a1, a4 ca v), (ad 15, a4 ca (q_mirror t))] H := hP
    have hD : va_D A [(o, mO ad nf mo), (ad 11, a4 ca rs), (ad 13, a4 ca qt), (a2, a4 ca t), (ad 14, a4 ca wv), (a1, a4 ca v), (ad 15, a4 ca (q_mirror t))] := hD
    refine lv_aload_n hx hb dX5_divideBy_46 rfl (lv_at hl 2 rfl) ?_
    refine k_calll (wr := [(o, mO ad nf mo), (ad 11, a4 ca rs), (ad 13, a4 ca qt), (ad 14, a4 ca wv), (a1, a4 ca v), (ad 15, a4 ca (q_mirror t))]) (va_runS (As := [.ref a2]) (rest := []) ⟨hx, hb, hml, hown, hts⟩ (ct_X5_norm hk l D ca H.size a2 t) (va_cwS 1 hts (lw_S q698 q699 q24 q700) rfl rfl rfl (by decide +kernel) ⟨Nat.le_of_ble_eq_true rfl, Nat.le_of_ble_eq_true rfl⟩) (k_pre hk hK hN hP hD [3] (by decide) rfl trivial) rfl rfl hl.1 rfl (lv_room (Nat.le_of_ble_eq_true rfl)) dX5_divideBy_47 ⟨Nat.le_of_ble_eq_true rfl, Nat.le_of_ble_eq_true rfl⟩) hP hD hS hA [3] [0, 1, 2, 4, 5, 6] rfl rfl (by decide) (by decide) (fun r_160 u_161 H locs w_162 hP hD hxw_162 hzw_162 hqw_162 hS => ?_)
    have hP : va_P D vwCl [(o, mO ad nf mo), (ad 11, a4 ca rs), (ad 13, a4 ca qt), (ad 14, a4 ca wv), (a1, a4 ca v), (ad 15, a4 ca (q_mirror t)), (a2, a4 ca t)] H := hP
    have hD : va_D A [(o, mO ad nf mo), (ad 11, a4 ca rs), (ad 13, a4 ca qt), (ad 14, a4 ca wv), (a1, a4 ca v), (ad 15, a4 ca (q_mirror t)), (a2, a4 ca t)] := hD
    obtain rfl : r_160 = q_norm t := w_162
    refine lv_topl (fun nv hnv => ?_)
    refine lv_lstore (lv' := [(4, .long nv), (0, .ref o), (1, .ref a1), (2, .ref a2), (3, .int d0)]) hx hb dX5_divideBy_50 hl (by decide) rfl (fun ls hl => ?_)
    refine lv_lconst (v := 0) hx hb dX5_divideBy_52 (by decide) ?_
    refine lv_lstore (lv' := [(6, .long 0), (4, .long nv), (0, .ref o), (1, .ref a1), (2, .ref a2), (3, .int d0)]) hx hb dX5_divideBy_53 hl (by decide) rfl (fun ls hl => ?_)
    refine lv_lconst (v := 0) hx hb dX5_divideBy_55 (by decide) ?_
    refine lv_lstore (lv' := [(8, .long 0), (6, .long 0), (4, .long nv), (0, .ref o), (1, .ref a1), (2, .ref a2), (3, .int d0)]) hx hb dX5_divideBy_56 hl (by decide) rfl (fun ls hl => ?_)
    refine lv_iconst (v := 0) hx hb dX5_divideBy_58 (by decide) ?_
    refine lv_istore (lv' := [(10, .int 0), (8, .long 0), (6, .long 0), (4, .long nv), (0, .ref o), (1, .ref a1), (2, .ref a2), (3, .int d0)]) hx hb dX5_divideBy_59 hl (by decide) rfl (fun ls hl => ?_)
    refine lv_iload hx hb dX5_divideBy_61 (lv_at hl 0 rfl) ?_
    refine lv_iconst (v := 4) hx hb dX5_divideBy_63 (by decide) ?_
    refine lv_icmp_ge (tgt := 164) hx hb dX5_divideBy_64 (by decide) (fun c_163 => absurd c_163 (by decide)) (fun c_163 => ?_)
    refine lv_aload_n hx hb dX5_divideBy_67 rfl (lv_at hl 4 rfl) ?_
    refine va_get (D := D) (ci := 4) (v := .ref (ad 14)) (C := RX5) (T := TX5) (N := 18) hx hb hts in_X5 hown hK hP 0 rfl rfl 14 (by decide) (hts _ q587) (fun _ h9 => h9) rfl dX5_divideBy_68 ?_
    refine lv_iload hx hb dX5_divideBy_71 (lv_at hl 0 rfl) ?_
    refine va_lald hx hb hK hP 3 2 rfl rfl (vin (by decide)) dX5_divideBy_73 ?_
    refine lv_topl (fun z_164 ez_164 => ?_)
    obtain rfl : z_164 = wv.1 := ez_164.trans rfl
    refine lv_ldc2 hx hb hown (hts _ q639) dX5_divideBy_74 ?_
    refine lv_lload hx hb dX5_divideBy_77 (lv_at hl 3 rfl) ?_
    refine lv_lmul hx hb dX5_divideBy_79 ?_
    refine lv_aload_n hx hb dX5_divideBy_80 rfl (lv_at hl 4 rfl) ?_
    refine va_get (D := D) (ci := 4) (v := .ref (ad 14)) (C := RX5) (T := TX5) (N := 18) hx hb hts in_X5 hown hK hP 0 rfl rfl 14 (by decide) (hts _ q587) (fun _ h9 => h9) rfl dX5_divideBy_81 ?_
    refine lv_iload hx hb dX5_divideBy_84 (lv_at hl 0 rfl) ?_
    refine va_lald hx hb hK hP 3 2 rfl rfl (vin (by decide)) dX5_divideBy_86 ?_
    refine lv_topl (fun z_165 ez_165 => ?_)
    obtain rfl : z_165 = wv.1 := ez_165.trans rfl
    refine lv_lload hx hb dX5_divideBy_87 (lv_at hl 3 rfl) ?_
    refine lv_ladd hx hb dX5_divideBy_89 ?_
    refine lv_ldc2 hx hb hown (hts _ q639) dX5_divideBy_90 ?_
    refine lv_lload hx hb dX5_divideBy_93 (lv_at hl 3 rfl) ?_
    refine lv_lmul hx hb dX5_divideBy_95 ?_
    refine k_calll (wr := [(o, mO ad nf mo), (ad 11, a4 ca rs), (ad 13, a4 ca qt), (ad 14, a4 ca wv), (a1, a4 ca v), (ad 15, a4 ca (q_mirror t)), (a2, a4 ca t)]) (va_runS (As := [.long (wv.1 + nv), .long (2 * nv)]) (rest := [.long (2 * nv), .long wv.1]) ⟨hx, hb, hml, hown, hts⟩ (ct_X5_floored hk l D ca H.size (wv.1 + nv) (2 * nv) (by rw [hnv]; exact hn)) (va_cwS 2 hts (lw_S q747 q748 q24 q749) rfl rfl rfl (by decide +kernel) ⟨Nat.le_of_ble_eq_true rfl, Nat.le_of_ble_eq_true rfl⟩) (k_pre hk hK hN hP hD [] (by decide) rfl trivial) rfl rfl hl.1 rfl (lv_room (Nat.le_of_ble_eq_true rfl)) dX5_divideBy_96 ⟨Nat.le_of_ble_eq_true rfl, Nat.le_of_ble_eq_true rfl⟩) hP hD hS hA [] [0, 1, 2, 3, 4, 5, 6] rfl rfl (by decide) (by decide) (fun r_166 u_167 H locs w_168 hP hD hxw_168 hzw_168 hqw_168 hS => ?_)
    obtain rfl : r_166 = p_fl (wv.1 + nv) (2 * nv) := w_168
    refine lv_lmul hx hb dX5_divideBy_99 ?_
    refine lv_lsub hx hb dX5_divideBy_100 ?_
    refine lv_topl (fun of_169 hof_169 => ?_)
    refine lv_lstore (lv' := [(11, .long of_169), (10, .int 0), (8, .long 0), (6, .long 0), (4, .long nv), (0, .ref o), (1, .ref a1), (2, .ref a2), (3, .int d0)]) hx hb dX5_divideBy_101 hl (by decide) rfl (fun ls hl => ?_)
    refine lv_aload_n hx hb dX5_divideBy_103 rfl (lv_at hl 5 rfl) ?_
    refine va_get (D := D) (ci := 4) (v := .ref (ad 14)) (C := RX5) (T := TX5) (N := 18) hx hb hts in_X5 hown hK hP 0 rfl rfl 14 (by decide) (hts _ q587) (fun _ h9 => h9) rfl dX5_divideBy_104 ?_
    refine lv_iload hx hb dX5_divideBy_107 (lv_at hl 1 rfl) ?_
    refine va_lald hx hb hK hP 3 2 rfl rfl (vin (by decide)) dX5_divideBy_109 ?_
    refine lv_topl (fun z_170 ez_170 => ?_)
    obtain rfl : z_170 = wv.1 := ez_170.trans rfl
    refine lv_lload hx hb dX5_divideBy_110 (lv_at hl 4 rfl) ?_
    refine lv_ldc2 hx hb hown (hts _ q639) dX5_divideBy_112 ?_
    refine lv_aload_n hx hb dX5_divideBy_115 rfl (lv_at hl 5 rfl) ?_
    refine va_get (D := D) (ci := 4) (v := .ref (ad 14)) (C := RX5) (T := TX5) (N := 18) hx hb hts in_X5 hown hK hP 0 rfl rfl 14 (by decide) (hts _ q587) (fun _ h9 => h9) rfl dX5_divideBy_116 ?_
    refine lv_iload hx hb dX5_divideBy_119 (lv_at hl 1 rfl) ?_
    refine va_lald hx hb hK hP 3 2 rfl rfl (vin (by decide)) dX5_divideBy_121 ?_
    refine lv_topl (fun z_171 ez_171 => ?_)
    obtain rfl : z_171 = wv.1 := ez_171.trans rfl
    refine lv_ldc2 hx hb hown (hts _ q639) dX5_divideBy_122 ?_
    refine lv_lload hx hb dX5_divideBy_125 (lv_at hl 4 rfl) ?_
    refine lv_lmul hx hb dX5_divideBy_127 ?_
    refine k_calll (wr := [(o, mO ad nf mo), (ad 11, a4 ca rs), (ad 13, a4 ca qt), (ad 14, a4 ca wv), (a1, a4 ca v), (ad 15, a4 ca (q_mirror t)), (a2, a4 ca t)]) (va_runS (As := [.long wv.1, .long (2 * nv)]) (rest := [.long 2, .long nv, .long wv.1]) ⟨hx, hb, hml, hown, hts⟩ (ct_X5_floored hk l D ca H.size wv.1 (2 * nv) (by rw [hnv]; exact hn)) (va_cwS 2 hts (lw_S q747 q748 q24 q749) rfl rfl rfl (by decide +kernel) ⟨Nat.le_of_ble_eq_true rfl, Nat.le_of_ble_eq_true rfl⟩) (k_pre hk hK hN hP hD [] (by decide) rfl trivial) rfl rfl hl.1 rfl (lv_room (Nat.le_of_ble_eq_true rfl)) dX5_divideBy_128 ⟨Nat.le_of_ble_eq_true rfl, Nat.le_of_ble_eq_true rfl⟩) hP hD hS hA [] [0, 1, 2, 3, 4, 5, 6] rfl rfl (by decide) (by decide) (fun r_172 u_173 H locs w_174 hP hD hxw_174 hzw_174 hqw_174 hS => ?_)
    obtain rfl : r_172 = p_fl wv.1 (2 * nv) := w_174
    refine lv_lmul hx hb dX5_divideBy_131 ?_
    refine lv_lconst (v := 1) hx hb dX5_divideBy_132 (by decide) ?_
    refine lv_ladd hx hb dX5_divideBy_133 ?_
    refine lv_lmul hx hb dX5_divideBy_134 ?_
    refine lv_lsub hx hb dX5_divideBy_135 ?_
    refine lv_topl (fun ot_175 hot_175 => ?_)
    refine lv_lstore (lv' := [(13, .long ot_175), (11, .long of_169), (10, .int 0), (8, .long 0), (6, .long 0), (4, .long nv), (0, .ref o), (1, .ref a1), (2, .ref a2), (3, .int d0)]) hx hb dX5_divideBy_136 hl (by decide) rfl (fun ls hl => ?_)
    refine lv_lload hx hb dX5_divideBy_138 (lv_at hl 4 rfl) ?_
    refine lv_lload hx hb dX5_divideBy_140 (lv_at hl 1 rfl) ?_
    refine lv_lload hx hb dX5_divideBy_142 (lv_at hl 1 rfl) ?_
    refine lv_lmul hx hb dX5_divideBy_144 ?_
    refine lv_ladd hx hb dX5_divideBy_145 ?_
    refine lv_topl (fun wh_176 hwh_176 => ?_)
    refine lv_lstore (lv' := [(6, .long wh_176), (13, .long ot_175), (11, .long of_169), (10, .int 0), (8, .long 0), (4, .long nv), (0, .ref o), (1, .ref a1), (2, .ref a2), (3, .int d0)]) hx hb dX5_divideBy_146 hl (by decide) rfl (fun ls hl => ?_)
    refine lv_lload hx hb dX5_divideBy_148 (lv_at hl 4 rfl) ?_
    refine lv_lload hx hb dX5_divideBy_150 (lv_at hl 1 rfl) ?_
    refine lv_lload hx hb dX5_divideBy_152 (lv_at hl 1 rfl) ?_
    refine lv_lmul hx hb dX5_divideBy_154 ?_
    refine lv_ladd hx hb dX5_divideBy_155 ?_
    refine lv_topl (fun ha_177 hha_177 => ?_)
    refine lv_lstore (lv' := [(8, .long ha_177), (6, .long wh_176), (13, .long ot_175), (11, .long of_169), (10, .int 0), (4, .long nv), (0, .ref o), (1, .ref a1), (2, .ref a2), (3, .int d0)]) hx hb dX5_divideBy_156 hl (by decide) rfl (fun ls hl => ?_)
    refine lv_iinc (v := 1) (lv' := [(10, .int 1), (8, .long ha_177), (6, .long wh_176), (13, .long ot_175), (11, .long of_169), (4, .long nv), (0, .ref o), (1, .ref a1), (2, .ref a2), (3, .int d0)]) hx hb dX5_divideBy_158 hl (k := 4) rfl (by decide) (by decide) rfl (fun ls hl => ?_)
    refine lv_goto (tgt := 61) hx hb dX5_divideBy_161 (by decide) ?_
    refine lv_iload hx hb dX5_divideBy_61 (lv_at hl 0 rfl) ?_
    refine lv_iconst (v := 4) hx hb dX5_divideBy_63 (by decide) ?_
    refine lv_icmp_ge (tgt := 164) hx hb dX5_divideBy_64 (by decide) (fun c_178 => absurd c_178 (by decide)) (fun c_178 => ?_)
    refine lv_aload_n hx hb dX5_divideBy_67 rfl (lv_at hl 6 rfl) ?_
    refine va_get (D := D) (ci := 4) (v := .ref (ad 14)) (C := RX5) (T := TX5) (N := 18) hx hb hts in_X5 hown hK hP 0 rfl rfl 14 (by decide) (hts _ q587) (fun _ h9 => h9) rfl dX5_divideBy_68 ?_
    refine lv_iload hx hb dX5_divideBy_71 (lv_at hl 0 rfl) ?_
    refine va_lald hx hb hK hP 3 2 rfl rfl (vin (by decide)) dX5_divideBy_73 ?_
    refine lv_topl (fun z_179 ez_179 => ?_)
    obtain rfl : z_179 = wv.2.1 := ez_179.trans rfl
    refine lv_ldc2 hx hb hown (hts _ q639) dX5_divideBy_74 ?_
    refine lv_lload hx hb dX5_divideBy_77 (lv_at hl 5 rfl) ?_
    refine lv_lmul hx hb dX5_divideBy_79 ?_
    refine lv_aload_n hx hb dX5_divideBy_80 rfl (lv_at hl 6 rfl) ?_
    refine va_get (D := D) (ci := 4) (v := .ref (ad 14)) (C := RX5) (T := TX5) (N := 18) hx hb hts in_X5 hown hK hP 0 rfl rfl 14 (by decide) (hts _ q587) (fun _ h9 => h9) rfl dX5_divideBy_81 ?_
    refine lv_iload hx hb dX5_divideBy_84 (lv_at hl 0 rfl) ?_
    refine va_lald hx hb hK hP 3 2 rfl rfl (vin (by decide)) dX5_divideBy_86 ?_
    refine lv_topl (fun z_180 ez_180 => ?_)
    obtain rfl : z_180 = wv.2.1 := ez_180.trans rfl
    refine lv_lload hx hb dX5_divideBy_87 (lv_at hl 5 rfl) ?_
    refine lv_ladd hx hb dX5_divideBy_89 ?_
    refine lv_ldc2 hx hb hown (hts _ q639) dX5_divideBy_90 ?_
    refine lv_lload hx hb dX5_divideBy_93 (lv_at hl 5 rfl) ?_
    refine lv_lmul hx hb dX5_divideBy_95 ?_
    refine k_calll (wr := [(o, mO ad nf mo), (ad 11, a4 ca rs), (ad 13, a4 ca qt), (ad 14, a4 ca wv), (a1, a4 ca v), (ad 15, a4 ca (q_mirror t)), (a2, a4 ca t)]) (va_runS (As := [.long (wv.2.1 + nv), .long (2 * nv)]) (rest := [.long (2 * nv), .long wv.2.1]) ⟨hx, hb, hml, hown, hts⟩ (ct_X5_floored hk l D ca H.size (wv.2.1 + nv) (2 * nv) (by rw [hnv]; exact hn)) (va_cwS 2 hts (lw_S q747 q748 q24 q749) rfl rfl rfl (by decide +kernel) ⟨Nat.le_of_ble_eq_true rfl, Nat.le_of_ble_eq_true rfl⟩) (k_pre hk hK hN hP hD [] (by decide) rfl trivial) rfl rfl hl.1 rfl (lv_room (Nat.le_of_ble_eq_true rfl)) dX5_divideBy_96 ⟨Nat.le_of_ble_eq_true rfl, Nat.le_of_ble_eq_true rfl⟩) hP hD hS hA [] [0, 1, 2, 3, 4, 5, 6] rfl rfl (by decide) (by decide) (fun r_181 u_182 H locs w_183 hP hD hxw_183 hzw_183 hqw_183 hS => ?_)
    obtain rfl : r_181 = p_fl (wv.2.1 + nv) (2 * nv) := w_183
    refine lv_lmul hx hb dX5_divideBy_99 ?_
    refine lv_lsub hx hb dX5_divideBy_100 ?_
    refine lv_topl (fun of_184 hof_184 => ?_)
    refine lv_lstore (lv' := [(11, .long of_184), (10, .int 1), (8, .long ha_177), (6, .long wh_176), (13, .long ot_175), (4, .long nv), (0, .ref o), (1, .ref a1), (2, .ref a2), (3, .int d0)]) hx hb dX5_divideBy_101 hl (by decide) rfl (fun ls hl => ?_)
    refine lv_aload_n hx hb dX5_divideBy_103 rfl (lv_at hl 6 rfl) ?_
    refine va_get (D := D) (ci := 4) (v := .ref (ad 14)) (C := RX5) (T := TX5) (N := 18) hx hb hts in_X5 hown hK hP 0 rfl rfl 14 (by decide) (hts _ q587) (fun _ h9 => h9) rfl dX5_divideBy_104 ?_
    refine lv_iload hx hb dX5_divideBy_107 (lv_at hl 1 rfl) ?_
    refine va_lald hx hb hK hP 3 2 rfl rfl (vin (by decide)) dX5_divideBy_109 ?_
    refine lv_topl (fun z_185 ez_185 => ?_)
    obtain rfl : z_185 = wv.2.1 := ez_185.trans rfl
    refine lv_lload hx hb dX5_divideBy_110 (lv_at hl 5 rfl) ?_
    refine lv_ldc2 hx hb hown (hts _ q639) dX5_divideBy_112 ?_
    refine lv_aload_n hx hb dX5_divideBy_115 rfl (lv_at hl 6 rfl) ?_
    refine va_get (D := D) (ci := 4) (v := .ref (ad 14)) (C := RX5) (T := TX5) (N := 18) hx hb hts in_X5 hown hK hP 0 rfl rfl 14 (by decide) (hts _ q587) (fun _ h9 => h9) rfl dX5_divideBy_116 ?_
    refine lv_iload hx hb dX5_divideBy_119 (lv_at hl 1 rfl) ?_
    refine va_lald hx hb hK hP 3 2 rfl rfl (vin (by decide)) dX5_divideBy_121 ?_
    refine lv_topl (fun z_186 ez_186 => ?_)
    obtain rfl : z_186 = wv.2.1 := ez_186.trans rfl
    refine lv_ldc2 hx hb hown (hts _ q639) dX5_divideBy_122 ?_
    refine lv_lload hx hb dX5_divideBy_125 (lv_at hl 5 rfl) ?_
    refine lv_lmul hx hb dX5_divideBy_127 ?_
    refine k_calll (wr := [(o, mO ad nf mo), (ad 11, a4 ca rs), (ad 13, a4 ca qt), (ad 14, a4 ca wv), (a1, a4 ca v), (ad 15, a4 ca (q_mirror t)), (a2, a4 ca t)]) (va_runS (As := [.long wv.2.1, .long (2 * nv)]) (rest := [.long 2, .long nv, .long wv.2.1]) ⟨hx, hb, hml, hown, hts⟩ (ct_X5_floored hk l D ca H.size wv.2.1 (2 * nv) (by rw [hnv]; exact hn)) (va_cwS 2 hts (lw_S q747 q748 q24 q749) rfl rfl rfl (by decide +kernel) ⟨Nat.le_of_ble_eq_true rfl, Nat.le_of_ble_eq_true rfl⟩) (k_pre hk hK hN hP hD [] (by decide) rfl trivial) rfl rfl hl.1 rfl (lv_room (Nat.le_of_ble_eq_true rfl)) dX5_divideBy_128 ⟨Nat.le_of_ble_eq_true rfl, Nat.le_of_ble_eq_true rfl⟩) hP hD hS hA [] [0, 1, 2, 3, 4, 5, 6] rfl rfl (by decide) (by decide) (fun r_187 u_188 H locs w_189 hP hD hxw_189 hzw_189 hqw_189 hS => ?_)
    obtain rfl : r_187 = p_fl wv.2.1 (2 * nv) := w_189
    refine lv_lmul hx hb dX5_divideBy_131 ?_
    refine lv_lconst (v := 1) hx hb dX5_divideBy_132 (by decide) ?_
    refine lv_ladd hx hb dX5_divideBy_133 ?_
    refine lv_lmul hx hb dX5_divideBy_134 ?_
    refine lv_lsub hx hb dX5_divideBy_135 ?_
    refine lv_topl (fun ot_190 hot_190 => ?_)
    refine lv_lstore (lv' := [(13, .long ot_190), (11, .long of_184), (10, .int 1), (8, .long ha_177), (6, .long wh_176), (4, .long nv), (0, .ref o), (1, .ref a1), (2, .ref a2), (3, .int d0)]) hx hb dX5_divideBy_136 hl (by decide) rfl (fun ls hl => ?_)
    refine lv_lload hx hb dX5_divideBy_138 (lv_at hl 4 rfl) ?_
    refine lv_lload hx hb dX5_divideBy_140 (lv_at hl 1 rfl) ?_
    refine lv_lload hx hb dX5_divideBy_142 (lv_at hl 1 rfl) ?_
    refine lv_lmul hx hb dX5_divideBy_144 ?_
    refine lv_ladd hx hb dX5_divideBy_145 ?_
    refine lv_topl (fun wh_191 hwh_191 => ?_)
    refine lv_lstore (lv' := [(6, .long wh_191), (13, .long ot_190), (11, .long of_184), (10, .int 1), (8, .long ha_177), (4, .long nv), (0, .ref o), (1, .ref a1), (2, .ref a2), (3, .int d0)]) hx hb dX5_divideBy_146 hl (by decide) rfl (fun ls hl => ?_)
    refine lv_lload hx hb dX5_divideBy_148 (lv_at hl 4 rfl) ?_
    refine lv_lload hx hb dX5_divideBy_150 (lv_at hl 1 rfl) ?_
    refine lv_lload hx hb dX5_divideBy_152 (lv_at hl 1 rfl) ?_
    refine lv_lmul hx hb dX5_divideBy_154 ?_
    refine lv_ladd hx hb dX5_divideBy_155 ?_
    refine lv_topl (fun ha_192 hha_192 => ?_)
    refine lv_lstore (lv' := [(8, .long ha_192), (6, .long wh_191), (13, .long ot_190), (11, .long of_184), (10, .int 1), (4, .long nv), (0, .ref o), (1, .ref a1), (2, .ref a2), (3, .int d0)]) hx hb dX5_divideBy_156 hl (by decide) rfl (fun ls hl => ?_)
    refine lv_iinc (v := 2) (lv' := [(10, .int 2), (8, .long ha_192), (6, .long wh_191), (13, .long ot_190), (11, .long of_184), (4, .long nv), (0, .ref o), (1, .ref a1), (2, .ref a2), (3, .int d0)]) hx hb dX5_divideBy_158 hl (k := 4) rfl (by decide) (by decide) rfl (fun ls hl => ?_)
    refine lv_goto (tgt := 61) hx hb dX5_divideBy_161 (by decide) ?_
    refine lv_iload hx hb dX5_divideBy_61 (lv_at hl 0 rfl) ?_
    refine lv_iconst (v := 4) hx hb dX5_divideBy_63 (by decide) ?_
    refine lv_icmp_ge (tgt := 164) hx hb dX5_divideBy_64 (by decide) (fun c_193 => absurd c_193 (by decide)) (fun c_193 => ?_)
    refine lv_aload_n hx hb dX5_divideBy_67 rfl (lv_at hl 6 rfl) ?_
    refine va_get (D := D) (ci := 4) (v := .ref (ad 14)) (C := RX5) (T := TX5) (N := 18) hx hb hts in_X5 hown hK hP 0 rfl rfl 14 (by decide) (hts _ q587) (fun _ h9 => h9) rfl dX5_divideBy_68 ?_
    refine lv_iload hx hb dX5_divideBy_71 (lv_at hl 0 rfl) ?_
    refine va_lald hx hb hK hP 3 2 rfl rfl (vin (by decide)) dX5_divideBy_73 ?_
    refine lv_topl (fun z_194 ez_194 => ?_)
    obtain rfl : z_194 = wv.2.2.1 := ez_194.trans rfl
    refine lv_ldc2 hx hb hown (hts _ q639) dX5_divideBy_74 ?_
    refine lv_lload hx hb dX5_divideBy_77 (lv_at hl 5 rfl) ?_
    refine lv_lmul hx hb dX5_divideBy_79 ?_
    refine lv_aload_n hx hb dX5_divideBy_80 rfl (lv_at hl 6 rfl) ?_
    refine va_get (D := D) (ci := 4) (v := .ref (ad 14)) (C := RX5) (T := TX5) (N := 18) hx hb hts in_X5 hown hK hP 0 rfl rfl 14 (by decide) (hts _ q587) (fun _ h9 => h9) rfl dX5_divideBy_81 ?_
    refine lv_iload hx hb dX5_divideBy_84 (lv_at hl 0 rfl) ?_
    refine va_lald hx hb hK hP 3 2 rfl rfl (vin (by decide)) dX5_divideBy_86 ?_
    refine lv_topl (fun z_195 ez_195 => ?_)
    obtain rfl : z_195 = wv.2.2.1 := ez_195.trans rfl
    refine lv_lload hx hb dX5_divideBy_87 (lv_at hl 5 rfl) ?_
    refine lv_ladd hx hb dX5_divideBy_89 ?_
    refine lv_ldc2 hx hb hown (hts _ q639) dX5_divideBy_90 ?_
    refine lv_lload hx hb dX5_divideBy_93 (lv_at hl 5 rfl) ?_
    refine lv_lmul hx hb dX5_divideBy_95 ?_
    refine k_calll (wr := [(o, mO ad nf mo), (ad 11, a4 ca rs), (ad 13, a4 ca qt), (ad 14, a4 ca wv), (a1, a4 ca v), (ad 15, a4 ca (q_mirror t)), (a2, a4 ca t)]) (va_runS (As := [.long (wv.2.2.1 + nv), .long (2 * nv)]) (rest := [.long (2 * nv), .long wv.2.2.1]) ⟨hx, hb, hml, hown, hts⟩ (ct_X5_floored hk l D ca H.size (wv.2.2.1 + nv) (2 * nv) (by rw [hnv]; exact hn)) (va_cwS 2 hts (lw_S q747 q748 q24 q749) rfl rfl rfl (by decide +kernel) ⟨Nat.le_of_ble_eq_true rfl, Nat.le_of_ble_eq_true rfl⟩) (k_pre hk hK hN hP hD [] (by decide) rfl trivial) rfl rfl hl.1 rfl (lv_room (Nat.le_of_ble_eq_true rfl)) dX5_divideBy_96 ⟨Nat.le_of_ble_eq_true rfl, Nat.le_of_ble_eq_true rfl⟩) hP hD hS hA [] [0, 1, 2, 3, 4, 5, 6] rfl rfl (by decide) (by decide) (fun r_196 u_197 H locs w_198 hP hD hxw_198 hzw_198 hqw_198 hS => ?_)
    obtain rfl : r_196 = p_fl (wv.2.2.1 + nv) (2 * nv) := w_198
    refine lv_lmul hx hb dX5_divideBy_99 ?_
    refine lv_lsub hx hb dX5_divideBy_100 ?_
    refine lv_topl (fun of_199 hof_199 => ?_)
    refine lv_lstore (lv' := [(11, .long of_199), (10, .int 2), (8, .long ha_192), (6, .long wh_191), (13, .long ot_190), (4, .long nv), (0, .ref o), (1, .ref a1), (2, .ref a2), (3, .int d0)]) hx hb dX5_divideBy_101 hl (by decide) rfl (fun ls hl => ?_)
    refine lv_aload_n hx hb dX5_divideBy_103 rfl (lv_at hl 6 rfl) ?_
    refine va_get (D := D) (ci := 4) (v := .ref (ad 14)) (C := RX5) (T := TX5) (N := 18) hx hb hts in_X5 hown hK hP 0 rfl rfl 14 (by decide) (hts _ q587) (fun _ h9 => h9) rfl dX5_divideBy_104 ?_
    refine lv_iload hx hb dX5_divideBy_107 (lv_at hl 1 rfl) ?_
    refine va_lald hx hb hK hP 3 2 rfl rfl (vin (by decide)) dX5_divideBy_109 ?_
    refine lv_topl (fun z_200 ez_200 => ?_)
    obtain rfl : z_200 = wv.2.2.1 := ez_200.trans rfl
    refine lv_lload hx hb dX5_divideBy_110 (lv_at hl 5 rfl) ?_
    refine lv_ldc2 hx hb hown (hts _ q639) dX5_divideBy_112 ?_
    refine lv_aload_n hx hb dX5_divideBy_115 rfl (lv_at hl 6 rfl) ?_
    refine va_get (D := D) (ci := 4) (v := .ref (ad 14)) (C := RX5) (T := TX5) (N := 18) hx hb hts in_X5 hown hK hP 0 rfl rfl 14 (by decide) (hts _ q587) (fun _ h9 => h9) rfl dX5_divideBy_116 ?_
    refine lv_iload hx hb dX5_divideBy_119 (lv_at hl 1 rfl) ?_
    refine va_lald hx hb hK hP 3 2 rfl rfl (vin (by decide)) dX5_divideBy_121 ?_
    refine lv_topl (fun z_201 ez_201 => ?_)
    obtain rfl : z_201 = wv.2.2.1 := ez_201.trans rfl
    refine lv_ldc2 hx hb hown (hts _ q639) dX5_divideBy_122 ?_
    refine lv_lload hx hb dX5_divideBy_125 (lv_at hl 5 rfl) ?_
    refine lv_lmul hx hb dX5_divideBy_127 ?_
    refine k_calll (wr := [(o, mO ad nf mo), (ad 11, a4 ca rs), (ad 13, a4 ca qt), (ad 14, a4 ca wv), (a1, a4 ca v), (ad 15, a4 ca (q_mirror t)), (a2, a4 ca t)]) (va_runS (As := [.long wv.2.2.1, .long (2 * nv)]) (rest := [.long 2, .long nv, .long wv.2.2.1]) ⟨hx, hb, hml, hown, hts⟩ (ct_X5_floored hk l D ca H.size wv.2.2.1 (2 * nv) (by rw [hnv]; exact hn)) (va_cwS 2 hts (lw_S q747 q748 q24 q749) rfl rfl rfl (by decide +kernel) ⟨Nat.le_of_ble_eq_true rfl, Nat.le_of_ble_eq_true rfl⟩) (k_pre hk hK hN hP hD [] (by decide) rfl trivial) rfl rfl hl.1 rfl (lv_room (Nat.le_of_ble_eq_true rfl)) dX5_divideBy_128 ⟨Nat.le_of_ble_eq_true rfl, Nat.le_of_ble_eq_true rfl⟩) hP hD hS hA [] [0, 1, 2, 3, 4, 5, 6] rfl rfl (by decide) (by decide) (fun r_202 u_203 H locs w_204 hP hD hxw_204 hzw_204 hqw_204 hS => ?_)
    obtain rfl : r_202 = p_fl wv.2.2.1 (2 * nv) := w_204
    refine lv_lmul hx hb dX5_divideBy_131 ?_
    refine lv_lconst (v := 1) hx hb dX5_divideBy_132 (by decide) ?_
    refine lv_ladd hx hb dX5_divideBy_133 ?_
    refine lv_lmul hx hb dX5_divideBy_134 ?_
    refine lv_lsub hx hb dX5_divideBy_135 ?_
    refine lv_topl (fun ot_205 hot_205 => ?_)
    refine lv_lstore (lv' := [(13, .long ot_205), (11, .long of_199), (10, .int 2), (8, .long ha_192), (6, .long wh_191), (4, .long nv), (0, .ref o), (1, .ref a1), (2, .ref a2), (3, .int d0)]) hx hb dX5_divideBy_136 hl (by decide) rfl (fun ls hl => ?_)
    refine lv_lload hx hb dX5_divideBy_138 (lv_at hl 4 rfl) ?_
    refine lv_lload hx hb dX5_divideBy_140 (lv_at hl 1 rfl) ?_
    refine lv_lload hx hb dX5_divideBy_142 (lv_at hl 1 rfl) ?_
    refine lv_lmul hx hb dX5_divideBy_144 ?_
    refine lv_ladd hx hb dX5_divideBy_145 ?_
    refine lv_topl (fun wh_206 hwh_206 => ?_)
    refine lv_lstore (lv' := [(6, .long wh_206), (13, .long ot_205), (11, .long of_199), (10, .int 2), (8, .long ha_192), (4, .long nv), (0, .ref o), (1, .ref a1), (2, .ref a2), (3, .int d0)]) hx hb dX5_divideBy_146 hl (by decide) rfl (fun ls hl => ?_)
    refine lv_lload hx hb dX5_divideBy_148 (lv_at hl 4 rfl) ?_
    refine lv_lload hx hb dX5_divideBy_150 (lv_at hl 1 rfl) ?_
    refine lv_lload hx hb dX5_divideBy_152 (lv_at hl 1 rfl) ?_
    refine lv_lmul hx hb dX5_divideBy_154 ?_
    refine lv_ladd hx hb dX5_divideBy_155 ?_
    refine lv_topl (fun ha_207 hha_207 => ?_)
    refine lv_lstore (lv' := [(8, .long ha_207), (6, .long wh_206), (13, .long ot_205), (11, .long of_199), (10, .int 2), (4, .long nv), (0, .ref o), (1, .ref a1), (2, .ref a2), (3, .int d0)]) hx hb dX5_divideBy_156 hl (by decide) rfl (fun ls hl => ?_)
    refine lv_iinc (v := 3) (lv' := [(10, .int 3), (8, .long ha_207), (6, .long wh_206), (13, .long ot_205), (11, .long of_199), (4, .long nv), (0, .ref o), (1, .ref a1), (2, .ref a2), (3, .int d0)]) hx hb dX5_divideBy_158 hl (k := 4) rfl (by decide) (by decide) rfl (fun ls hl => ?_)
    refine lv_goto (tgt := 61) hx hb dX5_divideBy_161 (by decide) ?_
    refine lv_iload hx hb dX5_divideBy_61 (lv_at hl 0 rfl) ?_
    refine lv_iconst (v := 4) hx hb dX5_divideBy_63 (by decide) ?_
    refine lv_icmp_ge (tgt := 164) hx hb dX5_divideBy_64 (by decide) (fun c_208 => absurd c_208 (by decide)) (fun c_208 => ?_)
    refine lv_aload_n hx hb dX5_divideBy_67 rfl (lv_at hl 6 rfl) ?_
    refine va_get (D := D) (ci := 4) (v := .ref (ad 14)) (C := RX5) (T := TX5) (N := 18) hx hb hts in_X5 hown hK hP 0 rfl rfl 14 (by decide) (hts _ q587) (fun _ h9 => h9) rfl dX5_divideBy_68 ?_
    refine lv_iload hx hb dX5_divideBy_71 (lv_at hl 0 rfl) ?_
    refine va_lald hx hb hK hP 3 2 rfl rfl (vin (by decide)) dX5_divideBy_73 ?_
    refine lv_topl (fun z_209 ez_209 => ?_)
    obtain rfl : z_209 = wv.2.2.2 := ez_209.trans rfl
    refine lv_ldc2 hx hb hown (hts _ q639) dX5_divideBy_74 ?_
    refine lv_lload hx hb dX5_divideBy_77 (lv_at hl 5 rfl) ?_
    refine lv_lmul hx hb dX5_divideBy_79 ?_
    refine lv_aload_n hx hb dX5_divideBy_80 rfl (lv_at hl 6 rfl) ?_
    refine va_get (D := D) (ci := 4) (v := .ref (ad 14)) (C := RX5) (T := TX5) (N := 18) hx hb hts in_X5 hown hK hP 0 rfl rfl 14 (by decide) (hts _ q587) (fun _ h9 => h9) rfl dX5_divideBy_81 ?_
    refine lv_iload hx hb dX5_divideBy_84 (lv_at hl 0 rfl) ?_
    refine va_lald hx hb hK hP 3 2 rfl rfl (vin (by decide)) dX5_divideBy_86 ?_
    refine lv_topl (fun z_210 ez_210 => ?_)
    obtain rfl : z_210 = wv.2.2.2 := ez_210.trans rfl
    refine lv_lload hx hb dX5_divideBy_87 (lv_at hl 5 rfl) ?_
    refine lv_ladd hx hb dX5_divideBy_89 ?_
    refine lv_ldc2 hx hb hown (hts _ q639) dX5_divideBy_90 ?_
    refine lv_lload hx hb dX5_divideBy_93 (lv_at hl 5 rfl) ?_
    refine lv_lmul hx hb dX5_divideBy_95 ?_
    refine k_calll (wr := [(o, mO ad nf mo), (ad 11, a4 ca rs), (ad 13, a4 ca qt), (ad 14, a4 ca wv), (a1, a4 ca v), (ad 15, a4 ca (q_mirror t)), (a2, a4 ca t)]) (va_runS (As := [.long (wv.2.2.2 + nv), .long (2 * nv)]) (rest := [.long (2 * nv), .long wv.2.2.2]) ⟨hx, hb, hml, hown, hts⟩ (ct_X5_floored hk l D ca H.size (wv.2.2.2 + nv) (2 * nv) (by rw [hnv]; exact hn)) (va_cwS 2 hts (lw_S q747 q748 q24 q749) rfl rfl rfl (by decide +kernel) ⟨Nat.le_of_ble_eq_true rfl, Nat.le_of_ble_eq_true rfl⟩) (k_pre hk hK hN hP hD [] (by decide) rfl trivial) rfl rfl hl.1 rfl (lv_room (Nat.le_of_ble_eq_true rfl)) dX5_divideBy_96 ⟨Nat.le_of_ble_eq_true rfl, Nat.le_of_ble_eq_true rfl⟩) hP hD hS hA [] [0, 1, 2, 3, 4, 5, 6] rfl rfl (by decide) (by decide) (fun r_211 u_212 H locs w_213 hP hD hxw_213 hzw_213 hqw_213 hS => ?_)
    obtain rfl : r_211 = p_fl (wv.2.2.2 + nv) (2 * nv) := w_213
    refine lv_lmul hx hb dX5_divideBy_99 ?_
    refine lv_lsub hx hb dX5_divideBy_100 ?_
    refine lv_topl (fun of_214 hof_214 => ?_)
    refine lv_lstore (lv' := [(11, .long of_214), (10, .int 3), (8, .long ha_207), (6, .long wh_206), (13, .long ot_205), (4, .long nv), (0, .ref o), (1, .ref a1), (2, .ref a2), (3, .int d0)]) hx hb dX5_divideBy_101 hl (by decide) rfl (fun ls hl => ?_)
    refine lv_aload_n hx hb dX5_divideBy_103 rfl (lv_at hl 6 rfl) ?_
    refine va_get (D := D) (ci := 4) (v := .ref (ad 14)) (C := RX5) (T := TX5) (N := 18) hx hb hts in_X5 hown hK hP 0 rfl rfl 14 (by decide) (hts _ q587) (fun _ h9 => h9) rfl dX5_divideBy_104 ?_
    refine lv_iload hx hb dX5_divideBy_107 (lv_at hl 1 rfl) ?_
    refine va_lald hx hb hK hP 3 2 rfl rfl (vin (by decide)) dX5_divideBy_109 ?_
    refine lv_topl (fun z_215 ez_215 => ?_)
    obtain rfl : z_215 = wv.2.2.2 := ez_215.trans rfl
    refine lv_lload hx hb dX5_divideBy_110 (lv_at hl 5 rfl) ?_
    refine lv_ldc2 hx hb hown (hts _ q639) dX5_divideBy_112 ?_
    refine lv_aload_n hx hb dX5_divideBy_115 rfl (lv_at hl 6 rfl) ?_
    refine va_get (D := D) (ci := 4) (v := .ref (ad 14)) (C := RX5) (T := TX5) (N := 18) hx hb hts in_X5 hown hK hP 0 rfl rfl 14 (by decide) (hts _ q587) (fun _ h9 => h9) rfl dX5_divideBy_116 ?_
    refine lv_iload hx hb dX5_divideBy_119 (lv_at hl 1 rfl) ?_
    refine va_lald hx hb hK hP 3 2 rfl rfl (vin (by decide)) dX5_divideBy_121 ?_
    refine lv_topl (fun z_216 ez_216 => ?_)
    obtain rfl : z_216 = wv.2.2.2 := ez_216.trans rfl
    refine lv_ldc2 hx hb hown (hts _ q639) dX5_divideBy_122 ?_
    refine lv_lload hx hb dX5_divideBy_125 (lv_at hl 5 rfl) ?_
    refine lv_lmul hx hb dX5_divideBy_127 ?_
    refine k_calll (wr := [(o, mO ad nf mo), (ad 11, a4 ca rs), (ad 13, a4 ca qt), (ad 14, a4 ca wv), (a1, a4 ca v), (ad 15, a4 ca (q_mirror t)), (a2, a4 ca t)]) (va_runS (As := [.long wv.2.2.2, .long (2 * nv)]) (rest := [.long 2, .long nv, .long wv.2.2.2]) ⟨hx, hb, hml, hown, hts⟩ (ct_X5_floored hk l D ca H.size wv.2.2.2 (2 * nv) (by rw [hnv]; exact hn)) (va_cwS 2 hts (lw_S q747 q748 q24 q749) rfl rfl rfl (by decide +kernel) ⟨Nat.le_of_ble_eq_true rfl, Nat.le_of_ble_eq_true rfl⟩) (k_pre hk hK hN hP hD [] (by decide) rfl trivial) rfl rfl hl.1 rfl (lv_room (Nat.le_of_ble_eq_true rfl)) dX5_divideBy_128 ⟨Nat.le_of_ble_eq_true rfl, Nat.le_of_ble_eq_true rfl⟩) hP hD hS hA [] [0, 1, 2, 3, 4, 5, 6] rfl rfl (by decide) (by decide) (fun r_217 u_218 H locs w_219 hP hD hxw_219 hzw_219 hqw_219 hS => ?_)
    obtain rfl : r_217 = p_fl wv.2.2.2 (2 * nv) := w_219
    refine lv_lmul hx hb dX5_divideBy_131 ?_
    refine lv_lconst (v := 1) hx hb dX5_divideBy_132 (by decide) ?_
    refine lv_ladd hx hb dX5_divideBy_133 ?_
    refine lv_lmul hx hb dX5_divideBy_134 ?_
    refine lv_lsub hx hb dX5_divideBy_135 ?_
    refine lv_topl (fun ot_220 hot_220 => ?_)
    refine lv_lstore (lv' := [(13, .long ot_220), (11, .long of_214), (10, .int 3), (8, .long ha_207), (6, .long wh_206), (4, .long nv), (0, .ref o), (1, .ref a1), (2, .ref a2), (3, .int d0)]) hx hb dX5_divideBy_136 hl (by decide) rfl (fun ls hl => ?_)
    refine lv_lload hx hb dX5_divideBy_138 (lv_at hl 4 rfl) ?_
    refine lv_lload hx hb dX5_divideBy_140 (lv_at hl 1 rfl) ?_
    refine lv_lload hx hb dX5_divideBy_142 (lv_at hl 1 rfl) ?_
    refine lv_lmul hx hb dX5_divideBy_144 ?_
    refine lv_ladd hx hb dX5_divideBy_145 ?_
    refine lv_topl (fun wh_221 hwh_221 => ?_)
    refine lv_lstore (lv' := [(6, .long wh_221), (13, .long ot_220), (11, .long of_214), (10, .int 3), (8, .long ha_207), (4, .long nv), (0, .ref o), (1, .ref a1), (2, .ref a2), (3, .int d0)]) hx hb dX5_divideBy_146 hl (by decide) rfl (fun ls hl => ?_)
    refine lv_lload hx hb dX5_divideBy_148 (lv_at hl 4 rfl) ?_
    refine lv_lload hx hb dX5_divideBy_150 (lv_at hl 1 rfl) ?_
    refine lv_lload hx hb dX5_divideBy_152 (lv_at hl 1 rfl) ?_
    refine lv_lmul hx hb dX5_divideBy_154 ?_
    refine lv_ladd hx hb dX5_divideBy_155 ?_
    refine lv_topl (fun ha_222 hha_222 => ?_)
    refine lv_lstore (lv' := [(8, .long ha_222), (6, .long wh_221), (13, .long ot_220), (11, .long of_214), (10, .int 3), (4, .long nv), (0, .ref o), (1, .ref a1), (2, .ref a2), (3, .int d0)]) hx hb dX5_divideBy_156 hl (by decide) rfl (fun ls hl => ?_)
    refine lv_iinc (v := 4) (lv' := [(10, .int 4), (8, .long ha_222), (6, .long wh_221), (13, .long ot_220), (11, .long of_214), (4, .long nv), (0, .ref o), (1, .ref a1), (2, .ref a2), (3, .int d0)]) hx hb dX5_divideBy_158 hl (k := 4) rfl (by decide) (by decide) rfl (fun ls hl => ?_)
    refine lv_goto (tgt := 61) hx hb dX5_divideBy_161 (by decide) ?_
    refine lv_iload hx hb dX5_divideBy_61 (lv_at hl 0 rfl) ?_
    refine lv_iconst (v := 4) hx hb dX5_divideBy_63 (by decide) ?_
    refine lv_icmp_ge (tgt := 164) hx hb dX5_divideBy_64 (by decide) (fun c_223 => ?_) (fun c_223 => absurd (by decide) c_223)
    refine lv_iconst (v := 0) hx hb dX5_divideBy_164 (by decide) ?_
    refine lv_istore (lv' := [(10, .int 0), (8, .long ha_222), (6, .long wh_221), (13, .long ot_220), (11, .long of_214), (4, .long nv), (0, .ref o), (1, .ref a1), (2, .ref a2), (3, .int d0)]) hx hb dX5_divideBy_165 hl (by decide) rfl (fun ls hl => ?_)
    refine lv_iload hx hb dX5_divideBy_167 (lv_at hl 0 rfl) ?_
    refine lv_iconst (v := 4) hx hb dX5_divideBy_169 (by decide) ?_
    refine lv_icmp_ge (tgt := 242) hx hb dX5_divideBy_170 (by decide) (fun c_224 => absurd c_224 (by decide)) (fun c_224 => ?_)
    refine lv_aload_n hx hb dX5_divideBy_173 rfl (lv_at hl 6 rfl) ?_
    refine va_get (D := D) (ci := 4) (v := .ref (ad 13)) (C := RX5) (T := TX5) (N := 18) hx hb hts in_X5 hown hK hP 0 rfl rfl 13 (by decide) (hts _ q586) (fun _ h9 => h9) rfl dX5_divideBy_174 ?_
    refine lv_iload hx hb dX5_divideBy_177 (lv_at hl 0 rfl) ?_
    refine lv_lload hx hb dX5_divideBy_179 (lv_at hl 2 rfl) ?_
    refine lv_lload hx hb dX5_divideBy_181 (lv_at hl 1 rfl) ?_
    refine k_lc_gt (tgt := 213) hx hb dX5_divideBy_183 dX5_divideBy_184 (by decide) (fun c_225 => ?_) (fun c_225 => ?_)
    · refine lv_ldc2 hx hb hown (hts _ q639) dX5_divideBy_213 ?_
      refine lv_aload_n hx hb dX5_divideBy_216 rfl (lv_at hl 6 rfl) ?_
      refine va_get (D := D) (ci := 4) (v := .ref (ad 14)) (C := RX5) (T := TX5) (N := 18) hx hb hts in_X5 hown hK hP 0 rfl rfl 14 (by decide) (hts _ q587) (fun _ h9 => h9) rfl dX5_divideBy_217 ?_
      refine lv_iload hx hb dX5_divideBy_220 (lv_at hl 0 rfl) ?_
      refine va_lald hx hb hK hP 3 2 rfl rfl (vin (by decide)) dX5_divideBy_222 ?_
      refine lv_topl (fun z_226 ez_226 => ?_)
      obtain rfl : z_226 = wv.1 := ez_226.trans rfl
      refine lv_ldc2 hx hb hown (hts _ q639) dX5_divideBy_223 ?_
      refine lv_lload hx hb dX5_divideBy_226 (lv_at hl 5 rfl) ?_
      refine lv_lmul hx hb dX5_divideBy_228 ?_
      refine k_calll (wr := [(o, mO ad nf mo), (ad 11, a4 ca rs), (ad 13, a4 ca qt), (ad 14, a4 ca wv), (a1, a4 ca v), (ad 15, a4 ca (q_mirror t)), (a2, a4 ca t)]) (va_runS (As := [.long wv.1, .long (2 * nv)]) (rest := [.long 2, .int 0, .ref (ad 13)]) ⟨hx, hb, hml, hown, hts⟩ (ct_X5_floored hk l D ca H.size wv.1 (2 * nv) (by rw [hnv]; exact hn)) (va_cwS 2 hts (lw_S q747 q748 q24 q749) rfl rfl rfl (by decide +kernel) ⟨Nat.le_of_ble_eq_true rfl, Nat.le_of_ble_eq_true rfl⟩) (k_pre hk hK hN hP hD [] (by decide) rfl trivial) rfl rfl hl.1 rfl (lv_room (Nat.le_of_ble_eq_true rfl)) dX5_divideBy_229 ⟨Nat.le_of_ble_eq_true rfl, Nat.le_of_ble_eq_true rfl⟩) hP hD hS hA [] [0, 1, 2, 3, 4, 5, 6] rfl rfl (by decide) (by decide) (fun r_227 u_228 H locs w_229 hP hD hxw_229 hzw_229 hqw_229 hS => ?_)
      obtain rfl : r_227 = p_fl wv.1 (2 * nv) := w_229
      refine lv_lmul hx hb dX5_divideBy_232 ?_
      refine lv_lconst (v := 1) hx hb dX5_divideBy_233 (by decide) ?_
      refine lv_ladd hx hb dX5_divideBy_234 ?_
      refine va_last hx hb hK hP hD hS 2 2 rfl rfl (vin (by decide)) dX5_divideBy_235 (fun H locs hP hD hS => ?_)
      rw [L4_s0] at hP hD
      have hP : va_P D vwCl [(o, mO ad nf mo), (ad 11, a4 ca rs), (ad 13, a4 ca ((2 * (p_fl wv.1 (2 * nv))) + 1, qt.2.1, qt.2.2.1, qt.2.2.2)), (ad 14, a4 ca wv), (a1, a4 ca v), (ad 15, a4 ca (q_mirror t)), (a2, a4 ca t)] H := hP
      have hD : va_D A [(o, mO ad nf mo), (ad 11, a4 ca rs), (ad 13, a4 ca ((2 * (p_fl wv.1 (2 * nv))) + 1, qt.2.1, qt.2.2.1, qt.2.2.2)), (ad 14, a4 ca wv), (a1, a4 ca v), (ad 15, a4 ca (q_mirror t)), (a2, a4 ca t)] := hD
      refine lv_iinc (v := 1) (lv' := [(10, .int 1), (8, .long ha_222), (6, .long wh_221), (13, .long ot_220), (11, .long of_214), (4, .long nv), (0, .ref o), (1, .ref a1), (2, .ref a2), (3, .int d0)]) hx hb dX5_divideBy_236 hl (k := 0) rfl (by decide) (by decide) rfl (fun ls hl => ?_)
      refine lv_goto (tgt := 167) hx hb dX5_divideBy_239 (by decide) ?_
      refine lv_iload hx hb dX5_divideBy_167 (lv_at hl 0 rfl) ?_
      refine lv_iconst (v := 4) hx hb dX5_divideBy_169 (by decide) ?_
      refine lv_icmp_ge (tgt := 242) hx hb dX5_divideBy_170 (by decide) (fun c_230 => absurd c_230 (by decide)) (fun c_230 => ?_)
      refine lv_aload_n hx hb dX5_divideBy_173 rfl (lv_at hl 6 rfl) ?_
      refine va_get (D := D) (ci := 4) (v := .ref (ad 13)) (C := RX5) (T := TX5) (N := 18) hx hb hts in_X5 hown hK hP 0 rfl rfl 13 (by decide) (hts _ q586) (fun _ h9 => h9) rfl dX5_divideBy_174 ?_
      refine lv_iload hx hb dX5_divideBy_177 (lv_at hl 0 rfl) ?_
      refine lv_lload hx hb dX5_divideBy_179 (lv_at hl 2 rfl) ?_
      refine lv_lload hx hb dX5_divideBy_181 (lv_at hl 1 rfl) ?_
      refine k_lc_gt (tgt := 213) hx hb dX5_divideBy_183 dX5_divideBy_184 (by decide) (fun c_231 => ?_) (fun c_231 => absurd c_225 c_231)
      refine lv_ldc2 hx hb hown (hts _ q639) dX5_divideBy_213 ?_
      refine lv_aload_n hx hb dX5_divideBy_216 rfl (lv_at hl 6 rfl) ?_
      refine va_get (D := D) (ci := 4) (v := .ref (ad 14)) (C := RX5) (T := TX5) (N := 18) hx hb hts in_X5 hown hK hP 0 rfl rfl 14 (by decide) (hts _ q587) (fun _ h9 => h9) rfl dX5_divideBy_217 ?_
      refine lv_iload hx hb dX5_divideBy_220 (lv_at hl 0 rfl) ?_
      refine va_lald hx hb hK hP 3 2 rfl rfl (vin (by decide)) dX5_divideBy_222 ?_
      refine lv_topl (fun z_232 ez_232 => ?_)
      obtain rfl : z_232 = wv.2.1 := ez_232.trans rfl
      refine lv_ldc2 hx hb hown (hts _ q639) dX5_divideBy_223 ?_
      refine lv_lload hx hb dX5_divideBy_226 (lv_at hl 5 rfl) ?_
      refine lv_lmul hx hb dX5_divideBy_228 ?_
      refine k_calll (wr := [(o, mO ad nf mo), (ad 11, a4 ca rs), (ad 13, a4 ca ((2 * (p_fl wv.1 (2 * nv))) + 1, qt.2.1, qt.2.2.1, qt.2.2.2)), (ad 14, a4 ca wv), (a1, a4 ca v), (ad 15, a4 ca (q_mirror t)), (a2, a4 ca t)]) (va_runS (As := [.long wv.2.1, .long (2 * nv)]) (rest := [.long 2, .int 1, .ref (ad 13)]) ⟨hx, hb, hml, hown, hts⟩ (ct_X5_floored hk l D ca H.size wv.2.1 (2 * nv) (by rw [hnv]; exact hn)) (va_cwS 2 hts (lw_S q747 q748 q24 q749) rfl rfl rfl (by decide +kernel) ⟨Nat.le_of_ble_eq_true rfl, Nat.le_of_ble_eq_true rfl⟩) (k_pre hk hK hN hP hD [] (by decide) rfl trivial) rfl rfl hl.1 rfl (lv_room (Nat.le_of_ble_eq_true rfl)) dX5_divideBy_229 ⟨Nat.le_of_ble_eq_true rfl, Nat.le_of_ble_eq_true rfl⟩) hP hD hS hA [] [0, 1, 2, 3, 4, 5, 6] rfl rfl (by decide) (by decide) (fun r_233 u_234 H locs w_235 hP hD hxw_235 hzw_235 hqw_235 hS => ?_)
      obtain rfl : r_233 = p_fl wv.2.1 (2 * nv) := w_235
      refine lv_lmul hx hb dX5_divideBy_232 ?_
      refine lv_lconst (v := 1) hx hb dX5_divideBy_233 (by decide) ?_
      refine lv_ladd hx hb dX5_divideBy_234 ?_
      refine va_last hx hb hK hP hD hS 2 2 rfl rfl (vin (by decide)) dX5_divideBy_235 (fun H locs hP hD hS => ?_)
      rw [L4_s1] at hP hD
      have hP : va_P D vwCl [(o, mO ad nf mo), (ad 11, a4 ca rs), (ad 13, a4 ca ((2 * (p_fl wv.1 (2 * nv))) + 1, (2 * (p_fl wv.2.1 (2 * nv))) + 1, qt.2.2.1, qt.2.2.2)), (ad 14, a4 ca wv), (a1, a4 ca v), (ad 15, a4 ca (q_mirror t)), (a2, a4 ca t)] H := hP
      have hD : va_D A [(o, mO ad nf mo), (ad 11, a4 ca rs), (ad 13, a4 ca ((2 * (p_fl wv.1 (2 * nv))) + 1, (2 * (p_fl wv.2.1 (2 * nv))) + 1, qt.2.2.1, qt.2.2.2)), (ad 14, a4 ca wv), (a1, a4 ca v), (ad 15, a4 ca (q_mirror t)), (a2, a4 ca t)] := hD
      refine lv_iinc (v := 2) (lv' := [(10, .int 2), (8, .long ha_222), (6, .long wh_221), (13, .long ot_220), (11, .long of_214), (4, .long nv), (0, .ref o), (1, .ref a1), (2, .ref a2), (3, .int d0)]) hx hb dX5_divideBy_236 hl (k := 0) rfl (by decide) (by decide) rfl (fun ls hl => ?_)
      refine lv_goto (tgt := 167) hx hb dX5_divideBy_239 (by decide) ?_
      refine lv_iload hx hb dX5_divideBy_167 (lv_at hl 0 rfl) ?_
      refine lv_iconst (v := 4) hx hb dX5_divideBy_169 (by decide) ?_
      refine lv_icmp_ge (tgt := 242) hx hb dX5_divideBy_170 (by decide) (fun c_236 => absurd c_236 (by decide)) (fun c_236 => ?_)
      refine lv_aload_n hx hb dX5_divideBy_173 rfl (lv_at hl 6 rfl) ?_
      refine va_get (D := D) (ci := 4) (v := .ref (ad 13)) (C := RX5) (T := TX5) (N := 18) hx hb hts in_X5 hown hK hP 0 rfl rfl 13 (by decide) (hts _ q586) (fun _ h9 => h9) rfl dX5_divideBy_174 ?_
      refine lv_iload hx hb dX5_divideBy_177 (lv_at hl 0 rfl) ?_
      refine lv_lload hx hb dX5_divideBy_179 (lv_at hl 2 rfl) ?_
      refine lv_lload hx hb dX5_divideBy_181 (lv_at hl 1 rfl) ?_
      refine k_lc_gt (tgt := 213) hx hb dX5_divideBy_183 dX5_divideBy_184 (by decide) (fun c_237 => ?_) (fun c_237 => absurd c_225 c_237)
      refine lv_ldc2 hx hb hown (hts _ q639) dX5_divideBy_213 ?_
      refine lv_aload_n hx hb dX5_divideBy_216 rfl (lv_at hl 6 rfl) ?_
      refine va_get (D := D) (ci := 4) (v := .ref (ad 14)) (C := RX5) (T := TX5) (N := 18) hx hb hts in_X5 hown hK hP 0 rfl rfl 14 (by decide) (hts _ q587) (fun _ h9 => h9) rfl dX5_divideBy_217 ?_
      refine lv_iload hx hb dX5_divideBy_220 (lv_at hl 0 rfl) ?_
      refine va_lald hx hb hK hP 3 2 rfl rfl (vin (by decide)) dX5_divideBy_222 ?_
      refine lv_topl (fun z_238 ez_238 => ?_)
      obtain rfl : z_238 = wv.2.2.1 := ez_238.trans rfl
      refine lv_ldc2 hx hb hown (hts _ q639) dX5_divideBy_223 ?_
      refine lv_lload hx hb dX5_divideBy_226 (lv_at hl 5 rfl) ?_
      refine lv_lmul hx hb dX5_divideBy_228 ?_
      refine k_calll (wr := [(o, mO ad nf mo), (ad 11, a4 ca rs), (ad 13, a4 ca ((2 * (p_fl wv.1 (2 * nv))) + 1, (2 * (p_fl wv.2.1 (2 * nv))) + 1, qt.2.2.1, qt.2.2.2)), (ad 14, a4 ca wv), (a1, a4 ca v), (ad 15, a4 ca (q_mirror t)), (a2, a4 ca t)]) (va_runS (As := [.long wv.2.2.1, .long (2 * nv)]) (rest := [.long 2, .int 2, .ref (ad 13)]) ⟨hx, hb, hml, hown, hts⟩ (ct_X5_floored hk l D ca H.size wv.2.2.1 (2 * nv) (by rw [hnv]; exact hn)) (va_cwS 2 hts (lw_S q747 q748 q24 q749) rfl rfl rfl (by decide +kernel) ⟨Nat.le_of_ble_eq_true rfl, Nat.le_of_ble_eq_true rfl⟩) (k_pre hk hK hN hP hD [] (by decide) rfl trivial) rfl rfl hl.1 rfl (lv_room (Nat.le_of_ble_eq_true rfl)) dX5_divideBy_229 ⟨Nat.le_of_ble_eq_true rfl, Nat.le_of_ble_eq_true rfl⟩) hP hD hS hA [] [0, 1, 2, 3, 4, 5, 6] rfl rfl (by decide) (by decide) (fun r_239 u_240 H locs w_241 hP hD hxw_241 hzw_241 hqw_241 hS => ?_)
      obtain rfl : r_239 = p_fl wv.2.2.1 (2 * nv) := w_241
      refine lv_lmul hx hb dX5_divideBy_232 ?_
      refine lv_lconst (v := 1) hx hb dX5_divideBy_233 (by decide) ?_
      refine lv_ladd hx hb dX5_divideBy_234 ?_
      refine va_last hx hb hK hP hD hS 2 2 rfl rfl (vin (by decide)) dX5_divideBy_235 (fun H locs hP hD hS => ?_)
      rw [L4_s2] at hP hD
      have hP : va_P D vwCl [(o, mO ad nf mo), (ad 11, a4 ca rs), (ad 13, a4 ca ((2 * (p_fl wv.1 (2 * nv))) + 1, (2 * (p_fl wv.2.1 (2 * nv))) + 1, (2 * (p_fl wv.2.2.1 (2 * nv))) + 1, qt.2.2.2)), (ad 14, a4 ca wv), (a1, a4 ca v), (ad 15, a4 ca (q_mirror t)), (a2, a4 ca t)] H := hP
      have hD : va_D A [(o, mO ad nf mo), (ad 11, a4 ca rs), (ad 13, a4 ca ((2 * (p_fl wv.1 (2 * nv))) + 1, (2 * (p_fl wv.2.1 (2 * nv))) + 1, (2 * (p_fl wv.2.2.1 (2 * nv))) + 1, qt.2.2.2)), (ad 14, a4 ca wv), (a1, a4 ca v), (ad 15, a4 ca (q_mirror t)), (a2, a4 ca t)] := hD
      refine lv_iinc (v := 3) (lv' := [(10, .int 3), (8, .long ha_222), (6, .long wh_221), (13, .long ot_220), (11, .long of_214), (4, .long nv), (0, .ref o), (1, .ref a1), (2, .ref a2), (3, .int d0)]) hx hb dX5_divideBy_236 hl (k := 0) rfl (by decide) (by decide) rfl (fun ls hl => ?_)
      refine lv_goto (tgt := 167) hx hb dX5_divideBy_239 (by decide) ?_
      refine lv_iload hx hb dX5_divideBy_167 (lv_at hl 0 rfl) ?_
      refine lv_iconst (v := 4) hx hb dX5_divideBy_169 (by decide) ?_
      refine lv_icmp_ge (tgt := 242) hx hb dX5_divideBy_170 (by decide) (fun c_242 => absurd c_242 (by decide)) (fun c_242 => ?_)
      refine lv_aload_n hx hb dX5_divideBy_173 rfl (lv_at hl 6 rfl) ?_
      refine va_get (D := D) (ci := 4) (v := .ref (ad 13)) (C := RX5) (T := TX5) (N := 18) hx hb hts in_X5 hown hK hP 0 rfl rfl 13 (by decide) (hts _ q586) (fun _ h9 => h9) rfl dX5_divideBy_174 ?_
      refine lv_iload hx hb dX5_divideBy_177 (lv_at hl 0 rfl) ?_
      refine lv_lload hx hb dX5_divideBy_179 (lv_at hl 2 rfl) ?_
      refine lv_lload hx hb dX5_divideBy_181 (lv_at hl 1 rfl) ?_
      refine k_lc_gt (tgt := 213) hx hb dX5_divideBy_183 dX5_divideBy_184 (by decide) (fun c_243 => ?_) (fun c_243 => absurd c_225 c_243)
      refine lv_ldc2 hx hb hown (hts _ q639) dX5_divideBy_213 ?_
      refine lv_aload_n hx hb dX5_divideBy_216 rfl (lv_at hl 6 rfl) ?_
      refine va_get (D := D) (ci := 4) (v := .ref (ad 14)) (C := RX5) (T := TX5) (N := 18) hx hb hts in_X5 hown hK hP 0 rfl rfl 14 (by decide) (hts _ q587) (fun _ h9 => h9) rfl dX5_divideBy_217 ?_
      refine lv_iload hx hb dX5_divideBy_220 (lv_at hl 0 rfl) ?_
      refine va_lald hx hb hK hP 3 2 rfl rfl (vin (by decide)) dX5_divideBy_222 ?_
      refine lv_topl (fun z_244 ez_244 => ?_)
      obtain rfl : z_244 = wv.2.2.2 := ez_244.trans rfl
      refine lv_ldc2 hx hb hown (hts _ q639) dX5_divideBy_223 ?_
      refine lv_lload hx hb dX5_divideBy_226 (lv_at hl 5 rfl) ?_
      refine lv_lmul hx hb dX5_divideBy_228 ?_
      refine k_calll (wr := [(o, mO ad nf mo), (ad 11, a4 ca rs), (ad 13, a4 ca ((2 * (p_fl wv.1 (2 * nv))) + 1, (2 * (p_fl wv.2.1 (2 * nv))) + 1, (2 * (p_fl wv.2.2.1 (2 * nv))) + 1, qt.2.2.2)), (ad 14, a4 ca wv), (a1, a4 ca v), (ad 15, a4 ca (q_mirror t)), (a2, a4 ca t)]) (va_runS (As := [.long wv.2.2.2, .long (2 * nv)]) (rest := [.long 2, .int 3, .ref (ad 13)]) ⟨hx, hb, hml, hown, hts⟩ (ct_X5_floored hk l D ca H.size wv.2.2.2 (2 * nv) (by rw [hnv]; exact hn)) (va_cwS 2 hts (lw_S q747 q748 q24 q749) rfl rfl rfl (by decide +kernel) ⟨Nat.le_of_ble_eq_true rfl, Nat.le_of_ble_eq_true rfl⟩) (k_pre hk hK hN hP hD [] (by decide) rfl trivial) rfl rfl hl.1 rfl (lv_room (Nat.le_of_ble_eq_true rfl)) dX5_divideBy_229 ⟨Nat.le_of_ble_eq_true rfl, Nat.le_of_ble_eq_true rfl⟩) hP hD hS hA [] [0, 1, 2, 3, 4, 5, 6] rfl rfl (by decide) (by decide) (fun r_245 u_246 H locs w_247 hP hD hxw_247 hzw_247 hqw_247 hS => ?_)
      obtain rfl : r_245 = p_fl wv.2.2.2 (2 * nv) := w_247
      refine lv_lmul hx hb dX5_divideBy_232 ?_
      refine lv_lconst (v := 1) hx hb dX5_divideBy_233 (by decide) ?_
      refine lv_ladd hx hb dX5_divideBy_234 ?_
      refine va_last hx hb hK hP hD hS 2 2 rfl rfl (vin (by decide)) dX5_divideBy_235 (fun H locs hP hD hS => ?_)
      rw [L4_s3] at hP hD
      have hP : va_P D vwCl [(o, mO ad nf mo), (ad 11, a4 ca rs), (ad 13, a4 ca ((2 * (p_fl wv.1 (2 * nv))) + 1, (2 * (p_fl wv.2.1 (2 * nv))) + 1, (2 * (p_fl wv.2.2.1 (2 * nv))) + 1, (2 * (p_fl wv.2.2.2 (2 * nv))) + 1)), (ad 14, a4 ca wv), (a1, a4 ca v), (ad 15, a4 ca (q_mirror t)), (a2, a4 ca t)] H := hP
      have hD : va_D A [(o, mO ad nf mo), (ad 11, a4 ca rs), (ad 13, a4 ca ((2 * (p_fl wv.1 (2 * nv))) + 1, (2 * (p_fl wv.2.1 (2 * nv))) + 1, (2 * (p_fl wv.2.2.1 (2 * nv))) + 1, (2 * (p_fl wv.2.2.2 (2 * nv))) + 1)), (ad 14, a4 ca wv), (a1, a4 ca v), (ad 15, a4 ca (q_mirror t)), (a2, a4 ca t)] := hD
      refine lv_iinc (v := 4) (lv' := [(10, .int 4), (8, .long ha_222), (6, .long wh_221), (13, .long ot_220), (11, .long of_214), (4, .long nv), (0, .ref o), (1, .ref a1), (2, .ref a2), (3, .int d0)]) hx hb dX5_divideBy_236 hl (k := 0) rfl (by decide) (by decide) rfl (fun ls hl => ?_)
      refine lv_goto (tgt := 167) hx hb dX5_divideBy_239 (by decide) ?_
      refine lv_iload hx hb dX5_divideBy_167 (lv_at hl 0 rfl) ?_
      refine lv_iconst (v := 4) hx hb dX5_divideBy_169 (by decide) ?_
      refine lv_icmp_ge (tgt := 242) hx hb dX5_divideBy_170 (by decide) (fun c_248 => ?_) (fun c_248 => absurd (by decide) c_248)
      have hw1 : wv = d_w d0 v t := by rw [hwv]; simp [d_w, c_7]
      have hq : ((2 * (p_fl wv.1 (2 * nv))) + 1, (2 * (p_fl wv.2.1 (2 * nv))) + 1, (2 * (p_fl wv.2.2.1 (2 * nv))) + 1, (2 * (p_fl wv.2.2.2 (2 * nv))) + 1) = d_q d0 v t := by
        rw [d_q, ← hw1, ← hnv]
        have hz := c_225
        rw [hha_222, hwh_221, hot_220, hof_214, hha_207, hwh_206, hot_205, hof_199, hha_192, hwh_191, hot_190, hof_184, hha_177, hwh_176, hot_175, hof_169] at hz
        exact (if_pos hz).symm
      rw [hq] at hP hD
      have hP : va_P D vwCl [(o, mO ad nf mo), (ad 11, a4 ca rs), (ad 13, a4 ca (d_q d0 v t)), (ad 14, a4 ca wv), (a1, a4 ca v), (ad 15, a4 ca (q_mirror t)), (a2, a4 ca t)] H := hP
      have hD : va_D A [(o, mO ad nf mo), (ad 11, a4 ca rs), (ad 13, a4 ca (d_q d0 v t)), (ad 14, a4 ca wv), (a1, a4 ca v), (ad 15, a4 ca (q_mirror t)), (a2, a4 ca t)] := hD
      refine lv_iload_n hx hb dX5_divideBy_242 rfl (lv_at hl 9 rfl) ?_
      refine lv_if_ne (tgt := 261) hx hb dX5_divideBy_243 (by decide) (fun c_249 => absurd c_7 c_249) (fun c_249 => ?_)
      refine lv_aload_n hx hb dX5_divideBy_246 rfl (lv_at hl 6 rfl) ?_
      refine va_get (D := D) (ci := 4) (v := .ref (ad 14)) (C := RX5) (T := TX5) (N := 18) hx hb hts in_X5 hown hK hP 0 rfl rfl 14 (by decide) (hts _ q587) (fun _ h9 => h9) rfl dX5_divideBy_247 ?_
      refine lv_aload_n hx hb dX5_divideBy_250 rfl (lv_at hl 6 rfl) ?_
      refine va_get (D := D) (ci := 4) (v := .ref (ad 13)) (C := RX5) (T := TX5) (N := 18) hx hb hts in_X5 hown hK hP 0 rfl rfl 13 (by decide) (hts _ q586) (fun _ h9 => h9) rfl dX5_divideBy_251 ?_
      refine lv_aload_n hx hb dX5_divideBy_254 rfl (lv_at hl 8 rfl) ?_
      refine k_callv (wr := [(o, mO ad nf mo), (ad 11, a4 ca rs), (a1, a4 ca v), (ad 15, a4 ca (q_mirror t))]) (va_runS (As := [.ref (ad 14), .ref (ad 13), .ref a2]) (rest := []) ⟨hx, hb, hml, hown, hts⟩ (ct_X5_times hk l D ca H.size (ad 14) (ad 13) a2 wv (d_q d0 v t) t) (va_cwS 3 hts (lw_S q724 q725 q24 q726) rfl rfl rfl (by decide +kernel) ⟨Nat.le_of_ble_eq_true rfl, Nat.le_of_ble_eq_true rfl⟩) (k_pre hk hK hN hP hD [3, 2, 6] (by decide) rfl trivial) rfl rfl hl.1 rfl (lv_room (Nat.le_of_ble_eq_true rfl)) dX5_divideBy_255 ⟨Nat.le_of_ble_eq_true rfl, Nat.le_of_ble_eq_true rfl⟩) hP hD hS hA [3, 2, 6] [0, 1, 4, 5] rfl rfl (by decide) (by decide) (fun u_251 H locs w_252 hP hD hxw_252 hzw_252 hqw_252 hS => ?_)
      have hP : va_P D vwCl [(o, mO ad nf mo), (ad 11, a4 ca rs), (a1, a4 ca v), (ad 15, a4 ca (q_mirror t)), (ad 14, a4 ca (q_times (d_q d0 v t) t)), (ad 13, a4 ca (d_q d0 v t)), (a2, a4 ca t)] H := hP
      have hD : va_D A [(o, mO ad nf mo), (ad 11, a4 ca rs), (a1, a4 ca v), (ad 15, a4 ca (q_mirror t)), (ad 14, a4 ca (q_times (d_q d0 v t) t)), (ad 13, a4 ca (d_q d0 v t)), (a2, a4 ca t)] := hD
      refine lv_goto (tgt := 273) hx hb dX5_divideBy_258 (by decide) ?_
      have hb1 : (q_times (d_q d0 v t) t) = d_b d0 (d_q d0 v t) t := by simp [d_b, c_7]
      rw [hb1] at hP hD
      have hP : va_P D vwCl [(o, mO ad nf mo), (ad 11, a4 ca rs), (a1, a4 ca v), (ad 15, a4 ca (q_mirror t)), (ad 14, a4 ca (d_b d0 (d_q d0 v t) t)), (ad 13, a4 ca (d_q d0 v t)), (a2, a4 ca t)] H := hP
      have hD : va_D A [(o, mO ad nf mo), (ad 11, a4 ca rs), (a1, a4 ca v), (ad 15, a4 ca (q_mirror t)), (ad 14, a4 ca (d_b d0 (d_q d0 v t) t)), (ad 13, a4 ca (d_q d0 v t)), (a2, a4 ca t)] := hD
      refine lv_iconst (v := 0) hx hb dX5_divideBy_273 (by decide) ?_
      refine lv_istore (lv' := [(10, .int 0), (8, .long ha_222), (6, .long wh_221), (13, .long ot_220), (11, .long of_214), (4, .long nv), (0, .ref o), (1, .ref a1), (2, .ref a2), (3, .int d0)]) hx hb dX5_divideBy_274 hl (by decide) rfl (fun ls hl => ?_)
      refine lv_iload hx hb dX5_divideBy_276 (lv_at hl 0 rfl) ?_
      refine lv_iconst (v := 4) hx hb dX5_divideBy_278 (by decide) ?_
      refine lv_icmp_ge (tgt := 307) hx hb dX5_divideBy_279 (by decide) (fun c_253 => absurd c_253 (by decide)) (fun c_253 => ?_)
      refine lv_aload_n hx hb dX5_divideBy_282 rfl (lv_at hl 6 rfl) ?_
      refine va_get (D := D) (ci := 4) (v := .ref (ad 11)) (C := RX5) (T := TX5) (N := 18) hx hb hts in_X5 hown hK hP 0 rfl rfl 11 (by decide) (hts _ q584) (fun _ h9 => h9) rfl dX5_divideBy_283 ?_
      refine lv_iload hx hb dX5_divideBy_286 (lv_at hl 0 rfl) ?_
      refine lv_aload_n hx hb dX5_divideBy_288 rfl (lv_at hl 7 rfl) ?_
      refine lv_iload hx hb dX5_divideBy_289 (lv_at hl 0 rfl) ?_
      refine va_lald hx hb hK hP 2 2 rfl rfl (vin (by decide)) dX5_divideBy_291 ?_
      refine lv_topl (fun z_254 ez_254 => ?_)
      obtain rfl : z_254 = v.1 := ez_254.trans rfl
      refine lv_aload_n hx hb dX5_divideBy_292 rfl (lv_at hl 6 rfl) ?_
      refine va_get (D := D) (ci := 4) (v := .ref (ad 14)) (C := RX5) (T := TX5) (N := 18) hx hb hts in_X5 hown hK hP 0 rfl rfl 14 (by decide) (hts _ q587) (fun _ h9 => h9) rfl dX5_divideBy_293 ?_
      refine lv_iload hx hb dX5_divideBy_296 (lv_at hl 0 rfl) ?_
      refine va_lald hx hb hK hP 4 2 rfl rfl (vin (by decide)) dX5_divideBy_298 ?_
      refine lv_topl (fun z_255 ez_255 => ?_)
      obtain rfl : z_255 = (d_b d0 (d_q d0 v t) t).1 := ez_255.trans rfl
      refine lv_lsub hx hb dX5_divideBy_299 ?_
      refine va_last hx hb hK hP hD hS 1 2 rfl rfl (vin (by decide)) dX5_divideBy_300 (fun H locs hP hD hS => ?_)
      rw [L4_s0] at hP hD
      have hP : va_P D vwCl [(o, mO ad nf mo), (ad 11, a4 ca (v.1 - ((d_b d0 (d_q d0 v t) t).1), rs.2.1, rs.2.2.1, rs.2.2.2)), (a1, a4 ca v), (ad 15, a4 ca (q_mirror t)), (ad 14, a4 ca (d_b d0 (d_q d0 v t) t)), (ad 13, a4 ca (d_q d0 v t)), (a2, a4 ca t)] H := hP
      have hD : va_D A [(o, mO ad nf mo), (ad 11, a4 ca (v.1 - ((d_b d0 (d_q d0 v t) t).1), rs.2.1, rs.2.2.1, rs.2.2.2)), (a1, a4 ca v), (ad 15, a4 ca (q_mirror t)), (ad 14, a4 ca (d_b d0 (d_q d0 v t) t)), (ad 13, a4 ca (d_q d0 v t)), (a2, a4 ca t)] := hD
      refine lv_iinc (v := 1) (lv' := [(10, .int 1), (8, .long ha_222), (6, .long wh_221), (13, .long ot_220), (11, .long of_214), (4, .long nv), (0, .ref o), (1, .ref a1), (2, .ref a2), (3, .int d0)]) hx hb dX5_divideBy_301 hl (k := 0) rfl (by decide) (by decide) rfl (fun ls hl => ?_)
      refine lv_goto (tgt := 276) hx hb dX5_divideBy_304 (by decide) ?_
      refine lv_iload hx hb dX5_divideBy_276 (lv_at hl 0 rfl) ?_
      refine lv_iconst (v := 4) hx hb dX5_divideBy_278 (by decide) ?_
      refine lv_icmp_ge (tgt := 307) hx hb dX5_divideBy_279 (by decide) (fun c_256 => absurd c_256 (by decide)) (fun c_256 => ?_)
      refine lv_aload_n hx hb dX5_divideBy_282 rfl (lv_at hl 6 rfl) ?_
      refine va_get (D := D) (ci := 4) (v := .ref (ad 11)) (C := RX5) (T := TX5) (N := 18) hx hb hts in_X5 hown hK hP 0 rfl rfl 11 (by decide) (hts _ q584) (fun _ h9 => h9) rfl dX5_divideBy_283 ?_
      refine lv_iload hx hb dX5_divideBy_286 (lv_at hl 0 rfl) ?_
      refine lv_aload_n hx hb dX5_divideBy_288 rfl (lv_at hl 7 rfl) ?_
      refine lv_iload hx hb dX5_divideBy_289 (lv_at hl 0 rfl) ?_
      refine va_lald hx hb hK hP 2 2 rfl rfl (vin (by decide)) dX5_divideBy_291 ?_
      refine lv_topl (fun z_257 ez_257 => ?_)
      obtain rfl : z_257 = v.2.1 := ez_257.trans rfl
      refine lv_aload_n hx hb dX5_divideBy_292 rfl (lv_at hl 6 rfl) ?_
      refine va_get (D := D) (ci := 4) (v := .ref (ad 14)) (C := RX5) (T := TX5) (N := 18) hx hb hts in_X5 hown hK hP 0 rfl rfl 14 (by decide) (hts _ q587) (fun _ h9 => h9) rfl dX5_divideBy_293 ?_
      refine lv_iload hx hb dX5_divideBy_296 (lv_at hl 0 rfl) ?_
      refine va_lald hx hb hK hP 4 2 rfl rfl (vin (by decide)) dX5_divideBy_298 ?_
      refine lv_topl (fun z_258 ez_258 => ?_)
      obtain rfl : z_258 = (d_b d0 (d_q d0 v t) t).2.1 := ez_258.trans rfl
      refine lv_lsub hx hb dX5_divideBy_299 ?_
      refine va_last hx hb hK hP hD hS 1 2 rfl rfl (vin (by decide)) dX5_divideBy_300 (fun H locs hP hD hS => ?_)
      rw [L4_s1] at hP hD
      have hP : va_P D vwCl [(o, mO ad nf mo), (ad 11, a4 ca (v.1 - ((d_b d0 (d_q d0 v t) t).1), v.2.1 - ((d_b d0 (d_q d0 v t) t).2.1), rs.2.2.1, rs.2.2.2)), (a1, a4 ca v), (ad 15, a4 ca (q_mirror t)), (ad 14, a4 ca (d_b d0 (d_q d0 v t) t)), (ad 13, a4 ca (d_q d0 v t)), (a2, a4 ca t)] H := hP
      have hD : va_D A [(o, mO ad nf mo), (ad 11, a4 ca (v.1 - ((d_b d0 (d_q d0 v t) t).1), v.2.1 - ((d_b d0 (d_q d0 v t) t).2.1), rs.2.2.1, rs.2.2.2)), (a1, a4 ca v), (ad 15, a4 ca (q_mirror t)), (ad 14, a4 ca (d_b d0 (d_q d0 v t) t)), (ad 13, a4 ca (d_q d0 v t)), (a2, a4 ca t)] := hD
      refine lv_iinc (v := 2) (lv' := [(10, .int 2), (8, .long ha_222), (6, .long wh_221), (13, .long ot_220), (11, .long of_214), (4, .long nv), (0, .ref o), (1, .ref a1), (2, .ref a2), (3, .int d0)]) hx hb dX5_divideBy_301 hl (k := 0) rfl (by decide) (by decide) rfl (fun ls hl => ?_)
      refine lv_goto (tgt := 276) hx hb dX5_divideBy_304 (by decide) ?_
      refine lv_iload hx hb dX5_divideBy_276 (lv_at hl 0 rfl) ?_
      refine lv_iconst (v := 4) hx hb dX5_divideBy_278 (by decide) ?_
      refine lv_icmp_ge (tgt := 307) hx hb dX5_divideBy_279 (by decide) (fun c_259 => absurd c_259 (by decide)) (fun c_259 => ?_)
      refine lv_aload_n hx hb dX5_divideBy_282 rfl (lv_at hl 6 rfl) ?_
      refine va_get (D := D) (ci := 4) (v := .ref (ad 11)) (C := RX5) (T := TX5) (N := 18) hx hb hts in_X5 hown hK hP 0 rfl rfl 11 (by decide) (hts _ q584) (fun _ h9 => h9) rfl dX5_divideBy_283 ?_
      refine lv_iload hx hb dX5_divideBy_286 (lv_at hl 0 rfl) ?_
      refine lv_aload_n hx hb dX5_divideBy_288 rfl (lv_at hl 7 rfl) ?_
      refine lv_iload hx hb dX5_divideBy_289 (lv_at hl 0 rfl) ?_
      refine va_lald hx hb hK hP 2 2 rfl rfl (vin (by decide)) dX5_divideBy_291 ?_
      refine lv_topl (fun z_260 ez_260 => ?_)
      obtain rfl : z_260 = v.2.2.1 := ez_260.trans rfl
      refine lv_aload_n hx hb dX5_divideBy_292 rfl (lv_at hl 6 rfl) ?_
      refine va_get (D := D) (ci := 4) (v := .ref (ad 14)) (C := RX5) (T := TX5) (N := 18) hx hb hts in_X5 hown hK hP 0 rfl rfl 14 (by decide) (hts _ q587) (fun _ h9 => h9) rfl dX5_divideBy_293 ?_
      refine lv_iload hx hb dX5_divideBy_296 (lv_at hl 0 rfl) ?_
      refine va_lald hx hb hK hP 4 2 rfl rfl (vin (by decide)) dX5_divideBy_298 ?_
      refine lv_topl (fun z_261 ez_261 => ?_)
      obtain rfl : z_261 = (d_b d0 (d_q d0 v t) t).2.2.1 := ez_261.trans rfl
      refine lv_lsub hx hb dX5_divideBy_299 ?_
      refine va_last hx hb hK hP hD hS 1 2 rfl rfl (vin (by decide)) dX5_divideBy_300 (fun H locs hP hD hS => ?_)
      rw [L4_s2] at hP hD
      have hP : va_P D vwCl [(o, mO ad nf mo), (ad 11, a4 ca (v.1 - ((d_b d0 (d_q d0 v t) t).1), v.2.1 - ((d_b d0 (d_q d0 v t) t).2.1), v.2.2.1 - ((d_b d0 (d_q d0 v t) t).2.2.1), rs.2.2.2)), (a1, a4 ca v), (ad 15, a4 ca (q_mirror t)), (ad 14, a4 ca (d_b d0 (d_q d0 v t) t)), (ad 13, a4 ca (d_q d0 v t)), (a2, a4 ca t)] H := hP
      have hD : va_D A [(o, mO ad nf mo), (ad 11, a4 ca (v.1 - ((d_b d0 (d_q d0 v t) t).1), v.2.1 - ((d_b d0 (d_q d0 v t) t).2.1), v.2.2.1 - ((d_b d0 (d_q d0 v t) t).2.2.1), rs.2.2.2)), (a1, a4 ca v), (ad 15, a4 ca (q_mirror t)), (ad 14, a4 ca (d_b d0 (d_q d0 v t) t)), (ad 13, a4 ca (d_q d0 v t)), (a2, a4 ca t)] := hD
      refine lv_iinc (v := 3) (lv' := [(10, .int 3), (8, .long ha_222), (6, .long wh_221), (13, .long ot_220), (11, .long of_214), (4, .long nv), (0, .ref o), (1, .ref a1), (2, .ref a2), (3, .int d0)]) hx hb dX5_divideBy_301 hl (k := 0) rfl (by decide) (by decide) rfl (fun ls hl => ?_)
      refine lv_goto (tgt := 276) hx hb dX5_divideBy_304 (by decide) ?_
      refine lv_iload hx hb dX5_divideBy_276 (lv_at hl 0 rfl) ?_
      refine lv_iconst (v := 4) hx hb dX5_divideBy_278 (by decide) ?_
      refine lv_icmp_ge (tgt := 307) hx hb dX5_divideBy_279 (by decide) (fun c_262 => absurd c_262 (by decide)) (fun c_262 => ?_)
      refine lv_aload_n hx hb dX5_divideBy_282 rfl (lv_at hl 6 rfl) ?_
      refine va_get (D := D) (ci := 4) (v := .ref (ad 11)) (C := RX5) (T := TX5) (N := 18) hx hb hts in_X5 hown hK hP 0 rfl rfl 11 (by decide) (hts _ q584) (fun _ h9 => h9) rfl dX5_divideBy_283 ?_
      refine lv_iload hx hb dX5_divideBy_286 (lv_at hl 0 rfl) ?_
      refine lv_aload_n hx hb dX5_divideBy_288 rfl (lv_at hl 7 rfl) ?_
      refine lv_iload hx hb dX5_divideBy_289 (lv_at hl 0 rfl) ?_
      refine va_lald hx hb hK hP 2 2 rfl rfl (vin (by decide)) dX5_divideBy_291 ?_
      refine lv_topl (fun z_263 ez_263 => ?_)
      obtain rfl : z_263 = v.2.2.2 := ez_263.trans rfl
      refine lv_aload_n hx hb dX5_divideBy_292 rfl (lv_at hl 6 rfl) ?_
      refine va_get (D := D) (ci := 4) (v := .ref (ad 14)) (C := RX5) (T := TX5) (N := 18) hx hb hts in_X5 hown hK hP 0 rfl rfl 14 (by decide) (hts _ q587) (fun _ h9 => h9) rfl dX5_divideBy_293 ?_
      refine lv_iload hx hb dX5_divideBy_296 (lv_at hl 0 rfl) ?_
      refine va_lald hx hb hK hP 4 2 rfl rfl (vin (by decide)) dX5_divideBy_298 ?_
      refine lv_topl (fun z_264 ez_264 => ?_)
      obtain rfl : z_264 = (d_b d0 (d_q d0 v t) t).2.2.2 := ez_264.trans rfl
      refine lv_lsub hx hb dX5_divideBy_299 ?_
      refine va_last hx hb hK hP hD hS 1 2 rfl rfl (vin (by decide)) dX5_divideBy_300 (fun H locs hP hD hS => ?_)
      rw [L4_s3] at hP hD
      have hP : va_P D vwCl [(o, mO ad nf mo), (ad 11, a4 ca (v.1 - ((d_b d0 (d_q d0 v t) t).1), v.2.1 - ((d_b d0 (d_q d0 v t) t).2.1), v.2.2.1 - ((d_b d0 (d_q d0 v t) t).2.2.1), v.2.2.2 - ((d_b d0 (d_q d0 v t) t).2.2.2))), (a1, a4 ca v), (ad 15, a4 ca (q_mirror t)), (ad 14, a4 ca (d_b d0 (d_q d0 v t) t)), (ad 13, a4 ca (d_q d0 v t)), (a2, a4 ca t)] H := hP
      have hD : va_D A [(o, mO ad nf mo), (ad 11, a4 ca (v.1 - ((d_b d0 (d_q d0 v t) t).1), v.2.1 - ((d_b d0 (d_q d0 v t) t).2.1), v.2.2.1 - ((d_b d0 (d_q d0 v t) t).2.2.1), v.2.2.2 - ((d_b d0 (d_q d0 v t) t).2.2.2))), (a1, a4 ca v), (ad 15, a4 ca (q_mirror t)), (ad 14, a4 ca (d_b d0 (d_q d0 v t) t)), (ad 13, a4 ca (d_q d0 v t)), (a2, a4 ca t)] := hD
      refine lv_iinc (v := 4) (lv' := [(10, .int 4), (8, .long ha_222), (6, .long wh_221), (13, .long ot_220), (11, .long of_214), (4, .long nv), (0, .ref o), (1, .ref a1), (2, .ref a2), (3, .int d0)]) hx hb dX5_divideBy_301 hl (k := 0) rfl (by decide) (by decide) rfl (fun ls hl => ?_)
      refine lv_goto (tgt := 276) hx hb dX5_divideBy_304 (by decide) ?_
      refine lv_iload hx hb dX5_divideBy_276 (lv_at hl 0 rfl) ?_
      refine lv_iconst (v := 4) hx hb dX5_divideBy_278 (by decide) ?_
      refine lv_icmp_ge (tgt := 307) hx hb dX5_divideBy_279 (by decide) (fun c_265 => ?_) (fun c_265 => absurd (by decide) c_265)
      exact k_vret () hx hb hr hlocks (trivial) (hP.sub [0, 2, 6, 1, 5, 4, 3] rfl) (hD.sub [0, 2, 6, 1, 5, 4, 3] (by decide) rfl) trivial hS (Nat.le_of_ble_eq_true rfl) (Nat.le_of_ble_eq_true rfl) dX5_divideBy_307
    · refine lv_ldc2 hx hb hown (hts _ q639) dX5_divideBy_187 ?_
      refine lv_aload_n hx hb dX5_divideBy_190 rfl (lv_at hl 6 rfl) ?_
      refine va_get (D := D) (ci := 4) (v := .ref (ad 14)) (C := RX5) (T := TX5) (N := 18) hx hb hts in_X5 hown hK hP 0 rfl rfl 14 (by decide) (hts _ q587) (fun _ h9 => h9) rfl dX5_divideBy_191 ?_
      refine lv_iload hx hb dX5_divideBy_194 (lv_at hl 0 rfl) ?_
      refine va_lald hx hb hK hP 3 2 rfl rfl (vin (by decide)) dX5_divideBy_196 ?_
      refine lv_topl (fun z_266 ez_266 => ?_)
      obtain rfl : z_266 = wv.1 := ez_266.trans rfl
      refine lv_lload hx hb dX5_divideBy_197 (lv_at hl 5 rfl) ?_
      refine lv_ladd hx hb dX5_divideBy_199 ?_
      refine lv_ldc2 hx hb hown (hts _ q639) dX5_divideBy_200 ?_
      refine lv_lload hx hb dX5_divideBy_203 (lv_at hl 5 rfl) ?_
      refine lv_lmul hx hb dX5_divideBy_205 ?_
      refine k_calll (wr := [(o, mO ad nf mo), (ad 11, a4 ca rs), (ad 13, a4 ca qt), (ad 14, a4 ca wv), (a1, a4 ca v), (ad 15, a4 ca (q_mirror t)), (a2, a4 ca t)]) (va_runS (As := [.long (wv.1 + nv), .long (2 * nv)]) (rest := [.long 2, .int 0, .ref (ad 13)]) ⟨hx, hb, hml, hown, hts⟩ (ct_X5_floored hk l D ca H.size (wv.1 + nv) (2 * nv) (by rw [hnv]; exact hn)) (va_cwS 2 hts (lw_S q747 q748 q24 q749) rfl rfl rfl (by decide +kernel) ⟨Nat.le_of_ble_eq_true rfl, Nat.le_of_ble_eq_true rfl⟩) (k_pre hk hK hN hP hD [] (by decide) rfl trivial) rfl rfl hl.1 rfl (lv_room (Nat.le_of_ble_eq_true rfl)) dX5_divideBy_206 ⟨Nat.le_of_ble_eq_true rfl, Nat.le_of_ble_eq_true rfl⟩) hP hD hS hA [] [0, 1, 2, 3, 4, 5, 6] rfl rfl (by decide) (by decide) (fun r_267 u_268 H locs w_269 hP hD hxw_269 hzw_269 hqw_269 hS => ?_)
      obtain rfl : r_267 = p_fl (wv.1 + nv) (2 * nv) := w_269
      refine lv_lmul hx hb dX5_divideBy_209 ?_
      refine lv_goto (tgt := 235) hx hb dX5_divideBy_210 (by decide) ?_
      refine va_last hx hb hK hP hD hS 2 2 rfl rfl (vin (by decide)) dX5_divideBy_235 (fun H locs hP hD hS => ?_)
      rw [L4_s0] at hP hD
      have hP : va_P D vwCl [(o, mO ad nf mo), (ad 11, a4 ca rs), (ad 13, a4 ca (2 * (p_fl (wv.1 + nv) (2 * nv)), qt.2.1, qt.2.2.1, qt.2.2.2)), (ad 14, a4 ca wv), (a1, a4 ca v), (ad 15, a4 ca (q_mirror t)), (a2, a4 ca t)] H := hP
      have hD : va_D A [(o, mO ad nf mo), (ad 11, a4 ca rs), (ad 13, a4 ca (2 * (p_fl (wv.1 + nv) (2 * nv)), qt.2.1, qt.2.2.1, qt.2.2.2)), (ad 14, a4 ca wv), (a1, a4 ca v), (ad 15, a4 ca (q_mirror t)), (a2, a4 ca t)] := hD
      refine lv_iinc (v := 1) (lv' := [(10, .int 1), (8, .long ha_222), (6, .long wh_221), (13, .long ot_220), (11, .long of_214), (4, .long nv), (0, .ref o), (1, .ref a1), (2, .ref a2), (3, .int d0)]) hx hb dX5_divideBy_236 hl (k := 0) rfl (by decide) (by decide) rfl (fun ls hl => ?_)
      refine lv_goto (tgt := 167) hx hb dX5_divideBy_239 (by decide) ?_
      refine lv_iload hx hb dX5_divideBy_167 (lv_at hl 0 rfl) ?_
      refine lv_iconst (v := 4) hx hb dX5_divideBy_169 (by decide) ?_
      refine lv_icmp_ge (tgt := 242) hx hb dX5_divideBy_170 (by decide) (fun c_270 => absurd c_270 (by decide)) (fun c_270 => ?_)
      refine lv_aload_n hx hb dX5_divideBy_173 rfl (lv_at hl 6 rfl) ?_
      refine va_get (D := D) (ci := 4) (v := .ref (ad 13)) (C := RX5) (T := TX5) (N := 18) hx hb hts in_X5 hown hK hP 0 rfl rfl 13 (by decide) (hts _ q586) (fun _ h9 => h9) rfl dX5_divideBy_174 ?_
      refine lv_iload hx hb dX5_divideBy_177 (lv_at hl 0 rfl) ?_
      refine lv_lload hx hb dX5_divideBy_179 (lv_at hl 2 rfl) ?_
      refine lv_lload hx hb dX5_divideBy_181 (lv_at hl 1 rfl) ?_
      refine k_lc_gt (tgt := 213) hx hb dX5_divideBy_183 dX5_divideBy_184 (by decide) (fun c_271 => absurd c_271 c_225) (fun c_271 => ?_)
      refine lv_ldc2 hx hb hown (hts _ q639) dX5_divideBy_187 ?_
      refine lv_aload_n hx hb dX5_divideBy_190 rfl (lv_at hl 6 rfl) ?_
      refine va_get (D := D) (ci := 4) (v := .ref (ad 14)) (C := RX5) (T := TX5) (N := 18) hx hb hts in_X5 hown hK hP 0 rfl rfl 14 (by decide) (hts _ q587) (fun _ h9 => h9) rfl dX5_divideBy_191 ?_
      refine lv_iload hx hb dX5_divideBy_194 (lv_at hl 0 rfl) ?_
      refine va_lald hx hb hK hP 3 2 rfl rfl (vin (by decide)) dX5_divideBy_196 ?_
      refine lv_topl (fun z_272 ez_272 => ?_)
      obtain rfl : z_272 = wv.2.1 := ez_272.trans rfl
      refine lv_lload hx hb dX5_divideBy_197 (lv_at hl 5 rfl) ?_
      refine lv_ladd hx hb dX5_divideBy_199 ?_
      refine lv_ldc2 hx hb hown (hts _ q639) dX5_divideBy_200 ?_
      refine lv_lload hx hb dX5_divideBy_203 (lv_at hl 5 rfl) ?_
      refine lv_lmul hx hb dX5_divideBy_205 ?_
      refine k_calll (wr := [(o, mO ad nf mo), (ad 11, a4 ca rs), (ad 13, a4 ca (2 * (p_fl (wv.1 + nv) (2 * nv)), qt.2.1, qt.2.2.1, qt.2.2.2)), (ad 14, a4 ca wv), (a1, a4 ca v), (ad 15, a4 ca (q_mirror t)), (a2, a4 ca t)]) (va_runS (As := [.long (wv.2.1 + nv), .long (2 * nv)]) (rest := [.long 2, .int 1, .ref (ad 13)]) ⟨hx, hb, hml, hown, hts⟩ (ct_X5_floored hk l D ca H.size (wv.2.1 + nv) (2 * nv) (by rw [hnv]; exact hn)) (va_cwS 2 hts (lw_S q747 q748 q24 q749) rfl rfl rfl (by decide +kernel) ⟨Nat.le_of_ble_eq_true rfl, Nat.le_of_ble_eq_true rfl⟩) (k_pre hk hK hN hP hD [] (by decide) rfl trivial) rfl rfl hl.1 rfl (lv_room (Nat.le_of_ble_eq_true rfl)) dX5_divideBy_206 ⟨Nat.le_of_ble_eq_true rfl, Nat.le_of_ble_eq_true rfl⟩) hP hD hS hA [] [0, 1, 2, 3, 4, 5, 6] rfl rfl (by decide) (by decide) (fun r_273 u_274 H locs w_275 hP hD hxw_275 hzw_275 hqw_275 hS => ?_)
      obtain rfl : r_273 = p_fl (wv.2.1 + nv) (2 * nv) := w_275
      refine lv_lmul hx hb dX5_divideBy_209 ?_
      refine lv_goto (tgt := 235) hx hb dX5_divideBy_210 (by decide) ?_
      refine va_last hx hb hK hP hD hS 2 2 rfl rfl (vin (by decide)) dX5_divideBy_235 (fun H locs hP hD hS => ?_)
      rw [L4_s1] at hP hD
      have hP : va_P D vwCl [(o, mO ad nf mo), (ad 11, a4 ca rs), (ad 13, a4 ca (2 * (p_fl (wv.1 + nv) (2 * nv)), 2 * (p_fl (wv.2.1 + nv) (2 * nv)), qt.2.2.1, qt.2.2.2)), (ad 14, a4 ca wv), (a1, a4 ca v), (ad 15, a4 ca (q_mirror t)), (a2, a4 ca t)] H := hP
      have hD : va_D A [(o, mO ad nf mo), (ad 11, a4 ca rs), (ad 13, a4 ca (2 * (p_fl (wv.1 + nv) (2 * nv)), 2 * (p_fl (wv.2.1 + nv) (2 * nv)), qt.2.2.1, qt.2.2.2)), (ad 14, a4 ca wv), (a1, a4 ca v), (ad 15, a4 ca (q_mirror t)), (a2, a4 ca t)] := hD
      refine lv_iinc (v := 2) (lv' := [(10, .int 2), (8, .long ha_222), (6, .long wh_221), (13, .long ot_220), (11, .long of_214), (4, .long nv), (0, .ref o), (1, .ref a1), (2, .ref a2), (3, .int d0)]) hx hb dX5_divideBy_236 hl (k := 0) rfl (by decide) (by decide) rfl (fun ls hl => ?_)
      refine lv_goto (tgt := 167) hx hb dX5_divideBy_239 (by decide) ?_
      refine lv_iload hx hb dX5_divideBy_167 (lv_at hl 0 rfl) ?_
      refine lv_iconst (v := 4) hx hb dX5_divideBy_169 (by decide) ?_
      refine lv_icmp_ge (tgt := 242) hx hb dX5_divideBy_170 (by decide) (fun c_276 => absurd c_276 (by decide)) (fun c_276 => ?_)
      refine lv_aload_n hx hb dX5_divideBy_173 rfl (lv_at hl 6 rfl) ?_
      refine va_get (D := D) (ci := 4) (v := .ref (ad 13)) (C := RX5) (T := TX5) (N := 18) hx hb hts in_X5 hown hK hP 0 rfl rfl 13 (by decide) (hts _ q586) (fun _ h9 => h9) rfl dX5_divideBy_174 ?_
      refine lv_iload hx hb dX5_divideBy_177 (lv_at hl 0 rfl) ?_
      refine lv_lload hx hb dX5_divideBy_179 (lv_at hl 2 rfl) ?_
      refine lv_lload hx hb dX5_divideBy_181 (lv_at hl 1 rfl) ?_
      refine k_lc_gt (tgt := 213) hx hb dX5_divideBy_183 dX5_divideBy_184 (by decide) (fun c_277 => absurd c_277 c_225) (fun c_277 => ?_)
      refine lv_ldc2 hx hb hown (hts _ q639) dX5_divideBy_187 ?_
      refine lv_aload_n hx hb dX5_divideBy_190 rfl (lv_at hl 6 rfl) ?_
      refine va_get (D := D) (ci := 4) (v := .ref (ad 14)) (C := RX5) (T := TX5) (N := 18) hx hb hts in_X5 hown hK hP 0 rfl rfl 14 (by decide) (hts _ q587) (fun _ h9 => h9) rfl dX5_divideBy_191 ?_
      refine lv_iload hx hb dX5_divideBy_194 (lv_at hl 0 rfl) ?_
      refine va_lald hx hb hK hP 3 2 rfl rfl (vin (by decide)) dX5_divideBy_196 ?_
      refine lv_topl (fun z_278 ez_278 => ?_)
      obtain rfl : z_278 = wv.2.2.1 := ez_278.trans rfl
      refine lv_lload hx hb dX5_divideBy_197 (lv_at hl 5 rfl) ?_
      refine lv_ladd hx hb dX5_divideBy_199 ?_
      refine lv_ldc2 hx hb hown (hts _ q639) dX5_divideBy_200 ?_
      refine lv_lload hx hb dX5_divideBy_203 (lv_at hl 5 rfl) ?_
      refine lv_lmul hx hb dX5_divideBy_205 ?_
      refine k_calll (wr := [(o, mO ad nf mo), (ad 11, a4 ca rs), (ad 13, a4 ca (2 * (p_fl (wv.1 + nv) (2 * nv)), 2 * (p_fl (wv.2.1 + nv) (2 * nv)), qt.2.2.1, qt.2.2.2)), (ad 14, a4 ca wv), (a1, a4 ca v), (ad 15, a4 ca (q_mirror t)), (a2, a4 ca t)]) (va_runS (As := [.long (wv.2.2.1 + nv), .long (2 * nv)]) (rest := [.long 2, .int 2, .ref (ad 13)]) ⟨hx, hb, hml, hown, hts⟩ (ct_X5_floored hk l D ca H.size (wv.2.2.1 + nv) (2 * nv) (by rw [hnv]; exact hn)) (va_cwS 2 hts (lw_S q747 q748 q24 q749) rfl rfl rfl (by decide +kernel) ⟨Nat.le_of_ble_eq_true rfl, Nat.le_of_ble_eq_true rfl⟩) (k_pre hk hK hN hP hD [] (by decide) rfl trivial) rfl rfl hl.1 rfl (lv_room (Nat.le_of_ble_eq_true rfl)) dX5_divideBy_206 ⟨Nat.le_of_ble_eq_true rfl, Nat.le_of_ble_eq_true rfl⟩) hP hD hS hA [] [0, 1, 2, 3, 4, 5, 6] rfl rfl (by decide) (by decide) (fun r_279 u_280 H locs w_281 hP hD hxw_281 hzw_281 hqw_281 hS => ?_)
      obtain rfl : r_279 = p_fl (wv.2.2.1 + nv) (2 * nv) := w_281
      refine lv_lmul hx hb dX5_divideBy_209 ?_
      refine lv_goto (tgt := 235) hx hb dX5_divideBy_210 (by decide) ?_
      refine va_last hx hb hK hP hD hS 2 2 rfl rfl (vin (by decide)) dX5_divideBy_235 (fun H locs hP hD hS => ?_)
      rw [L4_s2] at hP hD
      have hP : va_P D vwCl [(o, mO ad nf mo), (ad 11, a4 ca rs), (ad 13, a4 ca (2 * (p_fl (wv.1 + nv) (2 * nv)), 2 * (p_fl (wv.2.1 + nv) (2 * nv)), 2 * (p_fl (wv.2.2.1 + nv) (2 * nv)), qt.2.2.2)), (ad 14, a4 ca wv), (a1, a4 ca v), (ad 15, a4 ca (q_mirror t)), (a2, a4 ca t)] H := hP
      have hD : va_D A [(o, mO ad nf mo), (ad 11, a4 ca rs), (ad 13, a4 ca (2 * (p_fl (wv.1 + nv) (2 * nv)), 2 * (p_fl (wv.2.1 + nv) (2 * nv)), 2 * (p_fl (wv.2.2.1 + nv) (2 * nv)), qt.2.2.2)), (ad 14, a4 ca wv), (a1, a4 ca v), (ad 15, a4 ca (q_mirror t)), (a2, a4 ca t)] := hD
      refine lv_iinc (v := 3) (lv' := [(10, .int 3), (8, .long ha_222), (6, .long wh_221), (13, .long ot_220), (11, .long of_214), (4, .long nv), (0, .ref o), (1, .ref a1), (2, .ref a2), (3, .int d0)]) hx hb dX5_divideBy_236 hl (k := 0) rfl (by decide) (by decide) rfl (fun ls hl => ?_)
      refine lv_goto (tgt := 167) hx hb dX5_divideBy_239 (by decide) ?_
      refine lv_iload hx hb dX5_divideBy_167 (lv_at hl 0 rfl) ?_
      refine lv_iconst (v := 4) hx hb dX5_divideBy_169 (by decide) ?_
      refine lv_icmp_ge (tgt := 242) hx hb dX5_divideBy_170 (by decide) (fun c_282 => absurd c_282 (by decide)) (fun c_282 => ?_)
      refine lv_aload_n hx hb dX5_divideBy_173 rfl (lv_at hl 6 rfl) ?_
      refine va_get (D := D) (ci := 4) (v := .ref (ad 13)) (C := RX5) (T := TX5) (N := 18) hx hb hts in_X5 hown hK hP 0 rfl rfl 13 (by decide) (hts _ q586) (fun _ h9 => h9) rfl dX5_divideBy_174 ?_
      refine lv_iload hx hb dX5_divideBy_177 (lv_at hl 0 rfl) ?_
      refine lv_lload hx hb dX5_divideBy_179 (lv_at hl 2 rfl) ?_
      refine lv_lload hx hb dX5_divideBy_181 (lv_at hl 1 rfl) ?_
      refine k_lc_gt (tgt := 213) hx hb dX5_divideBy_183 dX5_divideBy_184 (by decide) (fun c_283 => absurd c_283 c_225) (fun c_283 => ?_)
      refine lv_ldc2 hx hb hown (hts _ q639) dX5_divideBy_187 ?_
      refine lv_aload_n hx hb dX5_divideBy_190 rfl (lv_at hl 6 rfl) ?_
      refine va_get (D := D) (ci := 4) (v := .ref (ad 14)) (C := RX5) (T := TX5) (N := 18) hx hb hts in_X5 hown hK hP 0 rfl rfl 14 (by decide) (hts _ q587) (fun _ h9 => h9) rfl dX5_divideBy_191 ?_
      refine lv_iload hx hb dX5_divideBy_194 (lv_at hl 0 rfl) ?_
      refine va_lald hx hb hK hP 3 2 rfl rfl (vin (by decide)) dX5_divideBy_196 ?_
      refine lv_topl (fun z_284 ez_284 => ?_)
      obtain rfl : z_284 = wv.2.2.2 := ez_284.trans rfl
      refine lv_lload hx hb dX5_divideBy_197 (lv_at hl 5 rfl) ?_
      refine lv_ladd hx hb dX5_divideBy_199 ?_
      refine lv_ldc2 hx hb hown (hts _ q639) dX5_divideBy_200 ?_
      refine lv_lload hx hb dX5_divideBy_203 (lv_at hl 5 rfl) ?_
      refine lv_lmul hx hb dX5_divideBy_205 ?_
      refine k_calll (wr := [(o, mO ad nf mo), (ad 11, a4 ca rs), (ad 13, a4 ca (2 * (p_fl (wv.1 + nv) (2 * nv)), 2 * (p_fl (wv.2.1 + nv) (2 * nv)), 2 * (p_fl (wv.2.2.1 + nv) (2 * nv)), qt.2.2.2)), (ad 14, a4 ca wv), (a1, a4 ca v), (ad 15, a4 ca (q_mirror t)), (a2, a4 ca t)]) (va_runS (As := [.long (wv.2.2.2 + nv), .long (2 * nv)]) (rest := [.long 2, .int 3, .ref (ad 13)]) ⟨hx, hb, hml, hown, hts⟩ (ct_X5_floored hk l D ca H.size (wv.2.2.2 + nv) (2 * nv) (by rw [hnv]; exact hn)) (va_cwS 2 hts (lw_S q747 q748 q24 q749) rfl rfl rfl (by decide +kernel) ⟨Nat.le_of_ble_eq_true rfl, Nat.le_of_ble_eq_true rfl⟩) (k_pre hk hK hN hP hD [] (by decide) rfl trivial) rfl rfl hl.1 rfl (lv_room (Nat.le_of_ble_eq_true rfl)) dX5_divideBy_206 ⟨Nat.le_of_ble_eq_true rfl, Nat.le_of_ble_eq_true rfl⟩) hP hD hS hA [] [0, 1, 2, 3, 4, 5, 6] rfl rfl (by decide) (by decide) (fun r_285 u_286 H locs w_287 hP hD hxw_287 hzw_287 hqw_287 hS => ?_)
      obtain rfl : r_285 = p_fl (wv.2.2.2 + nv) (2 * nv) := w_287
      refine lv_lmul hx hb dX5_divideBy_209 ?_
      refine lv_goto (tgt := 235) hx hb dX5_divideBy_210 (by decide) ?_
      refine va_last hx hb hK hP hD hS 2 2 rfl rfl (vin (by decide)) dX5_divideBy_235 (fun H locs hP hD hS => ?_)
      rw [L4_s3] at hP hD
      have hP : va_P D vwCl [(o, mO ad nf mo), (ad 11, a4 ca rs), (ad 13, a4 ca (2 * (p_fl (wv.1 + nv) (2 * nv)), 2 * (p_fl (wv.2.1 + nv) (2 * nv)), 2 * (p_fl (wv.2.2.1 + nv) (2 * nv)), 2 * (p_fl (wv.2.2.2 + nv) (2 * nv)))), (ad 14, a4 ca wv), (a1, a4 ca v), (ad 15, a4 ca (q_mirror t)), (a2, a4 ca t)] H := hP
      have hD : va_D A [(o, mO ad nf mo), (ad 11, a4 ca rs), (ad 13, a4 ca (2 * (p_fl (wv.1 + nv) (2 * nv)), 2 * (p_fl (wv.2.1 + nv) (2 * nv)), 2 * (p_fl (wv.2.2.1 + nv) (2 * nv)), 2 * (p_fl (wv.2.2.2 + nv) (2 * nv)))), (ad 14, a4 ca wv), (a1, a4 ca v), (ad 15, a4 ca (q_mirror t)), (a2, a4 ca t)] := hD
      refine lv_iinc (v := 4) (lv' := [(10, .int 4), (8, .long ha_222), (6, .long wh_221), (13, .long ot_220), (11, .long of_214), (4, .long nv), (0, .ref o), (1, .ref a1), (2, .ref a2), (3, .int d0)]) hx hb dX5_divideBy_236 hl (k := 0) rfl (by decide) (by decide) rfl (fun ls hl => ?_)
      refine lv_goto (tgt := 167) hx hb dX5_divideBy_239 (by decide) ?_
      refine lv_iload hx hb dX5_divideBy_167 (lv_at hl 0 rfl) ?_
      refine lv_iconst (v := 4) hx hb dX5_divideBy_169 (by decide) ?_
      refine lv_icmp_ge (tgt := 242) hx hb dX5_divideBy_170 (by decide) (fun c_288 => ?_) (fun c_288 => absurd (by decide) c_288)
      have hw1 : wv = d_w d0 v t := by rw [hwv]; simp [d_w, c_7]
      have hq : (2 * (p_fl (wv.1 + nv) (2 * nv)), 2 * (p_fl (wv.2.1 + nv) (2 * nv)), 2 * (p_fl (wv.2.2.1 + nv) (2 * nv)), 2 * (p_fl (wv.2.2.2 + nv) (2 * nv))) = d_q d0 v t := by
        rw [d_q, ← hw1, ← hnv]
        have hz := c_225
        rw [hha_222, hwh_221, hot_220, hof_214, hha_207, hwh_206, hot_205, hof_199, hha_192, hwh_191, hot_190, hof_184, hha_177, hwh_176, hot_175, hof_169] at hz
        exact (if_neg hz).symm
      rw [hq] at hP hD
      have hP : va_P D vwCl [(o, mO ad nf mo), (ad 11, a4 ca rs), (ad 13, a4 ca (d_q d0 v t)), (ad 14, a4 ca wv), (a1, a4 ca v), (ad 15, a4 ca (q_mirror t)), (a2, a4 ca t)] H := hP
      have hD : va_D A [(o, mO ad nf mo), (ad 11, a4 ca rs), (ad 13, a4 ca (d_q d0 v t)), (ad 14, a4 ca wv), (a1, a4 ca v), (ad 15, a4 ca (q_mirror t)), (a2, a4 ca t)] := hD
      refine lv_iload_n hx hb dX5_divideBy_242 rfl (lv_at hl 9 rfl) ?_
      refine lv_if_ne (tgt := 261) hx hb dX5_divideBy_243 (by decide) (fun c_289 => absurd c_7 c_289) (fun c_289 => ?_)
      refine lv_aload_n hx hb dX5_divideBy_246 rfl (lv_at hl 6 rfl) ?_
      refine va_get (D := D) (ci := 4) (v := .ref (ad 14)) (C := RX5) (T := TX5) (N := 18) hx hb hts in_X5 hown hK hP 0 rfl rfl 14 (by decide) (hts _ q587) (fun _ h9 => h9) rfl dX5_divideBy_247 ?_
      refine lv_aload_n hx hb dX5_divideBy_250 rfl (lv_at hl 6 rfl) ?_
      refine va_get (D := D) (ci := 4) (v := .ref (ad 13)) (C := RX5) (T := TX5) (N := 18) hx hb hts in_X5 hown hK hP 0 rfl rfl 13 (by decide) (hts _ q586) (fun _ h9 => h9) rfl dX5_divideBy_251 ?_
      refine lv_aload_n hx hb dX5_divideBy_254 rfl (lv_at hl 8 rfl) ?_
      refine k_callv (wr := [(o, mO ad nf mo), (ad 11, a4 ca rs), (a1, a4 ca v), (ad 15, a4 ca (q_mirror t))]) (va_runS (As := [.ref (ad 14), .ref (ad 13), .ref a2]) (rest := []) ⟨hx, hb, hml, hown, hts⟩ (ct_X5_times hk l D ca H.size (ad 14) (ad 13) a2 wv (d_q d0 v t) t) (va_cwS 3 hts (lw_S q724 q725 q24 q726) rfl rfl rfl (by decide +kernel) ⟨Nat.le_of_ble_eq_true rfl, Nat.le_of_ble_eq_true rfl⟩) (k_pre hk hK hN hP hD [3, 2, 6] (by decide) rfl trivial) rfl rfl hl.1 rfl (lv_room (Nat.le_of_ble_eq_true rfl)) dX5_divideBy_255 ⟨Nat.le_of_ble_eq_true rfl, Nat.le_of_ble_eq_true rfl⟩) hP hD hS hA [3, 2, 6] [0, 1, 4, 5] rfl rfl (by decide) (by decide) (fun u_291 H locs w_292 hP hD hxw_292 hzw_292 hqw_292 hS => ?_)
      have hP : va_P D vwCl [(o, mO ad nf mo), (ad 11, a4 ca rs), (a1, a4 ca v), (ad 15, a4 ca (q_mirror t)), (ad 14, a4 ca (q_times (d_q d0 v t) t)), (ad 13, a4 ca (d_q d0 v t)), (a2, a4 ca t)] H := hP
      have hD : va_D A [(o, mO ad nf mo), (ad 11, a4 ca rs), (a1, a4 ca v), (ad 15, a4 ca (q_mirror t)), (ad 14, a4 ca (q_times (d_q d0 v t) t)), (ad 13, a4 ca (d_q d0 v t)), (a2, a4 ca t)] := hD
      refine lv_goto (tgt := 273) hx hb dX5_divideBy_258 (by decide) ?_
      have hb1 : (q_times (d_q d0 v t) t) = d_b d0 (d_q d0 v t) t := by simp [d_b, c_7]
      rw [hb1] at hP hD
      have hP : va_P D vwCl [(o, mO ad nf mo), (ad 11, a4 ca rs), (a1, a4 ca v), (ad 15, a4 ca (q_mirror t)), (ad 14, a4 ca (d_b d0 (d_q d0 v t) t)), (ad 13, a4 ca (d_q d0 v t)), (a2, a4 ca t)] H := hP
      have hD : va_D A [(o, mO ad nf mo), (ad 11, a4 ca rs), (a1, a4 ca v), (ad 15, a4 ca (q_mirror t)), (ad 14, a4 ca (d_b d0 (d_q d0 v t) t)), (ad 13, a4 ca (d_q d0 v t)), (a2, a4 ca t)] := hD
      refine lv_iconst (v := 0) hx hb dX5_divideBy_273 (by decide) ?_
      refine lv_istore (lv' := [(10, .int 0), (8, .long ha_222), (6, .long wh_221), (13, .long ot_220), (11, .long of_214), (4, .long nv), (0, .ref o), (1, .ref a1), (2, .ref a2), (3, .int d0)]) hx hb dX5_divideBy_274 hl (by decide) rfl (fun ls hl => ?_)
      refine lv_iload hx hb dX5_divideBy_276 (lv_at hl 0 rfl) ?_
      refine lv_iconst (v := 4) hx hb dX5_divideBy_278 (by decide) ?_
      refine lv_icmp_ge (tgt := 307) hx hb dX5_divideBy_279 (by decide) (fun c_293 => absurd c_293 (by decide)) (fun c_293 => ?_)
      refine lv_aload_n hx hb dX5_divideBy_282 rfl (lv_at hl 6 rfl) ?_
      refine va_get (D := D) (ci := 4) (v := .ref (ad 11)) (C := RX5) (T := TX5) (N := 18) hx hb hts in_X5 hown hK hP 0 rfl rfl 11 (by decide) (hts _ q584) (fun _ h9 => h9) rfl dX5_divideBy_283 ?_
      refine lv_iload hx hb dX5_divideBy_286 (lv_at hl 0 rfl) ?_
      refine lv_aload_n hx hb dX5_divideBy_288 rfl (lv_at hl 7 rfl) ?_
      refine lv_iload hx hb dX5_divideBy_289 (lv_at hl 0 rfl) ?_
      refine va_lald hx hb hK hP 2 2 rfl rfl (vin (by decide)) dX5_divideBy_291 ?_
      refine lv_topl (fun z_294 ez_294 => ?_)
      obtain rfl : z_294 = v.1 := ez_294.trans rfl
      refine lv_aload_n hx hb dX5_divideBy_292 rfl (lv_at hl 6 rfl) ?_
      refine va_get (D := D) (ci := 4) (v := .ref (ad 14)) (C := RX5) (T := TX5) (N := 18) hx hb hts in_X5 hown hK hP 0 rfl rfl 14 (by decide) (hts _ q587) (fun _ h9 => h9) rfl dX5_divideBy_293 ?_
      refine lv_iload hx hb dX5_divideBy_296 (lv_at hl 0 rfl) ?_
      refine va_lald hx hb hK hP 4 2 rfl rfl (vin (by decide)) dX5_divideBy_298 ?_
      refine lv_topl (fun z_295 ez_295 => ?_)
      obtain rfl : z_295 = (d_b d0 (d_q d0 v t) t).1 := ez_295.trans rfl
      refine lv_lsub hx hb dX5_divideBy_299 ?_
      refine va_last hx hb hK hP hD hS 1 2 rfl rfl (vin (by decide)) dX5_divideBy_300 (fun H locs hP hD hS => ?_)
      rw [L4_s0] at hP hD
      have hP : va_P D vwCl [(o, mO ad nf mo), (ad 11, a4 ca (v.1 - ((d_b d0 (d_q d0 v t) t).1), rs.2.1, rs.2.2.1, rs.2.2.2)), (a1, a4 ca v), (ad 15, a4 ca (q_mirror t)), (ad 14, a4 ca (d_b d0 (d_q d0 v t) t)), (ad 13, a4 ca (d_q d0 v t)), (a2, a4 ca t)] H := hP
      have hD : va_D A [(o, mO ad nf mo), (ad 11, a4 ca (v.1 - ((d_b d0 (d_q d0 v t) t).1), rs.2.1, rs.2.2.1, rs.2.2.2)), (a1, a4 ca v), (ad 15, a4 ca (q_mirror t)), (ad 14, a4 ca (d_b d0 (d_q d0 v t) t)), (ad 13, a4 ca (d_q d0 v t)), (a2, a4 ca t)] := hD
      refine lv_iinc (v := 1) (lv' := [(10, .int 1), (8, .long ha_222), (6, .long wh_221), (13, .long ot_220), (11, .long of_214), (4, .long nv), (0, .ref o), (1, .ref a1), (2, .ref a2), (3, .int d0)]) hx hb dX5_divideBy_301 hl (k := 0) rfl (by decide) (by decide) rfl (fun ls hl => ?_)
      refine lv_goto (tgt := 276) hx hb dX5_divideBy_304 (by decide) ?_
      refine lv_iload hx hb dX5_divideBy_276 (lv_at hl 0 rfl) ?_
      refine lv_iconst (v := 4) hx hb dX5_divideBy_278 (by decide) ?_
      refine lv_icmp_ge (tgt := 307) hx hb dX5_divideBy_279 (by decide) (fun c_296 => absurd c_296 (by decide)) (fun c_296 => ?_)
      refine lv_aload_n hx hb dX5_divideBy_282 rfl (lv_at hl 6 rfl) ?_
      refine va_get (D := D) (ci := 4) (v := .ref (ad 11)) (C := RX5) (T := TX5) (N := 18) hx hb hts in_X5 hown hK hP 0 rfl rfl 11 (by decide) (hts _ q584) (fun _ h9 => h9) rfl dX5_divideBy_283 ?_
      refine lv_iload hx hb dX5_divideBy_286 (lv_at hl 0 rfl) ?_
      refine lv_aload_n hx hb dX5_divideBy_288 rfl (lv_at hl 7 rfl) ?_
      refine lv_iload hx hb dX5_divideBy_289 (lv_at hl 0 rfl) ?_
      refine va_lald hx hb hK hP 2 2 rfl rfl (vin (by decide)) dX5_divideBy_291 ?_
      refine lv_topl (fun z_297 ez_297 => ?_)
      obtain rfl : z_297 = v.2.1 := ez_297.trans rfl
      refine lv_aload_n hx hb dX5_divideBy_292 rfl (lv_at hl 6 rfl) ?_
      refine va_get (D := D) (ci := 4) (v := .ref (ad 14)) (C := RX5) (T := TX5) (N := 18) hx hb hts in_X5 hown hK hP 0 rfl rfl 14 (by decide) (hts _ q587) (fun _ h9 => h9) rfl dX5_divideBy_293 ?_
      refine lv_iload hx hb dX5_divideBy_296 (lv_at hl 0 rfl) ?_
      refine va_lald hx hb hK hP 4 2 rfl rfl (vin (by decide)) dX5_divideBy_298 ?_
      refine lv_topl (fun z_298 ez_298 => ?_)
      obtain rfl : z_298 = (d_b d0 (d_q d0 v t) t).2.1 := ez_298.trans rfl
      refine lv_lsub hx hb dX5_divideBy_299 ?_
      refine va_last hx hb hK hP hD hS 1 2 rfl rfl (vin (by decide)) dX5_divideBy_300 (fun H locs hP hD hS => ?_)
      rw [L4_s1] at hP hD
      have hP : va_P D vwCl [(o, mO ad nf mo), (ad 11, a4 ca (v.1 - ((d_b d0 (d_q d0 v t) t).1), v.2.1 - ((d_b d0 (d_q d0 v t) t).2.1), rs.2.2.1, rs.2.2.2)), (a1, a4 ca v), (ad 15, a4 ca (q_mirror t)), (ad 14, a4 ca (d_b d0 (d_q d0 v t) t)), (ad 13, a4 ca (d_q d0 v t)), (a2, a4 ca t)] H := hP
      have hD : va_D A [(o, mO ad nf mo), (ad 11, a4 ca (v.1 - ((d_b d0 (d_q d0 v t) t).1), v.2.1 - ((d_b d0 (d_q d0 v t) t).2.1), rs.2.2.1, rs.2.2.2)), (a1, a4 ca v), (ad 15, a4 ca (q_mirror t)), (ad 14, a4 ca (d_b d0 (d_q d0 v t) t)), (ad 13, a4 ca (d_q d0 v t)), (a2, a4 ca t)] := hD
      refine lv_iinc (v := 2) (lv' := [(10, .int 2), (8, .long ha_222), (6, .long wh_221), (13, .long ot_220), (11, .long of_214), (4, .long nv), (0, .ref o), (1, .ref a1), (2, .ref a2), (3, .int d0)]) hx hb dX5_divideBy_301 hl (k := 0) rfl (by decide) (by decide) rfl (fun ls hl => ?_)
      refine lv_goto (tgt := 276) hx hb dX5_divideBy_304 (by decide) ?_
      refine lv_iload hx hb dX5_divideBy_276 (lv_at hl 0 rfl) ?_
      refine lv_iconst (v := 4) hx hb dX5_divideBy_278 (by decide) ?_
      refine lv_icmp_ge (tgt := 307) hx hb dX5_divideBy_279 (by decide) (fun c_299 => absurd c_299 (by decide)) (fun c_299 => ?_)
      refine lv_aload_n hx hb dX5_divideBy_282 rfl (lv_at hl 6 rfl) ?_
      refine va_get (D := D) (ci := 4) (v := .ref (ad 11)) (C := RX5) (T := TX5) (N := 18) hx hb hts in_X5 hown hK hP 0 rfl rfl 11 (by decide) (hts _ q584) (fun _ h9 => h9) rfl dX5_divideBy_283 ?_
      refine lv_iload hx hb dX5_divideBy_286 (lv_at hl 0 rfl) ?_
      refine lv_aload_n hx hb dX5_divideBy_288 rfl (lv_at hl 7 rfl) ?_
      refine lv_iload hx hb dX5_divideBy_289 (lv_at hl 0 rfl) ?_
      refine va_lald hx hb hK hP 2 2 rfl rfl (vin (by decide)) dX5_divideBy_291 ?_
      refine lv_topl (fun z_300 ez_300 => ?_)
      obtain rfl : z_300 = v.2.2.1 := ez_300.trans rfl
      refine lv_aload_n hx hb dX5_divideBy_292 rfl (lv_at hl 6 rfl) ?_
      refine va_get (D := D) (ci := 4) (v := .ref (ad 14)) (C := RX5) (T := TX5) (N := 18) hx hb hts in_X5 hown hK hP 0 rfl rfl 14 (by decide) (hts _ q587) (fun _ h9 => h9) rfl dX5_divideBy_293 ?_
      refine lv_iload hx hb dX5_divideBy_296 (lv_at hl 0 rfl) ?_
      refine va_lald hx hb hK hP 4 2 rfl rfl (vin (by decide)) dX5_divideBy_298 ?_
      refine lv_topl (fun z_301 ez_301 => ?_)
      obtain rfl : z_301 = (d_b d0 (d_q d0 v t) t).2.2.1 := ez_301.trans rfl
      refine lv_lsub hx hb dX5_divideBy_299 ?_
      refine va_last hx hb hK hP hD hS 1 2 rfl rfl (vin (by decide)) dX5_divideBy_300 (fun H locs hP hD hS => ?_)
      rw [L4_s2] at hP hD
      have hP : va_P D vwCl [(o, mO ad nf mo), (ad 11, a4 ca (v.1 - ((d_b d0 (d_q d0 v t) t).1), v.2.1 - ((d_b d0 (d_q d0 v t) t).2.1), v.2.2.1 - ((d_b d0 (d_q d0 v t) t).2.2.1), rs.2.2.2)), (a1, a4 ca v), (ad 15, a4 ca (q_mirror t)), (ad 14, a4 ca (d_b d0 (d_q d0 v t) t)), (ad 13, a4 ca (d_q d0 v t)), (a2, a4 ca t)] H := hP
      have hD : va_D A [(o, mO ad nf mo), (ad 11, a4 ca (v.1 - ((d_b d0 (d_q d0 v t) t).1), v.2.1 - ((d_b d0 (d_q d0 v t) t).2.1), v.2.2.1 - ((d_b d0 (d_q d0 v t) t).2.2.1), rs.2.2.2)), (a1, a4 ca v), (ad 15, a4 ca (q_mirror t)), (ad 14, a4 ca (d_b d0 (d_q d0 v t) t)), (ad 13, a4 ca (d_q d0 v t)), (a2, a4 ca t)] := hD
      refine lv_iinc (v := 3) (lv' := [(10, .int 3), (8, .long ha_222), (6, .long wh_221), (13, .long ot_220), (11, .long of_214), (4, .long nv), (0, .ref o), (1, .ref a1), (2, .ref a2), (3, .int d0)]) hx hb dX5_divideBy_301 hl (k := 0) rfl (by decide) (by decide) rfl (fun ls hl => ?_)
      refine lv_goto (tgt := 276) hx hb dX5_divideBy_304 (by decide) ?_
      refine lv_iload hx hb dX5_divideBy_276 (lv_at hl 0 rfl) ?_
      refine lv_iconst (v := 4) hx hb dX5_divideBy_278 (by decide) ?_
      refine lv_icmp_ge (tgt := 307) hx hb dX5_divideBy_279 (by decide) (fun c_302 => absurd c_302 (by decide)) (fun c_302 => ?_)
      refine lv_aload_n hx hb dX5_divideBy_282 rfl (lv_at hl 6 rfl) ?_
      refine va_get (D := D) (ci := 4) (v := .ref (ad 11)) (C := RX5) (T := TX5) (N := 18) hx hb hts in_X5 hown hK hP 0 rfl rfl 11 (by decide) (hts _ q584) (fun _ h9 => h9) rfl dX5_divideBy_283 ?_
      refine lv_iload hx hb dX5_divideBy_286 (lv_at hl 0 rfl) ?_
      refine lv_aload_n hx hb dX5_divideBy_288 rfl (lv_at hl 7 rfl) ?_
      refine lv_iload hx hb dX5_divideBy_289 (lv_at hl 0 rfl) ?_
      refine va_lald hx hb hK hP 2 2 rfl rfl (vin (by decide)) dX5_divideBy_291 ?_
      refine lv_topl (fun z_303 ez_303 => ?_)
      obtain rfl : z_303 = v.2.2.2 := ez_303.trans rfl
      refine lv_aload_n hx hb dX5_divideBy_292 rfl (lv_at hl 6 rfl) ?_
      refine va_get (D := D) (ci := 4) (v := .ref (ad 14)) (C := RX5) (T := TX5) (N := 18) hx hb hts in_X5 hown hK hP 0 rfl rfl 14 (by decide) (hts _ q587) (fun _ h9 => h9) rfl dX5_divideBy_293 ?_
      refine lv_iload hx hb dX5_divideBy_296 (lv_at hl 0 rfl) ?_
      refine va_lald hx hb hK hP 4 2 rfl rfl (vin (by decide)) dX5_divideBy_298 ?_
      refine lv_topl (fun z_304 ez_304 => ?_)
      obtain rfl : z_304 = (d_b d0 (d_q d0 v t) t).2.2.2 := ez_304.trans rfl
      refine lv_lsub hx hb dX5_divideBy_299 ?_
      refine va_last hx hb hK hP hD hS 1 2 rfl rfl (vin (by decide)) dX5_divideBy_300 (fun H locs hP hD hS => ?_)
      rw [L4_s3] at hP hD
      have hP : va_P D vwCl [(o, mO ad nf mo), (ad 11, a4 ca (v.1 - ((d_b d0 (d_q d0 v t) t).1), v.2.1 - ((d_b d0 (d_q d0 v t) t).2.1), v.2.2.1 - ((d_b d0 (d_q d0 v t) t).2.2.1), v.2.2.2 - ((d_b d0 (d_q d0 v t) t).2.2.2))), (a1, a4 ca v), (ad 15, a4 ca (q_mirror t)), (ad 14, a4 ca (d_b d0 (d_q d0 v t) t)), (ad 13, a4 ca (d_q d0 v t)), (a2, a4 ca t)] H := hP
      have hD : va_D A [(o, mO ad nf mo), (ad 11, a4 ca (v.1 - ((d_b d0 (d_q d0 v t) t).1), v.2.1 - ((d_b d0 (d_q d0 v t) t).2.1), v.2.2.1 - ((d_b d0 (d_q d0 v t) t).2.2.1), v.2.2.2 - ((d_b d0 (d_q d0 v t) t).2.2.2))), (a1, a4 ca v), (ad 15, a4 ca (q_mirror t)), (ad 14, a4 ca (d_b d0 (d_q d0 v t) t)), (ad 13, a4 ca (d_q d0 v t)), (a2, a4 ca t)] := hD
      refine lv_iinc (v := 4) (lv' := [(10, .int 4), (8, .long ha_222), (6, .long wh_221), (13, .long ot_220), (11, .long of_214), (4, .long nv), (0, .ref o), (1, .ref a1), (2, .ref a2), (3, .int d0)]) hx hb dX5_divideBy_301 hl (k := 0) rfl (by decide) (by decide) rfl (fun ls hl => ?_)
      refine lv_goto (tgt := 276) hx hb dX5_divideBy_304 (by decide) ?_
      refine lv_iload hx hb dX5_divideBy_276 (lv_at hl 0 rfl) ?_
      refine lv_iconst (v := 4) hx hb dX5_divideBy_278 (by decide) ?_
      refine lv_icmp_ge (tgt := 307) hx hb dX5_divideBy_279 (by decide) (fun c_305 => ?_) (fun c_305 => absurd (by decide) c_305)
      exact k_vret () hx hb hr hlocks (trivial) (hP.sub [0, 2, 6, 1, 5, 4, 3] rfl) (hD.sub [0, 2, 6, 1, 5, 4, 3] (by decide) rfl) trivial hS (Nat.le_of_ble_eq_true rfl) (Nat.le_of_ble_eq_true rfl) dX5_divideBy_307
