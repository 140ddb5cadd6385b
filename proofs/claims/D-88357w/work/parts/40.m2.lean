/-! MODEL: registers and sheets -/

set_option maxHeartbeats 4000000 in
set_option maxRecDepth 100000 in
theorem ct_X5_load {KN : State → Prop} (hk : KNok KN) (l : Launch) (D : va_G) (ca : Nat → ClassId) (zH : Nat) (o : Nat) (ad : Nat → Nat) (nf mo : Int32) (t : Nat) (g : Nat → Int32) (v : Q4) (j : Nat) (hj : j < 16) : Met l yX5_load (ws_ yX5_load cX5_load 4 none) ({ frames := 0, cells := 0, slots := 0, locals := 0 }) (va_Pc [.ref o, .ref t, .int (nI j)] (pr_ KN D ca [(o, mO ad nf mo), (ad 3, aI ca 64 g), (t, a4 ca v)] zH (fun _ => True))) (qV D (fun (u : Unit) => True) (fun u => [(o, mO ad nf mo), (ad 3, aI ca 64 g), (t, a4 ca (rq g j))]) (fun u H => True) (va_A [(o, mO ad nf mo), (ad 3, aI ca 64 g), (t, a4 ca v)] zH)) 0 0 (va_A [(o, mO ad nf mo), (ad 3, aI ca 64 g), (t, a4 ca v)] zH) := by
  refine k_ofW (Qc := qV D (fun (u : Unit) => True) (fun u => [(o, mO ad nf mo), (ad 3, aI ca 64 g), (t, a4 ca (rq g j))]) (fun u H => True)) (by decide) (Nat.le_of_ble_eq_true rfl) ?_
  intro p e s m below meth c ls A H hH hx hb hr hts hown hlocks hnm hml hsz hP hD hK hN hA hAn hS hro hl
  have hl : lv_has ls 4 [(0, .ref o), (1, .ref t), (2, .int (nI j))] := hl
  refine lv_iconst (v := 0) hx hb dX5_load_0 (by decide) ?_
  refine lv_istore_n (lv' := [(3, .int 0), (0, .ref o), (1, .ref t), (2, .int (nI j))]) hx hb dX5_load_1 rfl hl (by decide) rfl (fun ls hl => ?_)
  refine lv_iload_n hx hb dX5_load_2 rfl (lv_at hl 0 rfl) ?_
  refine lv_iconst (v := 4) hx hb dX5_load_3 (by decide) ?_
  refine lv_icmp_ge (tgt := 27) hx hb dX5_load_4 (by decide) (fun c_1 => absurd c_1 (by decide)) (fun c_1 => ?_)
  refine lv_aload_n hx hb dX5_load_7 rfl (lv_at hl 2 rfl) ?_
  refine lv_iload_n hx hb dX5_load_8 rfl (lv_at hl 0 rfl) ?_
  refine lv_aload_n hx hb dX5_load_9 rfl (lv_at hl 1 rfl) ?_
  refine va_get (D := D) (ci := 4) (v := .ref (ad 3)) (C := RX5) (T := TX5) (N := 18) hx hb hts in_X5 hown hK hP 0 rfl rfl 3 (by decide) (hts _ q576) (fun _ h9 => h9) rfl dX5_load_10 ?_
  refine lv_iconst (v := 4) hx hb dX5_load_13 (by decide) ?_
  refine lv_iload_n hx hb dX5_load_14 rfl (lv_at hl 3 rfl) ?_
  refine lv_imul hx hb dX5_load_15 ?_
  refine lv_iload_n hx hb dX5_load_16 rfl (lv_at hl 0 rfl) ?_
  refine lv_iadd hx hb dX5_load_17 ?_
  refine va_iald hx hb hK hP 1 1 rfl rfl (vin_nI (a := 4 * j) (eq_add0 (eq_mul rfl rfl)) (by omega) (by omega)) dX5_load_18 ?_
  refine lv_topi (fun z_2 ez_2 => ?_)
  obtain rfl : z_2 = g (4 * j) := ez_2.trans (cl_nI (a := 4 * j) g (eq_add0 (eq_mul rfl rfl)) (by omega))
  refine lv_i2l (v := (g (4 * j)).toInt64) hx hb dX5_load_19 rfl ?_
  refine va_last hx hb hK hP hD hS 2 2 rfl rfl (vin (by decide)) dX5_load_20 (fun H locs hP hD hS => ?_)
  rw [L4_s0] at hP hD
  have hP : va_P D vwCl [(o, mO ad nf mo), (ad 3, aI ca 64 g), (t, a4 ca ((g (4 * j)).toInt64, v.2.1, v.2.2.1, v.2.2.2))] H := hP
  have hD : va_D A [(o, mO ad nf mo), (ad 3, aI ca 64 g), (t, a4 ca ((g (4 * j)).toInt64, v.2.1, v.2.2.1, v.2.2.2))] := hD
  refine lv_iinc (v := 1) (lv' := [(3, .int 1), (0, .ref o), (1, .ref t), (2, .int (nI j))]) hx hb dX5_load_21 hl (k := 0) rfl (by decide) (by decide) rfl (fun ls hl => ?_)
  refine lv_goto (tgt := 2) hx hb dX5_load_24 (by decide) ?_
  refine lv_iload_n hx hb dX5_load_2 rfl (lv_at hl 0 rfl) ?_
  refine lv_iconst (v := 4) hx hb dX5_load_3 (by decide) ?_
  refine lv_icmp_ge (tgt := 27) hx hb dX5_load_4 (by decide) (fun c_3 => absurd c_3 (by decide)) (fun c_3 => ?_)
  refine lv_aload_n hx hb dX5_load_7 rfl (lv_at hl 2 rfl) ?_
  refine lv_iload_n hx hb dX5_load_8 rfl (lv_at hl 0 rfl) ?_
  refine lv_aload_n hx hb dX5_load_9 rfl (lv_at hl 1 rfl) ?_
  refine va_get (D := D) (ci := 4) (v := .ref (ad 3)) (C := RX5) (T := TX5) (N := 18) hx hb hts in_X5 hown hK hP 0 rfl rfl 3 (by decide) (hts _ q576) (fun _ h9 => h9) rfl dX5_load_10 ?_
  refine lv_iconst (v := 4) hx hb dX5_load_13 (by decide) ?_
  refine lv_iload_n hx hb dX5_load_14 rfl (lv_at hl 3 rfl) ?_
  refine lv_imul hx hb dX5_load_15 ?_
  refine lv_iload_n hx hb dX5_load_16 rfl (lv_at hl 0 rfl) ?_
  refine lv_iadd hx hb dX5_load_17 ?_
  refine va_iald hx hb hK hP 1 1 rfl rfl (vin_nI (a := (4 * j) + 1) (eq_add (eq_mul rfl rfl) rfl) (by omega) (by omega)) dX5_load_18 ?_
  refine lv_topi (fun z_4 ez_4 => ?_)
  obtain rfl : z_4 = g ((4 * j) + 1) := ez_4.trans (cl_nI (a := (4 * j) + 1) g (eq_add (eq_mul rfl rfl) rfl) (by omega))
  refine lv_i2l (v := (g ((4 * j) + 1)).toInt64) hx hb dX5_load_19 rfl ?_
  refine va_last hx hb hK hP hD hS 2 2 rfl rfl (vin (by decide)) dX5_load_20 (fun H locs hP hD hS => ?_)
  rw [L4_s1] at hP hD
  have hP : va_P D vwCl [(o, mO ad nf mo), (ad 3, aI ca 64 g), (t, a4 ca ((g (4 * j)).toInt64, (g ((4 * j) + 1)).toInt64, v.2.2.1, v.2.2.2))] H := hP
  have hD : va_D A [(o, mO ad nf mo), (ad 3, aI ca 64 g), (t, a4 ca ((g (4 * j)).toInt64, (g ((4 * j) + 1)).toInt64, v.2.2.1, v.2.2.2))] := hD
  refine lv_iinc (v := 2) (lv' := [(3, .int 2), (0, .ref o), (1, .ref t), (2, .int (nI j))]) hx hb dX5_load_21 hl (k := 0) rfl (by decide) (by decide) rfl (fun ls hl => ?_)
  refine lv_goto (tgt := 2) hx hb dX5_load_24 (by decide) ?_
  refine lv_iload_n hx hb dX5_load_2 rfl (lv_at hl 0 rfl) ?_
  refine lv_iconst (v := 4) hx hb dX5_load_3 (by decide) ?_
  refine lv_icmp_ge (tgt := 27) hx hb dX5_load_4 (by decide) (fun c_5 => absurd c_5 (by decide)) (fun c_5 => ?_)
  refine lv_aload_n hx hb dX5_load_7 rfl (lv_at hl 2 rfl) ?_
  refine lv_iload_n hx hb dX5_load_8 rfl (lv_at hl 0 rfl) ?_
  refine lv_aload_n hx hb dX5_load_9 rfl (lv_at hl 1 rfl) ?_
  refine va_get (D := D) (ci := 4) (v := .ref (ad 3)) (C := RX5) (T := TX5) (N := 18) hx hb hts in_X5 hown hK hP 0 rfl rfl 3 (by decide) (hts _ q576) (fun _ h9 => h9) rfl dX5_load_10 ?_
  refine lv_iconst (v := 4) hx hb dX5_load_13 (by decide) ?_
  refine lv_iload_n hx hb dX5_load_14 rfl (lv_at hl 3 rfl) ?_
  refine lv_imul hx hb dX5_load_15 ?_
  refine lv_iload_n hx hb dX5_load_16 rfl (lv_at hl 0 rfl) ?_
  refine lv_iadd hx hb dX5_load_17 ?_
  refine va_iald hx hb hK hP 1 1 rfl rfl (vin_nI (a := (4 * j) + 2) (eq_add (eq_mul rfl rfl) rfl) (by omega) (by omega)) dX5_load_18 ?_
  refine lv_topi (fun z_6 ez_6 => ?_)
  obtain rfl : z_6 = g ((4 * j) + 2) := ez_6.trans (cl_nI (a := (4 * j) + 2) g (eq_add (eq_mul rfl rfl) rfl) (by omega))
  refine lv_i2l (v := (g ((4 * j) + 2)).toInt64) hx hb dX5_load_19 rfl ?_
  refine va_last hx hb hK hP hD hS 2 2 rfl rfl (vin (by decide)) dX5_load_20 (fun H locs hP hD hS => ?_)
  rw [L4_s2] at hP hD
  have hP : va_P D vwCl [(o, mO ad nf mo), (ad 3, aI ca 64 g), (t, a4 ca ((g (4 * j)).toInt64, (g ((4 * j) + 1)).toInt64, (g ((4 * j) + 2)).toInt64, v.2.2.2))] H := hP
  have hD : va_D A [(o, mO ad nf mo), (ad 3, aI ca 64 g), (t, a4 ca ((g (4 * j)).toInt64, (g ((4 * j) + 1)).toInt64, (g ((4 * j) + 2)).toInt64, v.2.2.2))] := hD
  refine lv_iinc (v := 3) (lv' := [(3, .int 3), (0, .ref o), (1, .ref t), (2, .int (nI j))]) hx hb dX5_load_21 hl (k := 0) rfl (by decide) (by decide) rfl (fun ls hl => ?_)
  refine lv_goto (tgt := 2) hx hb dX5_load_24 (by decide) ?_
  refine lv_iload_n hx hb dX5_load_2 rfl (lv_at hl 0 rfl) ?_
  refine lv_iconst (v := 4) hx hb dX5_load_3 (by decide) ?_
  refine lv_icmp_ge (tgt := 27) hx hb dX5_load_4 (by decide) (fun c_7 => absurd c_7 (by decide)) (fun c_7 => ?_)
  refine lv_aload_n hx hb dX5_load_7 rfl (lv_at hl 2 rfl) ?_
  refine lv_iload_n hx hb dX5_load_8 rfl (lv_at hl 0 rfl) ?_
  refine lv_aload_n hx hb dX5_load_9 rfl (lv_at hl 1 rfl) ?_
  refine va_get (D := D) (ci := 4) (v := .ref (ad 3)) (C := RX5) (T := TX5) (N := 18) hx hb hts in_X5 hown hK hP 0 rfl rfl 3 (by decide) (hts _ q576) (fun _ h9 => h9) rfl dX5_load_10 ?_
  refine lv_iconst (v := 4) hx hb dX5_load_13 (by decide) ?_
  refine lv_iload_n hx hb dX5_load_14 rfl (lv_at hl 3 rfl) ?_
  refine lv_imul hx hb dX5_load_15 ?_
  refine lv_iload_n hx hb dX5_load_16 rfl (lv_at hl 0 rfl) ?_
  refine lv_iadd hx hb dX5_load_17 ?_
  refine va_iald hx hb hK hP 1 1 rfl rfl (vin_nI (a := (4 * j) + 3) (eq_add (eq_mul rfl rfl) rfl) (by omega) (by omega)) dX5_load_18 ?_
  refine lv_topi (fun z_8 ez_8 => ?_)
  obtain rfl : z_8 = g ((4 * j) + 3) := ez_8.trans (cl_nI (a := (4 * j) + 3) g (eq_add (eq_mul rfl rfl) rfl) (by omega))
  refine lv_i2l (v := (g ((4 * j) + 3)).toInt64) hx hb dX5_load_19 rfl ?_
  refine va_last hx hb hK hP hD hS 2 2 rfl rfl (vin (by decide)) dX5_load_20 (fun H locs hP hD hS => ?_)
  rw [L4_s3] at hP hD
  have hP : va_P D vwCl [(o, mO ad nf mo), (ad 3, aI ca 64 g), (t, a4 ca ((g (4 * j)).toInt64, (g ((4 * j) + 1)).toInt64, (g ((4 * j) + 2)).toInt64, (g ((4 * j) + 3)).toInt64))] H := hP
  have hD : va_D A [(o, mO ad nf mo), (ad 3, aI ca 64 g), (t, a4 ca ((g (4 * j)).toInt64, (g ((4 * j) + 1)).toInt64, (g ((4 * j) + 2)).toInt64, (g ((4 * j) + 3)).toInt64))] := hD
  refine lv_iinc (v := 4) (lv' := [(3, .int 4), (0, .ref o), (1, .ref t), (2, .int (nI j))]) hx hb dX5_load_21 hl (k := 0) rfl (by decide) (by decide) rfl (fun ls hl => ?_)
  refine lv_goto (tgt := 2) hx hb dX5_load_24 (by decide) ?_
  refine lv_iload_n hx hb dX5_load_2 rfl (lv_at hl 0 rfl) ?_
  refine lv_iconst (v := 4) hx hb dX5_load_3 (by decide) ?_
  refine lv_icmp_ge (tgt := 27) hx hb dX5_load_4 (by decide) (fun c_9 => ?_) (fun c_9 => absurd (by decide) c_9)
  exact k_vret () hx hb hr hlocks (trivial) hP hD trivial hS (Nat.le_of_ble_eq_true rfl) (Nat.le_of_ble_eq_true rfl) dX5_load_27
set_option maxHeartbeats 4000000 in
set_option maxRecDepth 100000 in
theorem ct_X5_loadUnit {KN : State → Prop} (hk : KNok KN) (l : Launch) (D : va_G) (ca : Nat → ClassId) (zH : Nat) (o : Nat) (ad : Nat → Nat) (nf mo : Int32) (t : Nat) (g : Nat → Int32) (v : Q4) (j : Nat) (hj : j < 24) : Met l yX5_loadUnit (ws_ yX5_loadUnit cX5_loadUnit 4 none) ({ frames := 0, cells := 0, slots := 0, locals := 0 }) (va_Pc [.ref o, .ref t, .int (nI j)] (pr_ KN D ca [(o, mO ad nf mo), (ad 4, aI ca 96 g), (t, a4 ca v)] zH (fun _ => True))) (qV D (fun (u : Unit) => True) (fun u => [(o, mO ad nf mo), (ad 4, aI ca 96 g), (t, a4 ca (rq g j))]) (fun u H => True) (va_A [(o, mO ad nf mo), (ad 4, aI ca 96 g), (t, a4 ca v)] zH)) 0 0 (va_A [(o, mO ad nf mo), (ad 4, aI ca 96 g), (t, a4 ca v)] zH) := by
  refine k_ofW (Qc := qV D (fun (u : Unit) => True) (fun u => [(o, mO ad nf mo), (ad 4, aI ca 96 g), (t, a4 ca (rq g j))]) (fun u H => True)) (by decide) (Nat.le_of_ble_eq_true rfl) ?_
  intro p e s m below meth c ls A H hH hx hb hr hts hown hlocks hnm hml hsz hP hD hK hN hA hAn hS hro hl
  have hl : lv_has ls 4 [(0, .ref o), (1, .ref t), (2, .int (nI j))] := hl
  refine lv_iconst (v := 0) hx hb dX5_loadUnit_0 (by decide) ?_
  refine lv_istore_n (lv' := [(3, .int 0), (0, .ref o), (1, .ref t), (2, .int (nI j))]) hx hb dX5_loadUnit_1 rfl hl (by decide) rfl (fun ls hl => ?_)
  refine lv_iload_n hx hb dX5_loadUnit_2 rfl (lv_at hl 0 rfl) ?_
  refine lv_iconst (v := 4) hx hb dX5_loadUnit_3 (by decide) ?_
  refine lv_icmp_ge (tgt := 27) hx hb dX5_loadUnit_4 (by decide) (fun c_1 => absurd c_1 (by decide)) (fun c_1 => ?_)
  refine lv_aload_n hx hb dX5_loadUnit_7 rfl (lv_at hl 2 rfl) ?_
  refine lv_iload_n hx hb dX5_loadUnit_8 rfl (lv_at hl 0 rfl) ?_
  refine lv_aload_n hx hb dX5_loadUnit_9 rfl (lv_at hl 1 rfl) ?_
  refine va_get (D := D) (ci := 4) (v := .ref (ad 4)) (C := RX5) (T := TX5) (N := 18) hx hb hts in_X5 hown hK hP 0 rfl rfl 4 (by decide) (hts _ q577) (fun _ h9 => h9) rfl dX5_loadUnit_10 ?_
  refine lv_iconst (v := 4) hx hb dX5_loadUnit_13 (by decide) ?_
  refine lv_iload_n hx hb dX5_loadUnit_14 rfl (lv_at hl 3 rfl) ?_
  refine lv_imul hx hb dX5_loadUnit_15 ?_
  refine lv_iload_n hx hb dX5_loadUnit_16 rfl (lv_at hl 0 rfl) ?_
  refine lv_iadd hx hb dX5_loadUnit_17 ?_
  refine va_iald hx hb hK hP 1 1 rfl rfl (vin_nI (a := 4 * j) (eq_add0 (eq_mul rfl rfl)) (by omega) (by omega)) dX5_loadUnit_18 ?_
  refine lv_topi (fun z_2 ez_2 => ?_)
  obtain rfl : z_2 = g (4 * j) := ez_2.trans (cl_nI (a := 4 * j) g (eq_add0 (eq_mul rfl rfl)) (by omega))
  refine lv_i2l (v := (g (4 * j)).toInt64) hx hb dX5_loadUnit_19 rfl ?_
  refine va_last hx hb hK hP hD hS 2 2 rfl rfl (vin (by decide)) dX5_loadUnit_20 (fun H locs hP hD hS => ?_)
  rw [L4_s0] at hP hD
  have hP : va_P D vwCl [(o, mO ad nf mo), (ad 4, aI ca 96 g), (t, a4 ca ((g (4 * j)).toInt64, v.2.1, v.2.2.1, v.2.2.2))] H := hP
  have hD : va_D A [(o, mO ad nf mo), (ad 4, aI ca 96 g), (t, a4 ca ((g (4 * j)).toInt64, v.2.1, v.2.2.1, v.2.2.2))] := hD
  refine lv_iinc (v := 1) (lv' := [(3, .int 1), (0, .ref o), (1, .ref t), (2, .int (nI j))]) hx hb dX5_loadUnit_21 hl (k := 0) rfl (by decide) (by decide) rfl (fun ls hl => ?_)
  refine lv_goto (tgt := 2) hx hb dX5_loadUnit_24 (by decide) ?_
  refine lv_iload_n hx hb dX5_loadUnit_2 rfl (lv_at hl 0 rfl) ?_
  refine lv_iconst (v := 4) hx hb dX5_loadUnit_3 (by decide) ?_
  refine lv_icmp_ge (tgt := 27) hx hb dX5_loadUnit_4 (by decide) (fun c_3 => absurd c_3 (by decide)) (fun c_3 => ?_)
  refine lv_aload_n hx hb dX5_loadUnit_7 rfl (lv_at hl 2 rfl) ?_
  refine lv_iload_n hx hb dX5_loadUnit_8 rfl (lv_at hl 0 rfl) ?_
  refine lv_aload_n hx hb dX5_loadUnit_9 rfl (lv_at hl 1 rfl) ?_
  refine va_get (D := D) (ci := 4) (v := .ref (ad 4)) (C := RX5) (T := TX5) (N := 18) hx hb hts in_X5 hown hK hP 0 rfl rfl 4 (by decide) (hts _ q577) (fun _ h9 => h9) rfl dX5_loadUnit_10 ?_
  refine lv_iconst (v := 4) hx hb dX5_loadUnit_13 (by decide) ?_
  refine lv_iload_n hx hb dX5_loadUnit_14 rfl (lv_at hl 3 rfl) ?_
  refine lv_imul hx hb dX5_loadUnit_15 ?_
  refine lv_iload_n hx hb dX5_loadUnit_16 rfl (lv_at hl 0 rfl) ?_
  refine lv_iadd hx hb dX5_loadUnit_17 ?_
  refine va_iald hx hb hK hP 1 1 rfl rfl (vin_nI (a := (4 * j) + 1) (eq_add (eq_mul rfl rfl) rfl) (by omega) (by omega)) dX5_loadUnit_18 ?_
  refine lv_topi (fun z_4 ez_4 => ?_)
  obtain rfl : z_4 = g ((4 * j) + 1) := ez_4.trans (cl_nI (a := (4 * j) + 1) g (eq_add (eq_mul rfl rfl) rfl) (by omega))
  refine lv_i2l (v := (g ((4 * j) + 1)).toInt64) hx hb dX5_loadUnit_19 rfl ?_
  refine va_last hx hb hK hP hD hS 2 2 rfl rfl (vin (by decide)) dX5_loadUnit_20 (fun H locs hP hD hS => ?_)
  rw [L4_s1] at hP hD
  have hP : va_P D vwCl [(o, mO ad nf mo), (ad 4, aI ca 96 g), (t, a4 ca ((g (4 * j)).toInt64, (g ((4 * j) + 1)).toInt64, v.2.2.1, v.2.2.2))] H := hP
  have hD : va_D A [(o, mO ad nf mo), (ad 4, aI ca 96 g), (t, a4 ca ((g (4 * j)).toInt64, (g ((4 * j) + 1)).toInt64, v.2.2.1, v.2.2.2))] := hD
  refine lv_iinc (v := 2) (lv' := [(3, .int 2), (0, .ref o), (1, .ref t), (2, .int (nI j))]) hx hb dX5_loadUnit_21 hl (k := 0) rfl (by decide) (by decide) rfl (fun ls hl => ?_)
  refine lv_goto (tgt := 2) hx hb dX5_loadUnit_24 (by decide) ?_
  refine lv_iload_n hx hb dX5_loadUnit_2 rfl (lv_at hl 0 rfl) ?_
  refine lv_iconst (v := 4) hx hb dX5_loadUnit_3 (by decide) ?_
  refine lv_icmp_ge (tgt := 27) hx hb dX5_loadUnit_4 (by decide) (fun c_5 => absurd c_5 (by decide)) (fun c_5 => ?_)
  refine lv_aload_n hx hb dX5_loadUnit_7 rfl (lv_at hl 2 rfl) ?_
  refine lv_iload_n hx hb dX5_loadUnit_8 rfl (lv_at hl 0 rfl) ?_
  refine lv_aload_n hx hb dX5_loadUnit_9 rfl (lv_at hl 1 rfl) ?_
  refine va_get (D := D) (ci := 4) (v := .ref (ad 4)) (C := RX5) (T := TX5) (N := 18) hx hb hts in_X5 hown hK hP 0 rfl rfl 4 (by decide) (hts _ q577) (fun _ h9 => h9) rfl dX5_loadUnit_10 ?_
  refine lv_iconst (v := 4) hx hb dX5_loadUnit_13 (by decide) ?_
  refine lv_iload_n hx hb dX5_loadUnit_14 rfl (lv_at hl 3 rfl) ?_
  refine lv_imul hx hb dX5_loadUnit_15 ?_
  refine lv_iload_n hx hb dX5_loadUnit_16 rfl (lv_at hl 0 rfl) ?_
  refine lv_iadd hx hb dX5_loadUnit_17 ?_
  refine va_iald hx hb hK hP 1 1 rfl rfl (vin_nI (a := (4 * j) + 2) (eq_add (eq_mul rfl rfl) rfl) (by omega) (by omega)) dX5_loadUnit_18 ?_
  refine lv_topi (fun z_6 ez_6 => ?_)
  obtain rfl : z_6 = g ((4 * j) + 2) := ez_6.trans (cl_nI (a := (4 * j) + 2) g (eq_add (eq_mul rfl rfl) rfl) (by omega))
  refine lv_i2l (v := (g ((4 * j) + 2)).toInt64) hx hb dX5_loadUnit_19 rfl ?_
  refine va_last hx hb hK hP hD hS 2 2 rfl rfl (vin (by decide)) dX5_loadUnit_20 (fun H locs hP hD hS => ?_)
  rw [L4_s2] at hP hD
  have hP : va_P D vwCl [(o, mO ad nf mo), (ad 4, aI ca 96 g), (t, a4 ca ((g (4 * j)).toInt64, (g ((4 * j) + 1)).toInt64, (g ((4 * j) + 2)).toInt64, v.2.2.2))] H := hP
  have hD : va_D A [(o, mO ad nf mo), (ad 4, aI ca 96 g), (t, a4 ca ((g (4 * j)).toInt64, (g ((4 * j) + 1)).toInt64, (g ((4 * j) + 2)).toInt64, v.2.2.2))] := hD
  refine lv_iinc (v := 3) (lv' := [(3, .int 3), (0, .ref o), (1, .ref t), (2, .int (nI j))]) hx hb dX5_loadUnit_21 hl (k := 0) rfl (by decide) (by decide) rfl (fun ls hl => ?_)
  refine lv_goto (tgt := 2) hx hb dX5_loadUnit_24 (by decide) ?_
  refine lv_iload_n hx hb dX5_loadUnit_2 rfl (lv_at hl 0 rfl) ?_
  refine lv_iconst (v := 4) hx hb dX5_loadUnit_3 (by decide) ?_
  refine lv_icmp_ge (tgt := 27) hx hb dX5_loadUnit_4 (by decide) (fun c_7 => absurd c_7 (by decide)) (fun c_7 => ?_)
  refine lv_aload_n hx hb dX5_loadUnit_7 rfl (lv_at hl 2 rfl) ?_
  refine lv_iload_n hx hb dX5_loadUnit_8 rfl (lv_at hl 0 rfl) ?_
  refine lv_aload_n hx hb dX5_loadUnit_9 rfl (lv_at hl 1 rfl) ?_
  refine va_get (D := D) (ci := 4) (v := .ref (ad 4)) (C := RX5) (T := TX5) (N := 18) hx hb hts in_X5 hown hK hP 0 rfl rfl 4 (by decide) (hts _ q577) (fun _ h9 => h9) rfl dX5_loadUnit_10 ?_
  refine lv_iconst (v := 4) hx hb dX5_loadUnit_13 (by decide) ?_
  refine lv_iload_n hx hb dX5_loadUnit_14 rfl (lv_at hl 3 rfl) ?_
  refine lv_imul hx hb dX5_loadUnit_15 ?_
  refine lv_iload_n hx hb dX5_loadUnit_16 rfl (lv_at hl 0 rfl) ?_
  refine lv_iadd hx hb dX5_loadUnit_17 ?_
  refine va_iald hx hb hK hP 1 1 rfl rfl (vin_nI (a := (4 * j) + 3) (eq_add (eq_mul rfl rfl) rfl) (by omega) (by omega)) dX5_loadUnit_18 ?_
  refine lv_topi (fun z_8 ez_8 => ?_)
  obtain rfl : z_8 = g ((4 * j) + 3) := ez_8.trans (cl_nI (a := (4 * j) + 3) g (eq_add (eq_mul rfl rfl) rfl) (by omega))
  refine lv_i2l (v := (g ((4 * j) + 3)).toInt64) hx hb dX5_loadUnit_19 rfl ?_
  refine va_last hx hb hK hP hD hS 2 2 rfl rfl (vin (by decide)) dX5_loadUnit_20 (fun H locs hP hD hS => ?_)
  rw [L4_s3] at hP hD
  have hP : va_P D vwCl [(o, mO ad nf mo), (ad 4, aI ca 96 g), (t, a4 ca ((g (4 * j)).toInt64, (g ((4 * j) + 1)).toInt64, (g ((4 * j) + 2)).toInt64, (g ((4 * j) + 3)).toInt64))] H := hP
  have hD : va_D A [(o, mO ad nf mo), (ad 4, aI ca 96 g), (t, a4 ca ((g (4 * j)).toInt64, (g ((4 * j) + 1)).toInt64, (g ((4 * j) + 2)).toInt64, (g ((4 * j) + 3)).toInt64))] := hD
  refine lv_iinc (v := 4) (lv' := [(3, .int 4), (0, .ref o), (1, .ref t), (2, .int (nI j))]) hx hb dX5_loadUnit_21 hl (k := 0) rfl (by decide) (by decide) rfl (fun ls hl => ?_)
  refine lv_goto (tgt := 2) hx hb dX5_loadUnit_24 (by decide) ?_
  refine lv_iload_n hx hb dX5_loadUnit_2 rfl (lv_at hl 0 rfl) ?_
  refine lv_iconst (v := 4) hx hb dX5_loadUnit_3 (by decide) ?_
  refine lv_icmp_ge (tgt := 27) hx hb dX5_loadUnit_4 (by decide) (fun c_9 => ?_) (fun c_9 => absurd (by decide) c_9)
  exact k_vret () hx hb hr hlocks (trivial) hP hD trivial hS (Nat.le_of_ble_eq_true rfl) (Nat.le_of_ble_eq_true rfl) dX5_loadUnit_27
set_option maxHeartbeats 4000000 in
set_option maxRecDepth 100000 in
theorem ct_X5_store {KN : State → Prop} (hk : KNok KN) (l : Launch) (D : va_G) (ca : Nat → ClassId) (zH : Nat) (o : Nat) (ad : Nat → Nat) (nf mo : Int32) (t : Nat) (g : Nat → Int32) (v : Q4) (j : Nat) (hj : j < 16) : Met l yX5_store (ws_ yX5_store cX5_store 4 none) ({ frames := 0, cells := 0, slots := 0, locals := 0 }) (va_Pc [.ref o, .int (nI j), .ref t] (pr_ KN D ca [(o, mO ad nf mo), (ad 3, aI ca 64 g), (t, a4 ca v)] zH (fun _ => True))) (qV D (fun (u : Unit) => True) (fun u => [(o, mO ad nf mo), (ad 3, aI ca 64 (wq g j v)), (t, a4 ca v)]) (fun u H => True) (va_A [(o, mO ad nf mo), (ad 3, aI ca 64 g), (t, a4 ca v)] zH)) 0 0 (va_A [(o, mO ad nf mo), (ad 3, aI ca 64 g), (t, a4 ca v)] zH) := by
  refine k_ofW (Qc := qV D (fun (u : Unit) => True) (fun u => [(o, mO ad nf mo), (ad 3, aI ca 64 (wq g j v)), (t, a4 ca v)]) (fun u H => True)) (by decide) (Nat.le_of_ble_eq_true rfl) ?_
  intro p e s m below meth c ls A H hH hx hb hr hts hown hlocks hnm hml hsz hP hD hK hN hA hAn hS hro hl
  have hl : lv_has ls 4 [(0, .ref o), (1, .int (nI j)), (2, .ref t)] := hl
  refine lv_iconst (v := 0) hx hb dX5_store_0 (by decide) ?_
  refine lv_istore_n (lv' := [(3, .int 0), (0, .ref o), (1, .int (nI j)), (2, .ref t)]) hx hb dX5_store_1 rfl hl (by decide) rfl (fun ls hl => ?_)
  refine lv_iload_n hx hb dX5_store_2 rfl (lv_at hl 0 rfl) ?_
  refine lv_iconst (v := 4) hx hb dX5_store_3 (by decide) ?_
  refine lv_icmp_ge (tgt := 27) hx hb dX5_store_4 (by decide) (fun c_1 => absurd c_1 (by decide)) (fun c_1 => ?_)
  refine lv_aload_n hx hb dX5_store_7 rfl (lv_at hl 1 rfl) ?_
  refine va_get (D := D) (ci := 4) (v := .ref (ad 3)) (C := RX5) (T := TX5) (N := 18) hx hb hts in_X5 hown hK hP 0 rfl rfl 3 (by decide) (hts _ q576) (fun _ h9 => h9) rfl dX5_store_8 ?_
  refine lv_iconst (v := 4) hx hb dX5_store_11 (by decide) ?_
  refine lv_iload_n hx hb dX5_store_12 rfl (lv_at hl 2 rfl) ?_
  refine lv_imul hx hb dX5_store_13 ?_
  refine lv_iload_n hx hb dX5_store_14 rfl (lv_at hl 0 rfl) ?_
  refine lv_iadd hx hb dX5_store_15 ?_
  refine lv_aload_n hx hb dX5_store_16 rfl (lv_at hl 3 rfl) ?_
  refine lv_iload_n hx hb dX5_store_17 rfl (lv_at hl 0 rfl) ?_
  refine va_lald hx hb hK hP 2 2 rfl rfl (vin (by decide)) dX5_store_18 ?_
  refine lv_topl (fun z_2 ez_2 => ?_)
  obtain rfl : z_2 = v.1 := ez_2.trans rfl
  refine lv_l2i (v := v.1.toInt32) hx hb dX5_store_19 rfl ?_
  refine va_iast hx hb hK hP hD hS 1 1 rfl rfl (vin_nI (a := 4 * j) (eq_add0 (eq_mul rfl rfl)) (by omega) (by omega)) dX5_store_20 (fun H locs hP hD hS => ?_)
  rw [cn_nI (i := (4 * (nI j)) + 0) (a := 4 * j) (eq_add0 (eq_mul rfl rfl)) (by omega)] at hP hD
  have hP : va_P D vwCl [(o, mO ad nf mo), (ad 3, aI ca 64 (upd g (4 * j) v.1.toInt32)), (t, a4 ca v)] H := hP
  have hD : va_D A [(o, mO ad nf mo), (ad 3, aI ca 64 (upd g (4 * j) v.1.toInt32)), (t, a4 ca v)] := hD
  refine lv_iinc (v := 1) (lv' := [(3, .int 1), (0, .ref o), (1, .int (nI j)), (2, .ref t)]) hx hb dX5_store_21 hl (k := 0) rfl (by decide) (by decide) rfl (fun ls hl => ?_)
  refine lv_goto (tgt := 2) hx hb dX5_store_24 (by decide) ?_
  refine lv_iload_n hx hb dX5_store_2 rfl (lv_at hl 0 rfl) ?_
  refine lv_iconst (v := 4) hx hb dX5_store_3 (by decide) ?_
  refine lv_icmp_ge (tgt := 27) hx hb dX5_store_4 (by decide) (fun c_3 => absurd c_3 (by decide)) (fun c_3 => ?_)
  refine lv_aload_n hx hb dX5_store_7 rfl (lv_at hl 1 rfl) ?_
  refine va_get (D := D) (ci := 4) (v := .ref (ad 3)) (C := RX5) (T := TX5) (N := 18) hx hb hts in_X5 hown hK hP 0 rfl rfl 3 (by decide) (hts _ q576) (fun _ h9 => h9) rfl dX5_store_8 ?_
  refine lv_iconst (v := 4) hx hb dX5_store_11 (by decide) ?_
  refine lv_iload_n hx hb dX5_store_12 rfl (lv_at hl 2 rfl) ?_
  refine lv_imul hx hb dX5_store_13 ?_
  refine lv_iload_n hx hb dX5_store_14 rfl (lv_at hl 0 rfl) ?_
  refine lv_iadd hx hb dX5_store_15 ?_
  refine lv_aload_n hx hb dX5_store_16 rfl (lv_at hl 3 rfl) ?_
  refine lv_iload_n hx hb dX5_store_17 rfl (lv_at hl 0 rfl) ?_
  refine va_lald hx hb hK hP 2 2 rfl rfl (vin (by decide)) dX5_store_18 ?_
  refine lv_topl (fun z_4 ez_4 => ?_)
  obtain rfl : z_4 = v.2.1 := ez_4.trans rfl
  refine lv_l2i (v := v.2.1.toInt32) hx hb dX5_store_19 rfl ?_
  refine va_iast hx hb hK hP hD hS 1 1 rfl rfl (vin_nI (a := (4 * j) + 1) (eq_add (eq_mul rfl rfl) rfl) (by omega) (by omega)) dX5_store_20 (fun H locs hP hD hS => ?_)
  rw [cn_nI (i := (4 * (nI j)) + 1) (a := (4 * j) + 1) (eq_add (eq_mul rfl rfl) rfl) (by omega)] at hP hD
  have hP : va_P D vwCl [(o, mO ad nf mo), (ad 3, aI ca 64 (upd (upd g (4 * j) v.1.toInt32) ((4 * j) + 1) v.2.1.toInt32)), (t, a4 ca v)] H := hP
  have hD : va_D A [(o, mO ad nf mo), (ad 3, aI ca 64 (upd (upd g (4 * j) v.1.toInt32) ((4 * j) + 1) v.2.1.toInt32)), (t, a4 ca v)] := hD
  refine lv_iinc (v := 2) (lv' := [(3, .int 2), (0, .ref o), (1, .int (nI j)), (2, .ref t)]) hx hb dX5_store_21 hl (k := 0) rfl (by decide) (by decide) rfl (fun ls hl => ?_)
  refine lv_goto (tgt := 2) hx hb dX5_store_24 (by decide) ?_
  refine lv_iload_n hx hb dX5_store_2 rfl (lv_at hl 0 rfl) ?_
  refine lv_iconst (v := 4) hx hb dX5_store_3 (by decide) ?_
  refine lv_icmp_ge (tgt := 27) hx hb dX5_store_4 (by decide) (fun c_5 => absurd c_5 (by decide)) (fun c_5 => ?_)
  refine lv_aload_n hx hb dX5_store_7 rfl (lv_at hl 1 rfl) ?_
  refine va_get (D := D) (ci := 4) (v := .ref (ad 3)) (C := RX5) (T := TX5) (N := 18) hx hb hts in_X5 hown hK hP 0 rfl rfl 3 (by decide) (hts _ q576) (fun _ h9 => h9) rfl dX5_store_8 ?_
  refine lv_iconst (v := 4) hx hb dX5_store_11 (by decide) ?_
  refine lv_iload_n hx hb dX5_store_12 rfl (lv_at hl 2 rfl) ?_
  refine lv_imul hx hb dX5_store_13 ?_
  refine lv_iload_n hx hb dX5_store_14 rfl (lv_at hl 0 rfl) ?_
  refine lv_iadd hx hb dX5_store_15 ?_
  refine lv_aload_n hx hb dX5_store_16 rfl (lv_at hl 3 rfl) ?_
  refine lv_iload_n hx hb dX5_store_17 rfl (lv_at hl 0 rfl) ?_
  refine va_lald hx hb hK hP 2 2 rfl rfl (vin (by decide)) dX5_store_18 ?_
  refine lv_topl (fun z_6 ez_6 => ?_)
  obtain rfl : z_6 = v.2.2.1 := ez_6.trans rfl
  refine lv_l2i (v := v.2.2.1.toInt32) hx hb dX5_store_19 rfl ?_
  refine va_iast hx hb hK hP hD hS 1 1 rfl rfl (vin_nI (a := (4 * j) + 2) (eq_add (eq_mul rfl rfl) rfl) (by omega) (by omega)) dX5_store_20 (fun H locs hP hD hS => ?_)
  rw [cn_nI (i := (4 * (nI j)) + 2) (a := (4 * j) + 2) (eq_add (eq_mul rfl rfl) rfl) (by omega)] at hP hD
  have hP : va_P D vwCl [(o, mO ad nf mo), (ad 3, aI ca 64 (upd (upd (upd g (4 * j) v.1.toInt32) ((4 * j) + 1) v.2.1.toInt32) ((4 * j) + 2) v.2.2.1.toInt32)), (t, a4 ca v)] H := hP
  have hD : va_D A [(o, mO ad nf mo), (ad 3, aI ca 64 (upd (upd (upd g (4 * j) v.1.toInt32) ((4 * j) + 1) v.2.1.toInt32) ((4 * j) + 2) v.2.2.1.toInt32)), (t, a4 ca v)] := hD
  refine lv_iinc (v := 3) (lv' := [(3, .int 3), (0, .ref o), (1, .int (nI j)), (2, .ref t)]) hx hb dX5_store_21 hl (k := 0) rfl (by decide) (by decide) rfl (fun ls hl => ?_)
  refine lv_goto (tgt := 2) hx hb dX5_store_24 (by decide) ?_
  refine lv_iload_n hx hb dX5_store_2 rfl (lv_at hl 0 rfl) ?_
  refine lv_iconst (v := 4) hx hb dX5_store_3 (by decide) ?_
  refine lv_icmp_ge (tgt := 27) hx hb dX5_store_4 (by decide) (fun c_7 => absurd c_7 (by decide)) (fun c_7 => ?_)
  refine lv_aload_n hx hb dX5_store_7 rfl (lv_at hl 1 rfl) ?_
  refine va_get (D := D) (ci := 4) (v := .ref (ad 3)) (C := RX5) (T := TX5) (N := 18) hx hb hts in_X5 hown hK hP 0 rfl rfl 3 (by decide) (hts _ q576) (fun _ h9 => h9) rfl dX5_store_8 ?_
  refine lv_iconst (v := 4) hx hb dX5_store_11 (by decide) ?_
  refine lv_iload_n hx hb dX5_store_12 rfl (lv_at hl 2 rfl) ?_
  refine lv_imul hx hb dX5_store_13 ?_
  refine lv_iload_n hx hb dX5_store_14 rfl (lv_at hl 0 rfl) ?_
  refine lv_iadd hx hb dX5_store_15 ?_
  refine lv_aload_n hx hb dX5_store_16 rfl (lv_at hl 3 rfl) ?_
  refine lv_iload_n hx hb dX5_store_17 rfl (lv_at hl 0 rfl) ?_
  refine va_lald hx hb hK hP 2 2 rfl rfl (vin (by decide)) dX5_store_18 ?_
  refine lv_topl (fun z_8 ez_8 => ?_)
  obtain rfl : z_8 = v.2.2.2 := ez_8.trans rfl
  refine lv_l2i (v := v.2.2.2.toInt32) hx hb dX5_store_19 rfl ?_
  refine va_iast hx hb hK hP hD hS 1 1 rfl rfl (vin_nI (a := (4 * j) + 3) (eq_add (eq_mul rfl rfl) rfl) (by omega) (by omega)) dX5_store_20 (fun H locs hP hD hS => ?_)
  rw [cn_nI (i := (4 * (nI j)) + 3) (a := (4 * j) + 3) (eq_add (eq_mul rfl rfl) rfl) (by omega)] at hP hD
  have hP : va_P D vwCl [(o, mO ad nf mo), (ad 3, aI ca 64 (upd (upd (upd (upd g (4 * j) v.1.toInt32) ((4 * j) + 1) v.2.1.toInt32) ((4 * j) + 2) v.2.2.1.toInt32) ((4 * j) + 3) v.2.2.2.toInt32)), (t, a4 ca v)] H := hP
  have hD : va_D A [(o, mO ad nf mo), (ad 3, aI ca 64 (upd (upd (upd (upd g (4 * j) v.1.toInt32) ((4 * j) + 1) v.2.1.toInt32) ((4 * j) + 2) v.2.2.1.toInt32) ((4 * j) + 3) v.2.2.2.toInt32)), (t, a4 ca v)] := hD
  refine lv_iinc (v := 4) (lv' := [(3, .int 4), (0, .ref o), (1, .int (nI j)), (2, .ref t)]) hx hb dX5_store_21 hl (k := 0) rfl (by decide) (by decide) rfl (fun ls hl => ?_)
  refine lv_goto (tgt := 2) hx hb dX5_store_24 (by decide) ?_
  refine lv_iload_n hx hb dX5_store_2 rfl (lv_at hl 0 rfl) ?_
  refine lv_iconst (v := 4) hx hb dX5_store_3 (by decide) ?_
  refine lv_icmp_ge (tgt := 27) hx hb dX5_store_4 (by decide) (fun c_9 => ?_) (fun c_9 => absurd (by decide) c_9)
  exact k_vret () hx hb hr hlocks (trivial) hP hD trivial hS (Nat.le_of_ble_eq_true rfl) (Nat.le_of_ble_eq_true rfl) dX5_store_27
set_option maxHeartbeats 4000000 in
set_option maxRecDepth 100000 in
theorem ct_X5_holds {KN : State → Prop} (hk : KNok KN) (l : Launch) (D : va_G) (ca : Nat → ClassId) (zH : Nat) (o : Nat) (ad : Nat → Nat) (nf mo : Int32) (t : Nat) (g : Nat → Int32) (v : Q4) (j : Nat) (hj : j < 16) : Met l yX5_holds (ws_ yX5_holds cX5_holds 3 (some .int)) ({ frames := 3, cells := 0, slots := 0, locals := 66 }) (va_Pc [.ref o, .int (nI j), .ref t] (pr_ KN D ca [(o, mO ad nf mo), (ad 3, aI ca 64 g), (t, a4 ca v)] zH (fun _ => True))) (qI D (fun (r : Int32) (u : (Nat → Int32)) => r = (if q_low v then 0 else -3) ∧ u = h_g g j v) (fun u => [(o, mO ad nf mo), (ad 3, aI ca 64 u), (t, a4 ca v)]) (fun u H => True) (va_A [(o, mO ad nf mo), (ad 3, aI ca 64 g), (t, a4 ca v)] zH)) 0 0 (va_A [(o, mO ad nf mo), (ad 3, aI ca 64 g), (t, a4 ca v)] zH) := by
  refine k_ofW (Qc := qI D (fun (r : Int32) (u : (Nat → Int32)) => r = (if q_low v then 0 else -3) ∧ u = h_g g j v) (fun u => [(o, mO ad nf mo), (ad 3, aI ca 64 u), (t, a4 ca v)]) (fun u H => True)) (by decide) (Nat.le_of_ble_eq_true rfl) ?_
  intro p e s m below meth c ls A H hH hx hb hr hts hown hlocks hnm hml hsz hP hD hK hN hA hAn hS hro hl
  have hl : lv_has ls 3 [(0, .ref o), (1, .int (nI j)), (2, .ref t)] := hl
  refine lv_aload_n hx hb dX5_holds_0 rfl (lv_at hl 2 rfl) ?_
  refine k_calli (wr := [(o, mO ad nf mo), (ad 3, aI ca 64 g)]) (va_runS (As := [.ref t]) (rest := []) ⟨hx, hb, hml, hown, hts⟩ (ct_X5_isLow hk l D ca H.size t v) (va_cwS 1 hts (lw_S q681 q682 q24 q683) rfl rfl rfl (by decide +kernel) ⟨Nat.le_of_ble_eq_true rfl, Nat.le_of_ble_eq_true rfl⟩) (k_pre hk hK hN hP hD [2] (by decide) rfl trivial) rfl rfl hl.1 rfl (lv_room (Nat.le_of_ble_eq_true rfl)) dX5_holds_1 ⟨Nat.le_of_ble_eq_true rfl, Nat.le_of_ble_eq_true rfl⟩) hP hD hS hA [2] [0, 1] rfl rfl (by decide) (by decide) (fun r_1 u_2 H locs w_3 hP hD hxw_3 hzw_3 hqw_3 hS => ?_)
  have hP : va_P D vwCl [(o, mO ad nf mo), (ad 3, aI ca 64 g), (t, a4 ca v)] H := hP
  have hD : va_D A [(o, mO ad nf mo), (ad 3, aI ca 64 g), (t, a4 ca v)] := hD
  obtain rfl : r_1 = bI (q_low v) := w_3
  refine lv_if_ne (tgt := 10) hx hb dX5_holds_4 (by decide) (fun c_4 => ?_) (fun c_4 => ?_)
  · have c_4 := bI_z1 c_4
    refine lv_aload_n hx hb dX5_holds_10 rfl (lv_at hl 0 rfl) ?_
    refine lv_iload_n hx hb dX5_holds_11 rfl (lv_at hl 1 rfl) ?_
    refine lv_aload_n hx hb dX5_holds_12 rfl (lv_at hl 2 rfl) ?_
    refine k_callv (wr := []) (va_runV (As := [.int (nI j), .ref t]) (rest := []) ⟨hx, hb, hml, hown, hts⟩ (ct_X5_store hk l D ca H.size o ad nf mo t g v j (by omega)) (cwV 2 hts (lw_V q684 q686 qs9 q24 q687) rfl rfl rfl (by decide +kernel) ⟨Nat.le_of_ble_eq_true rfl, Nat.le_of_ble_eq_true rfl⟩) (k_preV hk hK hN hP hD [0, 1, 2] (by decide) rfl trivial hP rfl (q0 := 0) rfl) rfl rfl hl.1 rfl (lv_room (Nat.le_of_ble_eq_true rfl)) dX5_holds_13 ⟨Nat.le_of_ble_eq_true rfl, Nat.le_of_ble_eq_true rfl⟩) hP hD hS hA [0, 1, 2] [] rfl rfl (by decide) (by decide) (fun u_6 H locs w_7 hP hD hxw_7 hzw_7 hqw_7 hS => ?_)
    have hP : va_P D vwCl [(o, mO ad nf mo), (ad 3, aI ca 64 (wq g j v)), (t, a4 ca v)] H := hP
    have hD : va_D A [(o, mO ad nf mo), (ad 3, aI ca 64 (wq g j v)), (t, a4 ca v)] := hD
    refine lv_iconst (v := 0) hx hb dX5_holds_16 (by decide) ?_
    exact k_iret (wq g j v) hx hb hr hlocks (by simp [h_g, c_4]) hP hD trivial hS (Nat.le_of_ble_eq_true rfl) (Nat.le_of_ble_eq_true rfl) dX5_holds_17
  · have c_4 := bI_z0 c_4
    refine lv_bipush (v := (-3)) hx hb dX5_holds_7 (by decide) ?_
    exact k_iret g hx hb hr hlocks (by simp [h_g, c_4]) hP hD trivial hS (Nat.le_of_ble_eq_true rfl) (Nat.le_of_ble_eq_true rfl) dX5_holds_9
