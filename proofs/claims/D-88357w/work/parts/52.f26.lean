theorem rq_0 (i : Nat) : rq (fun _ => 0) i = (0, 0, 0, 0) := rfl
set_option maxHeartbeats 4000000 in
set_option maxRecDepth 100000 in
theorem ct_X0_init (l : Launch) (D : va_G) (ca : Nat → ClassId) (zH : Nat) (no xo : Nat)  : Met l yX0_init (ws_ yX0_init cX0_init 1 none) ({ frames := 4, cells := 632, slots := 2572, locals := 80 }) (va_Pc [.ref xo] (prZ no NW D ca [(xo, .inr (0, [.null, .null, .null, .null, .null]))] zH (fun H => Fo D H no (0, 0, 0, 0)))) (qV D (fun (u : Nat × Nat × Nat × Nat × Nat × Nat × Nat × (Nat → Nat)) => True) (fun u => [(xo, oX u.1 u.2.1 u.2.2.1 u.2.2.2.1 u.2.2.2.2.1), (u.1, rA ca 3 6 (fun _ => none)), (u.2.1, rA ca 4 24 (fun i => some (u.2.2.2.2.2.2.2 i))), (u.2.2.1, rA ca 5 2 (sdf u.2.2.2.2.2.1 u.2.2.2.2.2.2.1)), (u.2.2.2.1, rA ca 4 16 (fun _ => some no)), (u.2.2.2.2.1, rA ca 4 0 (fun _ => none))]) (fun u H => Ug D H u.2.2.2.2.2.2.2 unC ∧ Sd D H u.2.2.2.2.2.1 u.2.2.2.2.2.2.1 ∧ Rg D H (fun _ => no) (fun _ => 0)) (va_A [(xo, .inr (0, [.null, .null, .null, .null, .null]))] zH)) 632 2572 (va_A [(xo, .inr (0, [.null, .null, .null, .null, .null]))] zH) := by
  have hk := NW_ok
  refine k_ofZ (Qc := qV D (fun (u : Nat × Nat × Nat × Nat × Nat × Nat × Nat × (Nat → Nat)) => True) (fun u => [(xo, oX u.1 u.2.1 u.2.2.1 u.2.2.2.1 u.2.2.2.2.1), (u.1, rA ca 3 6 (fun _ => none)), (u.2.1, rA ca 4 24 (fun i => some (u.2.2.2.2.2.2.2 i))), (u.2.2.1, rA ca 5 2 (sdf u.2.2.2.2.2.1 u.2.2.2.2.2.2.1)), (u.2.2.2.1, rA ca 4 16 (fun _ => some no)), (u.2.2.2.2.1, rA ca 4 0 (fun _ => none))]) (fun u H => Ug D H u.2.2.2.2.2.2.2 unC ∧ Sd D H u.2.2.2.2.2.1 u.2.2.2.2.2.2.1 ∧ Rg D H (fun _ => no) (fun _ => 0))) (by decide) (Nat.le_of_ble_eq_true rfl) ?_
  intro p e s m below meth c ls A H hH hx hb hr hts hown hlocks hnm hml hsz hP hD hK hN hA hAn hS hro hl hZn
  have hl : lv_has ls 1 [(0, .ref xo)] := hl
  have nF0 := k_outF hK (hH ▸ hP) (okc (oko 0 (by decide)) okn) hAn _ _ hro
  refine lv_aload_n hx hb dX0_init_0 rfl (lv_at hl 0 rfl) ?_
  refine W.objInit hx hb hown (hts _ q220) (hts _ q55) (hts _ q56) rfl (by rw [hml]; exact hl.1) rfl dX0_init_1 (Nat.le_of_ble_eq_true rfl) (Nat.le_of_ble_eq_true rfl) ?_
  refine W.eq (g2 := F0 m 4 ls []) rfl ?_
  refine lv_aload_n hx hb dX0_init_4 rfl (lv_at hl 0 rfl) ?_
  refine lv_bipush (v := 6) hx hb dX0_init_5 (by decide) ?_
  refine va_newq hx hb hown (hts _ q221) (hN.2.2.2.2.2.1 _ (List.mem_of_getElem? (i := 0) rfl)) hK hP hD hS hA (n := 6) (N' := 6) (by decide) (by decide) (by decide) (Nat.le_of_ble_eq_true rfl) (Nat.le_of_ble_eq_true rfl) dX0_init_7 (fun xs cA H hK9 hP hD hS => ?_)
  obtain ⟨-, -, -, -, -, hn9⟩ := (hK9.2 6 _ rfl).2
  obtain ⟨-, -, -, -, -, hn4⟩ := (hK.2 3 _ rfl).2
  have ecA : cA = ca 3 := Option.some.inj (hn9.symm.trans hn4)
  subst ecA
  clear hK9 hn9 hn4
  have hP : va_P D vwCl [(xo, .inr (0, [.null, .null, .null, .null, .null])), (xs, rA ca 3 6 (fun _ => none))] H := hP
  have hD : va_D A [(xo, .inr (0, [.null, .null, .null, .null, .null])), (xs, rA ca 3 6 (fun _ => none))] := hD
  refine va_putF (D := D) (ci := 0) (v := .ref xs) (ty := (.array (.object "java/lang/Object"))) (C := RX0) (T := TX0) (N := 5) hx hb hts in_X0 tyX0 tyX0_ok nmX0 hown hK hP hD hS 0 rfl rfl 0 (by decide) (hts _ q293) (fun _ h9 => h9) rfl hnm rfl (by decide +kernel) rfl rfl (Nat.le_of_ble_eq_true rfl) dX0_init_10 (fun H locs hP hD hS => ?_)
  have hP : va_P D vwCl [(xo, .inr (0, [.ref xs, .null, .null, .null, .null])), (xs, rA ca 3 6 (fun _ => none))] H := hP
  have hD : va_D A [(xo, .inr (0, [.ref xs, .null, .null, .null, .null])), (xs, rA ca 3 6 (fun _ => none))] := hD
  refine lv_aload_n hx hb dX0_init_13 rfl (lv_at hl 0 rfl) ?_
  refine k_callr (wr := [(xo, .inr (0, [.ref xs, .null, .null, .null, .null])), (xs, rA ca 3 6 (fun _ => none))]) (va_runS (As := []) (rest := [.ref xo]) ⟨hx, hb, hml, hown, hts⟩ (ct_X0_units l D ca H.size ) (va_cwS 0 hts (lw_S q223 q224 q19 q225) rfl rfl rfl (by decide +kernel) ⟨Nat.le_of_ble_eq_true rfl, Nat.le_of_ble_eq_true rfl⟩) (k_pre hk hK hN hP hD [] (by decide) rfl trivial) rfl rfl hl.1 rfl (lv_room (Nat.le_of_ble_eq_true rfl)) dX0_init_14 ⟨Nat.le_of_ble_eq_true rfl, Nat.le_of_ble_eq_true rfl⟩) hP hD hS hA [] [0, 1] rfl rfl (by decide) (by decide) (fun u_2 r_1 H locs w_3 hP hD hxw_3 hzw_3 hqw_3 hS => ?_)
  have hP : va_P D vwCl ([(xo, .inr (0, [.ref xs, .null, .null, .null, .null])), (xs, rA ca 3 6 (fun _ => none)), (r_1, rA ca 4 24 (fun i => some (u_2 i)))] ++ PL u_2 unC 24) H := hP
  have hD : va_D A ([(xo, .inr (0, [.ref xs, .null, .null, .null, .null])), (xs, rA ca 3 6 (fun _ => none)), (r_1, rA ca 4 24 (fun i => some (u_2 i)))] ++ PL u_2 unC 24) := hD
  refine va_putF (D := D) (ci := 0) (v := .ref r_1) (ty := (.array (.object "FourParts$Four"))) (C := RX0) (T := TX0) (N := 5) hx hb hts in_X0 tyX0 tyX0_ok nmX0 hown hK hP hD hS 0 rfl rfl 1 (by decide) (hts _ q294) (fun _ h9 => h9) rfl hnm rfl (by decide +kernel) rfl rfl (Nat.le_of_ble_eq_true rfl) dX0_init_17 (fun H locs hP hD hS => ?_)
  have hP : va_P D vwCl ([(xo, .inr (0, [.ref xs, .ref r_1, .null, .null, .null])), (xs, rA ca 3 6 (fun _ => none)), (r_1, rA ca 4 24 (fun i => some (u_2 i)))] ++ PL u_2 unC 24) H := hP
  have hD : va_D A ([(xo, .inr (0, [.ref xs, .ref r_1, .null, .null, .null])), (xs, rA ca 3 6 (fun _ => none)), (r_1, rA ca 4 24 (fun i => some (u_2 i)))] ++ PL u_2 unC 24) := hD
  refine lv_aload_n hx hb dX0_init_20 rfl (lv_at hl 0 rfl) ?_
  refine lv_iconst (v := 2) hx hb dX0_init_21 (by decide) ?_
  refine va_newq hx hb hown (hts _ q269) (hN.2.2.2.2.2.1 _ (List.mem_of_getElem? (i := 2) rfl)) hK hP hD hS hA (n := 2) (N' := 2) (by decide) (by decide) (by decide) (Nat.le_of_ble_eq_true rfl) (Nat.le_of_ble_eq_true rfl) dX0_init_22 (fun xd cA H hK9 hP hD hS => ?_)
  obtain ⟨-, -, -, -, -, hn9⟩ := (hK9.2 6 _ rfl).2
  obtain ⟨-, -, -, -, -, hn4⟩ := (hK.2 5 _ rfl).2
  have ecA : cA = ca 5 := Option.some.inj (hn9.symm.trans hn4)
  subst ecA
  clear hK9 hn9 hn4
  have hP := vp_perm (pm_end _ _ _) hP
  have hD := vd_perm (pm_end _ _ _) hD
  have hP : va_P D vwCl ([(xo, .inr (0, [.ref xs, .ref r_1, .null, .null, .null])), (xs, rA ca 3 6 (fun _ => none)), (r_1, rA ca 4 24 (fun i => some (u_2 i))), (xd, rA ca 5 2 (fun _ => none))] ++ PL u_2 unC 24) H := hP
  have hD : va_D A ([(xo, .inr (0, [.ref xs, .ref r_1, .null, .null, .null])), (xs, rA ca 3 6 (fun _ => none)), (r_1, rA ca 4 24 (fun i => some (u_2 i))), (xd, rA ca 5 2 (fun _ => none))] ++ PL u_2 unC 24) := hD
  refine lv_dup hx hb dX0_init_25 rfl ?_
  refine lv_iconst (v := 0) hx hb dX0_init_26 (by decide) ?_
  refine va_new (ci := 2) (fs := []) (C := RX3) (T := TX3) (N := 0) hx hb hts (fun w h => by simp [u_ws] at h) (fun _ => .int) (fun j hj => absurd hj (Nat.not_lt_zero j)) hown (hts _ q271) (hts _ q272) (hts _ q22) hK hP hD hS hA rfl (fun j hj => absurd hj (Nat.not_lt_zero j)) (Nat.le_of_ble_eq_true rfl) (Nat.le_of_ble_eq_true rfl) dX0_init_27 (fun q_4 H hP hD hS => ?_)
  have hP := vp_perm (pm_end _ _ _) hP
  have hD := vd_perm (pm_end _ _ _) hD
  have hP : va_P D vwCl ([(xo, .inr (0, [.ref xs, .ref r_1, .null, .null, .null])), (xs, rA ca 3 6 (fun _ => none)), (r_1, rA ca 4 24 (fun i => some (u_2 i))), (xd, rA ca 5 2 (fun _ => none)), (q_4, .inr (2, []))] ++ PL u_2 unC 24) H := hP
  have hD : va_D A ([(xo, .inr (0, [.ref xs, .ref r_1, .null, .null, .null])), (xs, rA ca 3 6 (fun _ => none)), (r_1, rA ca 4 24 (fun i => some (u_2 i))), (xd, rA ca 5 2 (fun _ => none)), (q_4, .inr (2, []))] ++ PL u_2 unC 24) := hD
  refine lv_dup hx hb dX0_init_30 rfl ?_
  refine k_callvP (wr := [(xo, .inr (0, [.ref xs, .ref r_1, .null, .null, .null])), (xs, rA ca 3 6 (fun _ => none)), (r_1, rA ca 4 24 (fun i => some (u_2 i))), (xd, rA ca 5 2 (fun _ => none)), (q_4, .inr (2, []))]) (va_runIN (As := []) (rest := [.ref q_4, .int 0, .ref xd, .ref xd, .ref xo]) ⟨hx, hb, hml, hown, hts⟩ (ct_X3_init l D ca H.size q_4) ⟨va_cnB 0 hts (lw_meth q275) rfl rfl rfl (hN.2.1 _ (List.mem_of_getElem? (i := 0) rfl)) (hts _ q22) (by decide +kernel) ⟨Nat.le_of_ble_eq_true rfl, Nat.le_of_ble_eq_true rfl⟩, rfl, hts _ q274⟩ (k_pre hk hK hN (vq_pre hP) (vd_pre hD) [] (by decide) rfl trivial) rfl rfl hl.1 rfl (lv_room (Nat.le_of_ble_eq_true rfl)) dX0_init_31 ⟨Nat.le_of_ble_eq_true rfl, Nat.le_of_ble_eq_true rfl⟩) hP hD hS hA [] [0, 1, 2, 3, 4] rfl rfl (by decide) (by decide) (fun u_6 H locs w_7 hP hD hxw_7 hzw_7 hqw_7 hS => ?_)
  refine va_astqO hx hb hK hP hD hS 3 5 4 2 rfl rfl (hN.2.2.2.1 _ (List.mem_of_getElem? (i := 0) rfl)) rfl rfl (vin (by decide)) dX0_init_34 (fun H locs hP hD hS => ?_)
  have hP : va_P D vwCl ([(xo, .inr (0, [.ref xs, .ref r_1, .null, .null, .null])), (xs, rA ca 3 6 (fun _ => none)), (r_1, rA ca 4 24 (fun i => some (u_2 i))), (xd, rA ca 5 2 (va_up (fun _ => none) 0 (some q_4))), (q_4, .inr (2, []))] ++ PL u_2 unC 24) H := hP
  have hD : va_D A ([(xo, .inr (0, [.ref xs, .ref r_1, .null, .null, .null])), (xs, rA ca 3 6 (fun _ => none)), (r_1, rA ca 4 24 (fun i => some (u_2 i))), (xd, rA ca 5 2 (va_up (fun _ => none) 0 (some q_4))), (q_4, .inr (2, []))] ++ PL u_2 unC 24) := hD
  refine lv_dup hx hb dX0_init_35 rfl ?_
  refine lv_iconst (v := 1) hx hb dX0_init_36 (by decide) ?_
  refine va_new (ci := 3) (fs := []) (C := RX4) (T := TX4) (N := 0) hx hb hts (fun w h => by simp [u_ws] at h) (fun _ => .int) (fun j hj => absurd hj (Nat.not_lt_zero j)) hown (hts _ q281) (hts _ q282) (hts _ q23) hK hP hD hS hA rfl (fun j hj => absurd hj (Nat.not_lt_zero j)) (Nat.le_of_ble_eq_true rfl) (Nat.le_of_ble_eq_true rfl) dX0_init_37 (fun q_8 H hP hD hS => ?_)
  have hP := vp_perm (pm_end _ _ _) hP
  have hD := vd_perm (pm_end _ _ _) hD
  have hP : va_P D vwCl ([(xo, .inr (0, [.ref xs, .ref r_1, .null, .null, .null])), (xs, rA ca 3 6 (fun _ => none)), (r_1, rA ca 4 24 (fun i => some (u_2 i))), (xd, rA ca 5 2 (va_up (fun _ => none) 0 (some q_4))), (q_4, .inr (2, [])), (q_8, .inr (3, []))] ++ PL u_2 unC 24) H := hP
  have hD : va_D A ([(xo, .inr (0, [.ref xs, .ref r_1, .null, .null, .null])), (xs, rA ca 3 6 (fun _ => none)), (r_1, rA ca 4 24 (fun i => some (u_2 i))), (xd, rA ca 5 2 (va_up (fun _ => none) 0 (some q_4))), (q_4, .inr (2, [])), (q_8, .inr (3, []))] ++ PL u_2 unC 24) := hD
  refine lv_dup hx hb dX0_init_40 rfl ?_
  refine k_callvP (wr := [(xo, .inr (0, [.ref xs, .ref r_1, .null, .null, .null])), (xs, rA ca 3 6 (fun _ => none)), (r_1, rA ca 4 24 (fun i => some (u_2 i))), (xd, rA ca 5 2 (va_up (fun _ => none) 0 (some q_4))), (q_4, .inr (2, [])), (q_8, .inr (3, []))]) (va_runIN (As := []) (rest := [.ref q_8, .int 1, .ref xd, .ref xd, .ref xo]) ⟨hx, hb, hml, hown, hts⟩ (ct_X4_init l D ca H.size q_8) ⟨va_cnB 0 hts (lw_meth q285) rfl rfl rfl (hN.2.1 _ (List.mem_of_getElem? (i := 1) rfl)) (hts _ q23) (by decide +kernel) ⟨Nat.le_of_ble_eq_true rfl, Nat.le_of_ble_eq_true rfl⟩, rfl, hts _ q284⟩ (k_pre hk hK hN (vq_pre hP) (vd_pre hD) [] (by decide) rfl trivial) rfl rfl hl.1 rfl (lv_room (Nat.le_of_ble_eq_true rfl)) dX0_init_41 ⟨Nat.le_of_ble_eq_true rfl, Nat.le_of_ble_eq_true rfl⟩) hP hD hS hA [] [0, 1, 2, 3, 4, 5] rfl rfl (by decide) (by decide) (fun u_10 H locs w_11 hP hD hxw_11 hzw_11 hqw_11 hS => ?_)
  refine va_astqO hx hb hK hP hD hS 3 5 5 3 rfl rfl (hN.2.2.2.1 _ (List.mem_of_getElem? (i := 1) rfl)) rfl rfl (vin (by decide)) dX0_init_44 (fun H locs hP hD hS => ?_)
  have hP : va_P D vwCl ([(xo, .inr (0, [.ref xs, .ref r_1, .null, .null, .null])), (xs, rA ca 3 6 (fun _ => none)), (r_1, rA ca 4 24 (fun i => some (u_2 i))), (xd, rA ca 5 2 (va_up (va_up (fun _ => none) 0 (some q_4)) 1 (some q_8))), (q_4, .inr (2, [])), (q_8, .inr (3, []))] ++ PL u_2 unC 24) H := hP
  have hD : va_D A ([(xo, .inr (0, [.ref xs, .ref r_1, .null, .null, .null])), (xs, rA ca 3 6 (fun _ => none)), (r_1, rA ca 4 24 (fun i => some (u_2 i))), (xd, rA ca 5 2 (va_up (va_up (fun _ => none) 0 (some q_4)) 1 (some q_8))), (q_4, .inr (2, [])), (q_8, .inr (3, []))] ++ PL u_2 unC 24) := hD
  refine va_putF (D := D) (ci := 0) (v := .ref xd) (ty := (.array (.object "FourParts$Side"))) (C := RX0) (T := TX0) (N := 5) hx hb hts in_X0 tyX0 tyX0_ok nmX0 hown hK hP hD hS 0 rfl rfl 2 (by decide) (hts _ q295) (fun _ h9 => h9) rfl hnm rfl (by decide +kernel) rfl rfl (Nat.le_of_ble_eq_true rfl) dX0_init_45 (fun H locs hP hD hS => ?_)
  have hP : va_P D vwCl ([(xo, .inr (0, [.ref xs, .ref r_1, .ref xd, .null, .null])), (xs, rA ca 3 6 (fun _ => none)), (r_1, rA ca 4 24 (fun i => some (u_2 i))), (xd, rA ca 5 2 (va_up (va_up (fun _ => none) 0 (some q_4)) 1 (some q_8))), (q_4, .inr (2, [])), (q_8, .inr (3, []))] ++ PL u_2 unC 24) H := hP
  have hD : va_D A ([(xo, .inr (0, [.ref xs, .ref r_1, .ref xd, .null, .null])), (xs, rA ca 3 6 (fun _ => none)), (r_1, rA ca 4 24 (fun i => some (u_2 i))), (xd, rA ca 5 2 (va_up (va_up (fun _ => none) 0 (some q_4)) 1 (some q_8))), (q_4, .inr (2, [])), (q_8, .inr (3, []))] ++ PL u_2 unC 24) := hD
  refine lv_aload_n hx hb dX0_init_48 rfl (lv_at hl 0 rfl) ?_
  refine k_callrP (wr := [(xo, .inr (0, [.ref xs, .ref r_1, .ref xd, .null, .null])), (xs, rA ca 3 6 (fun _ => none)), (r_1, rA ca 4 24 (fun i => some (u_2 i))), (xd, rA ca 5 2 (va_up (va_up (fun _ => none) 0 (some q_4)) 1 (some q_8))), (q_4, .inr (2, [])), (q_8, .inr (3, []))]) (va_runS (As := []) (rest := [.ref xo]) ⟨hx, hb, hml, hown, hts⟩ (ct_X0_registers l D ca H.size no) (va_cwS 0 hts (lw_S q288 q289 q19 q290) rfl rfl rfl (by decide +kernel) ⟨Nat.le_of_ble_eq_true rfl, Nat.le_of_ble_eq_true rfl⟩) (k_preZ hk hK hN (vq_pre hP) (vd_pre hD) [] (by decide) rfl (hro.keep hS nF0) (va_Z.kept hZn hS.2.1)) rfl rfl hl.1 rfl (lv_room (Nat.le_of_ble_eq_true rfl)) dX0_init_49 ⟨Nat.le_of_ble_eq_true rfl, Nat.le_of_ble_eq_true rfl⟩) hP hD hS hA [] [0, 1, 2, 3, 4, 5] rfl rfl (by decide) (by decide) (fun u_13 r_12 H locs w_14 hP hD hxw_14 hzw_14 hqw_14 hS => ?_)
  have hP : va_P D vwCl ([(xo, .inr (0, [.ref xs, .ref r_1, .ref xd, .null, .null])), (xs, rA ca 3 6 (fun _ => none)), (r_1, rA ca 4 24 (fun i => some (u_2 i))), (xd, rA ca 5 2 (va_up (va_up (fun _ => none) 0 (some q_4)) 1 (some q_8))), (q_4, .inr (2, [])), (q_8, .inr (3, [])), (r_12, rA ca 4 16 (fun _ => some no))] ++ PL u_2 unC 24) H := hP
  have hD : va_D A ([(xo, .inr (0, [.ref xs, .ref r_1, .ref xd, .null, .null])), (xs, rA ca 3 6 (fun _ => none)), (r_1, rA ca 4 24 (fun i => some (u_2 i))), (xd, rA ca 5 2 (va_up (va_up (fun _ => none) 0 (some q_4)) 1 (some q_8))), (q_4, .inr (2, [])), (q_8, .inr (3, [])), (r_12, rA ca 4 16 (fun _ => some no))] ++ PL u_2 unC 24) := hD
  refine va_putF (D := D) (ci := 0) (v := .ref r_12) (ty := (.array (.object "FourParts$Four"))) (C := RX0) (T := TX0) (N := 5) hx hb hts in_X0 tyX0 tyX0_ok nmX0 hown hK hP hD hS 0 rfl rfl 3 (by decide) (hts _ q296) (fun _ h9 => h9) rfl hnm rfl (by decide +kernel) rfl rfl (Nat.le_of_ble_eq_true rfl) dX0_init_52 (fun H locs hP hD hS => ?_)
  have hP : va_P D vwCl ([(xo, .inr (0, [.ref xs, .ref r_1, .ref xd, .ref r_12, .null])), (xs, rA ca 3 6 (fun _ => none)), (r_1, rA ca 4 24 (fun i => some (u_2 i))), (xd, rA ca 5 2 (va_up (va_up (fun _ => none) 0 (some q_4)) 1 (some q_8))), (q_4, .inr (2, [])), (q_8, .inr (3, [])), (r_12, rA ca 4 16 (fun _ => some no))] ++ PL u_2 unC 24) H := hP
  have hD : va_D A ([(xo, .inr (0, [.ref xs, .ref r_1, .ref xd, .ref r_12, .null])), (xs, rA ca 3 6 (fun _ => none)), (r_1, rA ca 4 24 (fun i => some (u_2 i))), (xd, rA ca 5 2 (va_up (va_up (fun _ => none) 0 (some q_4)) 1 (some q_8))), (q_4, .inr (2, [])), (q_8, .inr (3, [])), (r_12, rA ca 4 16 (fun _ => some no))] ++ PL u_2 unC 24) := hD
  refine lv_aload_n hx hb dX0_init_55 rfl (lv_at hl 0 rfl) ?_
  refine lv_iconst (v := 0) hx hb dX0_init_56 (by decide) ?_
  refine va_newq hx hb hown (hts _ q226) (hN.2.2.2.2.2.1 _ (List.mem_of_getElem? (i := 1) rfl)) hK hP hD hS hA (n := 0) (N' := 0) (by decide) (by decide) (by decide) (Nat.le_of_ble_eq_true rfl) (Nat.le_of_ble_eq_true rfl) dX0_init_57 (fun xf cA H hK9 hP hD hS => ?_)
  obtain ⟨-, -, -, -, -, hn9⟩ := (hK9.2 6 _ rfl).2
  obtain ⟨-, -, -, -, -, hn4⟩ := (hK.2 4 _ rfl).2
  have ecA : cA = ca 4 := Option.some.inj (hn9.symm.trans hn4)
  subst ecA
  clear hK9 hn9 hn4
  have hP := vp_perm (pm_end _ _ _) hP
  have hD := vd_perm (pm_end _ _ _) hD
  have hP : va_P D vwCl ([(xo, .inr (0, [.ref xs, .ref r_1, .ref xd, .ref r_12, .null])), (xs, rA ca 3 6 (fun _ => none)), (r_1, rA ca 4 24 (fun i => some (u_2 i))), (xd, rA ca 5 2 (va_up (va_up (fun _ => none) 0 (some q_4)) 1 (some q_8))), (q_4, .inr (2, [])), (q_8, .inr (3, [])), (r_12, rA ca 4 16 (fun _ => some no)), (xf, rA ca 4 0 (fun _ => none))] ++ PL u_2 unC 24) H := hP
  have hD : va_D A ([(xo, .inr (0, [.ref xs, .ref r_1, .ref xd, .ref r_12, .null])), (xs, rA ca 3 6 (fun _ => none)), (r_1, rA ca 4 24 (fun i => some (u_2 i))), (xd, rA ca 5 2 (va_up (va_up (fun _ => none) 0 (some q_4)) 1 (some q_8))), (q_4, .inr (2, [])), (q_8, .inr (3, [])), (r_12, rA ca 4 16 (fun _ => some no)), (xf, rA ca 4 0 (fun _ => none))] ++ PL u_2 unC 24) := hD
  refine va_put (D := D) (ci := 0) (v := .ref xf) (ty := (.array (.object "FourParts$Four"))) (C := RX0) (T := TX0) (N := 5) hx hb hts in_X0 tyX0 tyX0_ok nmX0 hown hK hP hD hS 0 rfl rfl 4 (by decide) (hts _ q297) (fun _ h9 => h9) rfl (by decide +kernel) rfl rfl (Nat.le_of_ble_eq_true rfl) dX0_init_60 (fun H locs hP hD hS => ?_)
  have hP : va_P D vwCl ([(xo, .inr (0, [.ref xs, .ref r_1, .ref xd, .ref r_12, .ref xf])), (xs, rA ca 3 6 (fun _ => none)), (r_1, rA ca 4 24 (fun i => some (u_2 i))), (xd, rA ca 5 2 (va_up (va_up (fun _ => none) 0 (some q_4)) 1 (some q_8))), (q_4, .inr (2, [])), (q_8, .inr (3, [])), (r_12, rA ca 4 16 (fun _ => some no)), (xf, rA ca 4 0 (fun _ => none))] ++ PL u_2 unC 24) H := hP
  have hD : va_D A ([(xo, .inr (0, [.ref xs, .ref r_1, .ref xd, .ref r_12, .ref xf])), (xs, rA ca 3 6 (fun _ => none)), (r_1, rA ca 4 24 (fun i => some (u_2 i))), (xd, rA ca 5 2 (va_up (va_up (fun _ => none) 0 (some q_4)) 1 (some q_8))), (q_4, .inr (2, [])), (q_8, .inr (3, [])), (r_12, rA ca 4 16 (fun _ => some no)), (xf, rA ca 4 0 (fun _ => none))] ++ PL u_2 unC 24) := hD
  have hU9 := PL_fo hP
  have hP9 := vq_pre hP
  have hD9 := vd_pre hD
  have hE0 : So D H q_4 2 := So.of hP9 4 rfl
  have hE1 : So D H q_8 3 := So.of hP9 5 rfl
  have hPa : va_P D vwCl ([(xd, rA ca 5 2 (va_up (va_up (fun _ => none) 0 (some q_4)) 1 (some q_8)))] ++ [(xo, .inr (0, [.ref xs, .ref r_1, .ref xd, .ref r_12, .ref xf])), (xs, rA ca 3 6 (fun _ => none)), (r_1, rA ca 4 24 (fun i => some (u_2 i))), (r_12, rA ca 4 16 (fun _ => some no)), (xf, rA ca 4 0 (fun _ => none))]) H := hP9.sub [3, 0, 1, 2, 6, 7] rfl
  have hDa : va_D A ([(xd, rA ca 5 2 (va_up (va_up (fun _ => none) 0 (some q_4)) 1 (some q_8)))] ++ [(xo, .inr (0, [.ref xs, .ref r_1, .ref xd, .ref r_12, .ref xf])), (xs, rA ca 3 6 (fun _ => none)), (r_1, rA ca 4 24 (fun i => some (u_2 i))), (r_12, rA ca 4 16 (fun _ => some no)), (xf, rA ca 4 0 (fun _ => none))]) := hD9.sub [3, 0, 1, 2, 6, 7] (by decide) rfl
  have hPb := vp_cell1 (g := sdf q_4 q_8) hPa (fun i hi => by rcases (show i = 0 ∨ i = 1 by omega) with rfl | rfl <;> rfl)
  have hDb : va_D A ([(xd, rA ca 5 2 (sdf q_4 q_8))] ++ [(xo, .inr (0, [.ref xs, .ref r_1, .ref xd, .ref r_12, .ref xf])), (xs, rA ca 3 6 (fun _ => none)), (r_1, rA ca 4 24 (fun i => some (u_2 i))), (r_12, rA ca 4 16 (fun _ => some no)), (xf, rA ca 4 0 (fun _ => none))]) := vd_cell hDa
  exact k_vret (xs, r_1, xd, r_12, xf, q_4, q_8, u_2) hx hb hr hlocks trivial (hPb.sub [1, 2, 3, 0, 4, 5] rfl) (hDb.sub [1, 2, 3, 0, 4, 5] (by decide) rfl) ⟨hU9, ⟨hE0, hE1⟩, fun i hi => by rw [rq_0]; exact hro.keep hS nF0⟩ hS (Nat.le_of_ble_eq_true rfl) (Nat.le_of_ble_eq_true rfl) dX0_init_63
