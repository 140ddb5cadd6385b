set_option maxHeartbeats 4000000 in
set_option maxRecDepth 100000 in
theorem ct_X2_init {KN : State → Prop} (hk : KNok KN) (l : Launch) (D : va_G) (ca : Nat → ClassId) (zH : Nat) (h0 : Nat)  : Met l yX2_init (ws_ yX2_init cX2_init 1 none) ({ frames := 1, cells := 0, slots := 0, locals := 20 }) (va_Pc [.ref h0] (pr_ KN D ca [] zH (fun _ => True))) (qV D (fun (u : Unit) => True) (fun u => []) (fun u H => True) (va_A [] zH)) 0 0 (va_A [] zH) := by
  refine k_ofW (Qc := qV D (fun (u : Unit) => True) (fun u => []) (fun u H => True)) (by decide) (Nat.le_of_ble_eq_true rfl) ?_
  intro p e s m below meth c ls A H hH hx hb hr hts hown hlocks hnm hml hsz hP hD hK hN hA hAn hS hro hl
  have hl : lv_has ls 1 [(0, .ref h0)] := hl
  refine lv_aload_n hx hb dX2_init_0 rfl (lv_at hl 0 rfl) ?_
  refine W.objInit hx hb hown (hts _ q279) (hts _ q55) (hts _ q56) rfl (by rw [hml]; exact hl.1) rfl dX2_init_1 (Nat.le_of_ble_eq_true rfl) (Nat.le_of_ble_eq_true rfl) ?_
  refine W.eq (g2 := F0 m 4 ls []) rfl ?_
  exact k_vret () hx hb hr hlocks (trivial) hP hD trivial hS (Nat.le_of_ble_eq_true rfl) (Nat.le_of_ble_eq_true rfl) dX2_init_4
set_option maxHeartbeats 4000000 in
set_option maxRecDepth 100000 in
theorem ct_X3_init (l : Launch) (D : va_G) (ca : Nat → ClassId) (zH : Nat) (h0 : Nat)  : Met l yX3_init (ws_ yX3_init cX3_init 1 none) ({ frames := 2, cells := 0, slots := 0, locals := 40 }) (va_Pc [.ref h0] (pr_ NW D ca [] zH (fun _ => True))) (qV D (fun (u : Unit) => True) (fun u => []) (fun u H => True) (va_A [] zH)) 0 0 (va_A [] zH) := by
  have hk := NW_ok
  refine k_ofW (Qc := qV D (fun (u : Unit) => True) (fun u => []) (fun u H => True)) (by decide) (Nat.le_of_ble_eq_true rfl) ?_
  intro p e s m below meth c ls A H hH hx hb hr hts hown hlocks hnm hml hsz hP hD hK hN hA hAn hS hro hl
  have hl : lv_has ls 1 [(0, .ref h0)] := hl
  refine lv_aload_n hx hb dX3_init_0 rfl (lv_at hl 0 rfl) ?_
  refine k_callv (wr := []) (va_runIN (As := []) (rest := []) ⟨hx, hb, hml, hown, hts⟩ (ct_X2_init hk l D ca H.size h0) ⟨va_cnB 0 hts (lw_meth q278) rfl rfl rfl (hN.2.1 _ (List.mem_of_getElem? (i := 3) rfl)) (hts _ q21) (by decide +kernel) ⟨Nat.le_of_ble_eq_true rfl, Nat.le_of_ble_eq_true rfl⟩, rfl, hts _ q277⟩ (k_pre hk hK hN hP hD [] (by decide) rfl trivial) rfl rfl hl.1 rfl (lv_room (Nat.le_of_ble_eq_true rfl)) dX3_init_1 ⟨Nat.le_of_ble_eq_true rfl, Nat.le_of_ble_eq_true rfl⟩) hP hD hS hA [] [] rfl rfl (by decide) (by decide) (fun u_2 H locs w_3 hP hD hxw_3 hzw_3 hqw_3 hS => ?_)
  exact k_vret () hx hb hr hlocks (trivial) hP hD trivial hS (Nat.le_of_ble_eq_true rfl) (Nat.le_of_ble_eq_true rfl) dX3_init_4
set_option maxHeartbeats 4000000 in
set_option maxRecDepth 100000 in
theorem ct_X4_init (l : Launch) (D : va_G) (ca : Nat → ClassId) (zH : Nat) (h0 : Nat)  : Met l yX4_init (ws_ yX4_init cX4_init 1 none) ({ frames := 3, cells := 0, slots := 0, locals := 60 }) (va_Pc [.ref h0] (pr_ NW D ca [] zH (fun _ => True))) (qV D (fun (u : Unit) => True) (fun u => []) (fun u H => True) (va_A [] zH)) 0 0 (va_A [] zH) := by
  have hk := NW_ok
  refine k_ofW (Qc := qV D (fun (u : Unit) => True) (fun u => []) (fun u H => True)) (by decide) (Nat.le_of_ble_eq_true rfl) ?_
  intro p e s m below meth c ls A H hH hx hb hr hts hown hlocks hnm hml hsz hP hD hK hN hA hAn hS hro hl
  have hl : lv_has ls 1 [(0, .ref h0)] := hl
  refine lv_aload_n hx hb dX4_init_0 rfl (lv_at hl 0 rfl) ?_
  refine k_callv (wr := []) (va_runIN (As := []) (rest := []) ⟨hx, hb, hml, hown, hts⟩ (ct_X3_init l D ca H.size h0) ⟨va_cnB 0 hts (lw_meth q275) rfl rfl rfl (hN.2.1 _ (List.mem_of_getElem? (i := 4) rfl)) (hts _ q22) (by decide +kernel) ⟨Nat.le_of_ble_eq_true rfl, Nat.le_of_ble_eq_true rfl⟩, rfl, hts _ q274⟩ (k_pre hk hK hN hP hD [] (by decide) rfl trivial) rfl rfl hl.1 rfl (lv_room (Nat.le_of_ble_eq_true rfl)) dX4_init_1 ⟨Nat.le_of_ble_eq_true rfl, Nat.le_of_ble_eq_true rfl⟩) hP hD hS hA [] [] rfl rfl (by decide) (by decide) (fun u_2 H locs w_3 hP hD hxw_3 hzw_3 hqw_3 hS => ?_)
  exact k_vret () hx hb hr hlocks (trivial) hP hD trivial hS (Nat.le_of_ble_eq_true rfl) (Nat.le_of_ble_eq_true rfl) dX4_init_4
set_option maxHeartbeats 4000000 in
set_option maxRecDepth 100000 in
theorem ct_X3_product {KN : State → Prop} (hk : KNok KN) (l : Launch) (D : va_G) (ca : Nat → ClassId) (zH : Nat) (hs h0 h1 : Nat) (v w : Q4)  : Met l yX3_product (ws_ yX3_product cX3_product 3 (some (.object "FourParts$Four"))) ({ frames := 3, cells := 1, slots := 4, locals := 69 }) (va_Pc [.ref hs, .ref h0, .ref h1] (pr_ KN D ca [] zH (fun H => Fo D H h0 v ∧ Fo D H h1 w))) (qR D (fun (u : Unit) => True) (fun u a => [(a, f4 (q_times v w))]) (fun u a H => True) (va_A [] zH)) 1 4 (va_A [] zH) := by
  refine k_ofW (Qc := qR D (fun (u : Unit) => True) (fun u a => [(a, f4 (q_times v w))]) (fun u a H => True)) (by decide) (Nat.le_of_ble_eq_true rfl) ?_
  intro p e s m below meth c ls A H hH hx hb hr hts hown hlocks hnm hml hsz hP hD hK hN hA hAn hS hro hl
  have hl : lv_has ls 3 [(0, .ref hs), (1, .ref h0), (2, .ref h1)] := hl
  obtain ⟨hF0, hF1⟩ := hro
  have nF0 := k_new hAn hF0.lt
  have nF1 := k_new hAn hF1.lt
  refine lv_aload_n hx hb dX3_product_0 rfl (lv_at hl 1 rfl) ?_
  refine lv_aload_n hx hb dX3_product_1 rfl (lv_at hl 2 rfl) ?_
  refine k_callr (wr := []) (va_runV (As := [.ref h1]) (rest := []) ⟨hx, hb, hml, hown, hts⟩ (ct_X1_times hk l D ca H.size h0 h1 v w) (cwV 1 hts (lw_V q416 q392 q393 q20 q394) rfl rfl rfl (by decide +kernel) ⟨Nat.le_of_ble_eq_true rfl, Nat.le_of_ble_eq_true rfl⟩) (k_preV hk hK hN hP hD [] (by decide) rfl ⟨(hF0.keep hS nF0), (hF1.keep hS nF1)⟩ (hF0.keep hS nF0) rfl (q0 := 0) rfl) rfl rfl hl.1 rfl (lv_room (Nat.le_of_ble_eq_true rfl)) dX3_product_2 ⟨Nat.le_of_ble_eq_true rfl, Nat.le_of_ble_eq_true rfl⟩) hP hD hS hA [] [] rfl rfl (by decide) (by decide) (fun u_2 r_1 H locs w_3 hP hD hxw_3 hzw_3 hqw_3 hS => ?_)
  have hP : va_P D vwCl [(r_1, f4 (q_times v w))] H := hP
  have hD : va_D A [(r_1, f4 (q_times v w))] := hD
  exact k_aret () hx hb hr (Or.inl ⟨_, rfl⟩) hlocks (trivial) hP hD trivial hS (Nat.le_of_ble_eq_true rfl) (Nat.le_of_ble_eq_true rfl) dX3_product_5
set_option maxHeartbeats 4000000 in
set_option maxRecDepth 100000 in
theorem ct_X4_product (l : Launch) (D : va_G) (ca : Nat → ClassId) (zH : Nat) (hs h0 h1 : Nat) (v w : Q4)  : Met l yX4_product (ws_ yX4_product cX4_product 3 (some (.object "FourParts$Four"))) ({ frames := 4, cells := 1, slots := 4, locals := 91 }) (va_Pc [.ref hs, .ref h0, .ref h1] (pr_ NW D ca [] zH (fun H => So D H hs 3 ∧ Fo D H h0 v ∧ Fo D H h1 w))) (qR D (fun (u : Unit) => True) (fun u a => [(a, f4 (q_times w v))]) (fun u a H => True) (va_A [] zH)) 1 4 (va_A [] zH) := by
  have hk := NW_ok
  refine k_ofW (Qc := qR D (fun (u : Unit) => True) (fun u a => [(a, f4 (q_times w v))]) (fun u a H => True)) (by decide) (Nat.le_of_ble_eq_true rfl) ?_
  intro p e s m below meth c ls A H hH hx hb hr hts hown hlocks hnm hml hsz hP hD hK hN hA hAn hS hro hl
  have hl : lv_has ls 3 [(0, .ref hs), (1, .ref h0), (2, .ref h1)] := hl
  obtain ⟨hF0, hF1, hF2⟩ := hro
  have nF0 := k_new hAn hF0.lt
  have nF1 := k_new hAn hF1.lt
  have nF2 := k_new hAn hF2.lt
  refine lv_aload_n hx hb dX4_product_0 rfl (lv_at hl 0 rfl) ?_
  refine lv_aload_n hx hb dX4_product_1 rfl (lv_at hl 2 rfl) ?_
  refine lv_aload_n hx hb dX4_product_2 rfl (lv_at hl 1 rfl) ?_
  refine k_callr (wr := []) (va_runSU (hK.1 3 _ rfl).2 (As := [.ref h1, .ref h0]) (rest := []) ⟨hx, hb, hml, hown, hts⟩ (ct_X3_product hk l D ca H.size hs h1 h0 w v) (va_cwSU 2 hts (lw_app (fun w hw => by simp only [List.mem_cons, List.not_mem_nil, or_false] at hw; rcases hw with e | e | e | e | e <;> rw [e] <;> first | exact q413 | exact q814 | exact q287 | exact q414 | exact q22) (lw_meth q415)) rfl rfl rfl (by decide +kernel) ⟨Nat.le_of_ble_eq_true rfl, Nat.le_of_ble_eq_true rfl⟩) (k_preV hk hK hN hP hD [] (by decide) rfl ⟨(hF2.keep hS nF2), (hF1.keep hS nF1)⟩ (hF0.keep hS nF0) rfl (q0 := 0) rfl) rfl rfl hl.1 rfl (lv_room (Nat.le_of_ble_eq_true rfl)) dX4_product_3 ⟨Nat.le_of_ble_eq_true rfl, Nat.le_of_ble_eq_true rfl⟩) hP hD hS hA [] [] rfl rfl (by decide) (by decide) (fun u_2 r_1 H locs w_3 hP hD hxw_3 hzw_3 hqw_3 hS => ?_)
  have hP : va_P D vwCl [(r_1, f4 (q_times w v))] H := hP
  have hD : va_D A [(r_1, f4 (q_times w v))] := hD
  exact k_aret () hx hb hr (Or.inl ⟨_, rfl⟩) hlocks (trivial) hP hD trivial hS (Nat.le_of_ble_eq_true rfl) (Nat.le_of_ble_eq_true rfl) dX4_product_6
set_option maxHeartbeats 4000000 in
set_option maxRecDepth 100000 in
theorem ct_X2_quotient_R (l : Launch) (D : va_G) (ca : Nat → ClassId) (zH : Nat) (hs h0 h1 : Nat) (v w : Q4) (hn : ¬ 2 * q_norm w = 0) : Met l yX2_quotient (ws_ yX2_quotient cX2_quotient 3 (some (.object "FourParts$Four"))) ({ frames := 4, cells := 3, slots := 12, locals := 91 }) (va_Pc [.ref hs, .ref h0, .ref h1] (pr_ NW D ca [] zH (fun H => So D H hs 2 ∧ Fo D H h0 v ∧ Fo D H h1 w))) (qR D (fun (u : Unit) => True) (fun u a => [(a, f4 (nearC (q_norm w) (q_times v (q_mirror w))))]) (fun u a H => True) (va_A [] zH)) 3 12 (va_A [] zH) := by
  have hk := NW_ok
  refine k_ofW (Qc := qR D (fun (u : Unit) => True) (fun u a => [(a, f4 (nearC (q_norm w) (q_times v (q_mirror w))))]) (fun u a H => True)) (by decide) (Nat.le_of_ble_eq_true rfl) ?_
  intro p e s m below meth c ls A H hH hx hb hr hts hown hlocks hnm hml hsz hP hD hK hN hA hAn hS hro hl
  have hl : lv_has ls 3 [(0, .ref hs), (1, .ref h0), (2, .ref h1)] := hl
  obtain ⟨hF0, hF1, hF2⟩ := hro
  have nF0 := k_new hAn hF0.lt
  have nF1 := k_new hAn hF1.lt
  have nF2 := k_new hAn hF2.lt
  refine lv_aload_n hx hb dX2_quotient_0 rfl (lv_at hl 0 rfl) ?_
  refine lv_aload_n hx hb dX2_quotient_1 rfl (lv_at hl 1 rfl) ?_
  refine lv_aload_n hx hb dX2_quotient_2 rfl (lv_at hl 2 rfl) ?_
  refine k_callr (wr := []) (va_runV (As := []) (rest := [.ref h0, .ref hs]) ⟨hx, hb, hml, hown, hts⟩ (ct_X1_mirror hk l D ca H.size h1 w) (cwV 0 hts (lw_V q428 q396 q397 q20 q398) rfl rfl rfl (by decide +kernel) ⟨Nat.le_of_ble_eq_true rfl, Nat.le_of_ble_eq_true rfl⟩) (k_preV hk hK hN hP hD [] (by decide) rfl (hF2.keep hS nF2) (hF2.keep hS nF2) rfl (q0 := 0) rfl) rfl rfl hl.1 rfl (lv_room (Nat.le_of_ble_eq_true rfl)) dX2_quotient_3 ⟨Nat.le_of_ble_eq_true rfl, Nat.le_of_ble_eq_true rfl⟩) hP hD hS hA [] [] rfl rfl (by decide) (by decide) (fun u_2 r_1 H locs w_3 hP hD hxw_3 hzw_3 hqw_3 hS => ?_)
  have hP : va_P D vwCl [(r_1, f4 (q_mirror w))] H := hP
  have hD : va_D A [(r_1, f4 (q_mirror w))] := hD
  refine k_callr (wr := [(r_1, f4 (q_mirror w))]) (va_runU (x := ySide_product) (As := [.ref h0, .ref r_1]) (rest := []) ⟨hx, hb, hml, hown, hts⟩ (ct_X3_product hk l D ca H.size hs h0 r_1 v (q_mirror w)) (va_cwA (C := "FourParts$Right") (owner := "FourParts$Side") (x := ySide_product) 2 hts (lw_app (fun w hw => by simp only [List.mem_cons, List.not_mem_nil, or_false] at hw; rcases hw with e | e | e | e | e <;> rw [e] <;> first | exact q429 | exact q409 | exact q417 | exact q414 | exact q22) (lw_meth q415)) rfl rfl rfl (hN.2.2.1 _ (List.mem_of_getElem? (i := 1) rfl)) (by decide +kernel) ⟨Nat.le_of_ble_eq_true rfl, Nat.le_of_ble_eq_true rfl⟩) (k_preV hk hK hN hP hD [] (by decide) rfl ⟨(hF1.keep hS nF1), (Fo.of hP 0 rfl)⟩ (hF0.keep hS nF0) rfl (q0 := 0) rfl) rfl rfl hl.1 rfl (lv_room (Nat.le_of_ble_eq_true rfl)) dX2_quotient_6 ⟨Nat.le_of_ble_eq_true rfl, Nat.le_of_ble_eq_true rfl⟩) hP hD hS hA [] [0] rfl rfl (by decide) (by decide) (fun u_5 r_4 H locs w_6 hP hD hxw_6 hzw_6 hqw_6 hS => ?_)
  have hP : va_P D vwCl [(r_1, f4 (q_mirror w)), (r_4, f4 (q_times v (q_mirror w)))] H := hP
  have hD : va_D A [(r_1, f4 (q_mirror w)), (r_4, f4 (q_times v (q_mirror w)))] := hD
  refine lv_aload_n hx hb dX2_quotient_9 rfl (lv_at hl 2 rfl) ?_
  refine k_calll (wr := [(r_1, f4 (q_mirror w)), (r_4, f4 (q_times v (q_mirror w)))]) (va_runV (As := []) (rest := [.ref r_4]) ⟨hx, hb, hml, hown, hts⟩ (ct_X1_norm l D ca H.size h1 w) (cwV 0 hts (lw_V q430 q351 q352 q20 q353) rfl rfl rfl (by decide +kernel) ⟨Nat.le_of_ble_eq_true rfl, Nat.le_of_ble_eq_true rfl⟩) (k_preV hk hK hN hP hD [] (by decide) rfl (hF2.keep hS nF2) (hF2.keep hS nF2) rfl (q0 := 0) rfl) rfl rfl hl.1 rfl (lv_room (Nat.le_of_ble_eq_true rfl)) dX2_quotient_10 ⟨Nat.le_of_ble_eq_true rfl, Nat.le_of_ble_eq_true rfl⟩) hP hD hS hA [] [0, 1] rfl rfl (by decide) (by decide) (fun r_7 u_8 H locs w_9 hP hD hxw_9 hzw_9 hqw_9 hS => ?_)
  obtain rfl : r_7 = q_norm w := w_9
  refine k_callr (wr := [(r_1, f4 (q_mirror w)), (r_4, f4 (q_times v (q_mirror w)))]) (va_runV (As := [.long (q_norm w)]) (rest := []) ⟨hx, hb, hml, hown, hts⟩ (ct_X1_near hk l D ca H.size r_4 (q_norm w) (q_times v (q_mirror w)) hn) (cwV 1 hts (lw_V q431 q432 q433 q20 q434) rfl rfl rfl (by decide +kernel) ⟨Nat.le_of_ble_eq_true rfl, Nat.le_of_ble_eq_true rfl⟩) (k_preV hk hK hN hP hD [] (by decide) rfl (Fo.of hP 1 rfl) hP rfl (q0 := 1) rfl) rfl rfl hl.1 rfl (lv_room (Nat.le_of_ble_eq_true rfl)) dX2_quotient_13 ⟨Nat.le_of_ble_eq_true rfl, Nat.le_of_ble_eq_true rfl⟩) hP hD hS hA [] [0, 1] rfl rfl (by decide) (by decide) (fun u_11 r_10 H locs w_12 hP hD hxw_12 hzw_12 hqw_12 hS => ?_)
  have hP : va_P D vwCl [(r_1, f4 (q_mirror w)), (r_4, f4 (q_times v (q_mirror w))), (r_10, f4 (nearC (q_norm w) (q_times v (q_mirror w))))] H := hP
  have hD : va_D A [(r_1, f4 (q_mirror w)), (r_4, f4 (q_times v (q_mirror w))), (r_10, f4 (nearC (q_norm w) (q_times v (q_mirror w))))] := hD
  exact k_aret () hx hb hr (Or.inl ⟨_, rfl⟩) hlocks (trivial) (hP.sub [2] rfl) (hD.sub [2] (by decide) rfl) trivial hS (Nat.le_of_ble_eq_true rfl) (Nat.le_of_ble_eq_true rfl) dX2_quotient_16
set_option maxHeartbeats 4000000 in
set_option maxRecDepth 100000 in
theorem ct_X2_rest_R (l : Launch) (D : va_G) (ca : Nat → ClassId) (zH : Nat) (hs h0 h1 h2 : Nat) (v q w : Q4)  : Met l yX2_rest (ws_ yX2_rest cX2_rest 4 (some (.object "FourParts$Four"))) ({ frames := 4, cells := 2, slots := 8, locals := 91 }) (va_Pc [.ref hs, .ref h0, .ref h1, .ref h2] (pr_ NW D ca [] zH (fun H => So D H hs 2 ∧ Fo D H h0 v ∧ Fo D H h1 q ∧ Fo D H h2 w))) (qR D (fun (u : Unit) => True) (fun u a => [(a, f4 (q_plus v (q_times q w) (-1)))]) (fun u a H => True) (va_A [] zH)) 2 8 (va_A [] zH) := by
  have hk := NW_ok
  refine k_ofW (Qc := qR D (fun (u : Unit) => True) (fun u a => [(a, f4 (q_plus v (q_times q w) (-1)))]) (fun u a H => True)) (by decide) (Nat.le_of_ble_eq_true rfl) ?_
  intro p e s m below meth c ls A H hH hx hb hr hts hown hlocks hnm hml hsz hP hD hK hN hA hAn hS hro hl
  have hl : lv_has ls 4 [(0, .ref hs), (1, .ref h0), (2, .ref h1), (3, .ref h2)] := hl
  obtain ⟨hF0, hF1, hF2, hF3⟩ := hro
  have nF0 := k_new hAn hF0.lt
  have nF1 := k_new hAn hF1.lt
  have nF2 := k_new hAn hF2.lt
  have nF3 := k_new hAn hF3.lt
  refine lv_aload_n hx hb dX2_rest_0 rfl (lv_at hl 1 rfl) ?_
  refine lv_aload_n hx hb dX2_rest_1 rfl (lv_at hl 0 rfl) ?_
  refine lv_aload_n hx hb dX2_rest_2 rfl (lv_at hl 2 rfl) ?_
  refine lv_aload_n hx hb dX2_rest_3 rfl (lv_at hl 3 rfl) ?_
  refine k_callr (wr := []) (va_runU (x := ySide_product) (As := [.ref h1, .ref h2]) (rest := [.ref h0]) ⟨hx, hb, hml, hown, hts⟩ (ct_X3_product hk l D ca H.size hs h1 h2 q w) (va_cwA (C := "FourParts$Right") (owner := "FourParts$Side") (x := ySide_product) 2 hts (lw_app (fun w hw => by simp only [List.mem_cons, List.not_mem_nil, or_false] at hw; rcases hw with e | e | e | e | e <;> rw [e] <;> first | exact q429 | exact q409 | exact q417 | exact q414 | exact q22) (lw_meth q415)) rfl rfl rfl (hN.2.2.1 _ (List.mem_of_getElem? (i := 1) rfl)) (by decide +kernel) ⟨Nat.le_of_ble_eq_true rfl, Nat.le_of_ble_eq_true rfl⟩) (k_preV hk hK hN hP hD [] (by decide) rfl ⟨(hF2.keep hS nF2), (hF3.keep hS nF3)⟩ (hF0.keep hS nF0) rfl (q0 := 0) rfl) rfl rfl hl.1 rfl (lv_room (Nat.le_of_ble_eq_true rfl)) dX2_rest_4 ⟨Nat.le_of_ble_eq_true rfl, Nat.le_of_ble_eq_true rfl⟩) hP hD hS hA [] [] rfl rfl (by decide) (by decide) (fun u_2 r_1 H locs w_3 hP hD hxw_3 hzw_3 hqw_3 hS => ?_)
  have hP : va_P D vwCl [(r_1, f4 (q_times q w))] H := hP
  have hD : va_D A [(r_1, f4 (q_times q w))] := hD
  refine lv_ldc2 hx hb hown (hts _ q453) dX2_rest_7 ?_
  refine k_callr (wr := [(r_1, f4 (q_times q w))]) (va_runV (As := [.ref r_1, .long (-1)]) (rest := []) ⟨hx, hb, hml, hown, hts⟩ (ct_X1_plus hk l D ca H.size h0 r_1 (-1) v (q_times q w)) (cwV 2 hts (lw_V q454 q386 q387 q20 q388) rfl rfl rfl (by decide +kernel) ⟨Nat.le_of_ble_eq_true rfl, Nat.le_of_ble_eq_true rfl⟩) (k_preV hk hK hN hP hD [] (by decide) rfl ⟨(hF1.keep hS nF1), (Fo.of hP 0 rfl)⟩ (hF1.keep hS nF1) rfl (q0 := 0) rfl) rfl rfl hl.1 rfl (lv_room (Nat.le_of_ble_eq_true rfl)) dX2_rest_10 ⟨Nat.le_of_ble_eq_true rfl, Nat.le_of_ble_eq_true rfl⟩) hP hD hS hA [] [0] rfl rfl (by decide) (by decide) (fun u_5 r_4 H locs w_6 hP hD hxw_6 hzw_6 hqw_6 hS => ?_)
  have hP : va_P D vwCl [(r_1, f4 (q_times q w)), (r_4, f4 (q_plus v (q_times q w) (-1)))] H := hP
  have hD : va_D A [(r_1, f4 (q_times q w)), (r_4, f4 (q_plus v (q_times q w) (-1)))] := hD
  exact k_aret () hx hb hr (Or.inl ⟨_, rfl⟩) hlocks (trivial) (hP.sub [1] rfl) (hD.sub [1] (by decide) rfl) trivial hS (Nat.le_of_ble_eq_true rfl) (Nat.le_of_ble_eq_true rfl) dX2_rest_13
set_option maxHeartbeats 4000000 in
set_option maxRecDepth 100000 in
theorem ct_X2_quotient_L (l : Launch) (D : va_G) (ca : Nat → ClassId) (zH : Nat) (hs h0 h1 : Nat) (v w : Q4) (hn : ¬ 2 * q_norm w = 0) : Met l yX2_quotient (ws_ yX2_quotient cX2_quotient 3 (some (.object "FourParts$Four"))) ({ frames := 5, cells := 3, slots := 12, locals := 113 }) (va_Pc [.ref hs, .ref h0, .ref h1] (pr_ NW D ca [] zH (fun H => So D H hs 3 ∧ Fo D H h0 v ∧ Fo D H h1 w))) (qR D (fun (u : Unit) => True) (fun u a => [(a, f4 (nearC (q_norm w) (q_times (q_mirror w) v)))]) (fun u a H => True) (va_A [] zH)) 3 12 (va_A [] zH) := by
  have hk := NW_ok
  refine k_ofW (Qc := qR D (fun (u : Unit) => True) (fun u a => [(a, f4 (nearC (q_norm w) (q_times (q_mirror w) v)))]) (fun u a H => True)) (by decide) (Nat.le_of_ble_eq_true rfl) ?_
  intro p e s m below meth c ls A H hH hx hb hr hts hown hlocks hnm hml hsz hP hD hK hN hA hAn hS hro hl
  have hl : lv_has ls 3 [(0, .ref hs), (1, .ref h0), (2, .ref h1)] := hl
  obtain ⟨hF0, hF1, hF2⟩ := hro
  have nF0 := k_new hAn hF0.lt
  have nF1 := k_new hAn hF1.lt
  have nF2 := k_new hAn hF2.lt
  refine lv_aload_n hx hb dX2_quotient_0 rfl (lv_at hl 0 rfl) ?_
  refine lv_aload_n hx hb dX2_quotient_1 rfl (lv_at hl 1 rfl) ?_
  refine lv_aload_n hx hb dX2_quotient_2 rfl (lv_at hl 2 rfl) ?_
  refine k_callr (wr := []) (va_runV (As := []) (rest := [.ref h0, .ref hs]) ⟨hx, hb, hml, hown, hts⟩ (ct_X1_mirror hk l D ca H.size h1 w) (cwV 0 hts (lw_V q428 q396 q397 q20 q398) rfl rfl rfl (by decide +kernel) ⟨Nat.le_of_ble_eq_true rfl, Nat.le_of_ble_eq_true rfl⟩) (k_preV hk hK hN hP hD [] (by decide) rfl (hF2.keep hS nF2) (hF2.keep hS nF2) rfl (q0 := 0) rfl) rfl rfl hl.1 rfl (lv_room (Nat.le_of_ble_eq_true rfl)) dX2_quotient_3 ⟨Nat.le_of_ble_eq_true rfl, Nat.le_of_ble_eq_true rfl⟩) hP hD hS hA [] [] rfl rfl (by decide) (by decide) (fun u_2 r_1 H locs w_3 hP hD hxw_3 hzw_3 hqw_3 hS => ?_)
  have hP : va_P D vwCl [(r_1, f4 (q_mirror w))] H := hP
  have hD : va_D A [(r_1, f4 (q_mirror w))] := hD
  refine k_callr (wr := [(r_1, f4 (q_mirror w))]) (va_runU (x := ySide_product) (As := [.ref h0, .ref r_1]) (rest := []) ⟨hx, hb, hml, hown, hts⟩ (ct_X4_product l D ca H.size hs h0 r_1 v (q_mirror w)) (va_cwA (C := "FourParts$Left") (owner := "FourParts$Side") (x := ySide_product) 2 hts (lw_app (fun w hw => by simp only [List.mem_cons, List.not_mem_nil, or_false] at hw; rcases hw with e | e | e | e | e <;> rw [e] <;> first | exact q429 | exact q409 | exact q410 | exact q411 | exact q23) (lw_meth q412)) rfl rfl rfl (hN.2.2.1 _ (List.mem_of_getElem? (i := 1) rfl)) (by decide +kernel) ⟨Nat.le_of_ble_eq_true rfl, Nat.le_of_ble_eq_true rfl⟩) (k_preV hk hK hN hP hD [] (by decide) rfl ⟨(hF0.keep hS nF0), (hF1.keep hS nF1), (Fo.of hP 0 rfl)⟩ (hF0.keep hS nF0) rfl (q0 := 0) rfl) rfl rfl hl.1 rfl (lv_room (Nat.le_of_ble_eq_true rfl)) dX2_quotient_6 ⟨Nat.le_of_ble_eq_true rfl, Nat.le_of_ble_eq_true rfl⟩) hP hD hS hA [] [0] rfl rfl (by decide) (by decide) (fun u_5 r_4 H locs w_6 hP hD hxw_6 hzw_6 hqw_6 hS => ?_)
  have hP : va_P D vwCl [(r_1, f4 (q_mirror w)), (r_4, f4 (q_times (q_mirror w) v))] H := hP
  have hD : va_D A [(r_1, f4 (q_mirror w)), (r_4, f4 (q_times (q_mirror w) v))] := hD
  refine lv_aload_n hx hb dX2_quotient_9 rfl (lv_at hl 2 rfl) ?_
  refine k_calll (wr := [(r_1, f4 (q_mirror w)), (r_4, f4 (q_times (q_mirror w) v))]) (va_runV (As := []) (rest := [.ref r_4]) ⟨hx, hb, hml, hown, hts⟩ (ct_X1_norm l D ca H.size h1 w) (cwV 0 hts (lw_V q430 q351 q352 q20 q353) rfl rfl rfl (by decide +kernel) ⟨Nat.le_of_ble_eq_true rfl, Nat.le_of_ble_eq_true rfl⟩) (k_preV hk hK hN hP hD [] (by decide) rfl (hF2.keep hS nF2) (hF2.keep hS nF2) rfl (q0 := 0) rfl) rfl rfl hl.1 rfl (lv_room (Nat.le_of_ble_eq_true rfl)) dX2_quotient_10 ⟨Nat.le_of_ble_eq_true rfl, Nat.le_of_ble_eq_true rfl⟩) hP hD hS hA [] [0, 1] rfl rfl (by decide) (by decide) (fun r_7 u_8 H locs w_9 hP hD hxw_9 hzw_9 hqw_9 hS => ?_)
  obtain rfl : r_7 = q_norm w := w_9
  refine k_callr (wr := [(r_1, f4 (q_mirror w)), (r_4, f4 (q_times (q_mirror w) v))]) (va_runV (As := [.long (q_norm w)]) (rest := []) ⟨hx, hb, hml, hown, hts⟩ (ct_X1_near hk l D ca H.size r_4 (q_norm w) (q_times (q_mirror w) v) hn) (cwV 1 hts (lw_V q431 q432 q433 q20 q434) rfl rfl rfl (by decide +kernel) ⟨Nat.le_of_ble_eq_true rfl, Nat.le_of_ble_eq_true rfl⟩) (k_preV hk hK hN hP hD [] (by decide) rfl (Fo.of hP 1 rfl) hP rfl (q0 := 1) rfl) rfl rfl hl.1 rfl (lv_room (Nat.le_of_ble_eq_true rfl)) dX2_quotient_13 ⟨Nat.le_of_ble_eq_true rfl, Nat.le_of_ble_eq_true rfl⟩) hP hD hS hA [] [0, 1] rfl rfl (by decide) (by decide) (fun u_11 r_10 H locs w_12 hP hD hxw_12 hzw_12 hqw_12 hS => ?_)
  have hP : va_P D vwCl [(r_1, f4 (q_mirror w)), (r_4, f4 (q_times (q_mirror w) v)), (r_10, f4 (nearC (q_norm w) (q_times (q_mirror w) v)))] H := hP
  have hD : va_D A [(r_1, f4 (q_mirror w)), (r_4, f4 (q_times (q_mirror w) v)), (r_10, f4 (nearC (q_norm w) (q_times (q_mirror w) v)))] := hD
  exact k_aret () hx hb hr (Or.inl ⟨_, rfl⟩) hlocks (trivial) (hP.sub [2] rfl) (hD.sub [2] (by decide) rfl) trivial hS (Nat.le_of_ble_eq_true rfl) (Nat.le_of_ble_eq_true rfl) dX2_quotient_16
set_option maxHeartbeats 4000000 in
set_option maxRecDepth 100000 in
theorem ct_X2_rest_L (l : Launch) (D : va_G) (ca : Nat → ClassId) (zH : Nat) (hs h0 h1 h2 : Nat) (v q w : Q4)  : Met l yX2_rest (ws_ yX2_rest cX2_rest 4 (some (.object "FourParts$Four"))) ({ frames := 5, cells := 2, slots := 8, locals := 113 }) (va_Pc [.ref hs, .ref h0, .ref h1, .ref h2] (pr_ NW D ca [] zH (fun H => So D H hs 3 ∧ Fo D H h0 v ∧ Fo D H h1 q ∧ Fo D H h2 w))) (qR D (fun (u : Unit) => True) (fun u a => [(a, f4 (q_plus v (q_times w q) (-1)))]) (fun u a H => True) (va_A [] zH)) 2 8 (va_A [] zH) := by
  have hk := NW_ok
  refine k_ofW (Qc := qR D (fun (u : Unit) => True) (fun u a => [(a, f4 (q_plus v (q_times w q) (-1)))]) (fun u a H => True)) (by decide) (Nat.le_of_ble_eq_true rfl) ?_
  intro p e s m below meth c ls A H hH hx hb hr hts hown hlocks hnm hml hsz hP hD hK hN hA hAn hS hro hl
  have hl : lv_has ls 4 [(0, .ref hs), (1, .ref h0), (2, .ref h1), (3, .ref h2)] := hl
  obtain ⟨hF0, hF1, hF2, hF3⟩ := hro
  have nF0 := k_new hAn hF0.lt
  have nF1 := k_new hAn hF1.lt
  have nF2 := k_new hAn hF2.lt
  have nF3 := k_new hAn hF3.lt
  refine lv_aload_n hx hb dX2_rest_0 rfl (lv_at hl 1 rfl) ?_
  refine lv_aload_n hx hb dX2_rest_1 rfl (lv_at hl 0 rfl) ?_
  refine lv_aload_n hx hb dX2_rest_2 rfl (lv_at hl 2 rfl) ?_
  refine lv_aload_n hx hb dX2_rest_3 rfl (lv_at hl 3 rfl) ?_
  refine k_callr (wr := []) (va_runU (x := ySide_product) (As := [.ref h1, .ref h2]) (rest := [.ref h0]) ⟨hx, hb, hml, hown, hts⟩ (ct_X4_product l D ca H.size hs h1 h2 q w) (va_cwA (C := "FourParts$Left") (owner := "FourParts$Side") (x := ySide_product) 2 hts (lw_app (fun w hw => by simp only [List.mem_cons, List.not_mem_nil, or_false] at hw; rcases hw with e | e | e | e | e <;> rw [e] <;> first | exact q429 | exact q409 | exact q410 | exact q411 | exact q23) (lw_meth q412)) rfl rfl rfl (hN.2.2.1 _ (List.mem_of_getElem? (i := 1) rfl)) (by decide +kernel) ⟨Nat.le_of_ble_eq_true rfl, Nat.le_of_ble_eq_true rfl⟩) (k_preV hk hK hN hP hD [] (by decide) rfl ⟨(hF0.keep hS nF0), (hF2.keep hS nF2), (hF3.keep hS nF3)⟩ (hF0.keep hS nF0) rfl (q0 := 0) rfl) rfl rfl hl.1 rfl (lv_room (Nat.le_of_ble_eq_true rfl)) dX2_rest_4 ⟨Nat.le_of_ble_eq_true rfl, Nat.le_of_ble_eq_true rfl⟩) hP hD hS hA [] [] rfl rfl (by decide) (by decide) (fun u_2 r_1 H locs w_3 hP hD hxw_3 hzw_3 hqw_3 hS => ?_)
  have hP : va_P D vwCl [(r_1, f4 (q_times w q))] H := hP
  have hD : va_D A [(r_1, f4 (q_times w q))] := hD
  refine lv_ldc2 hx hb hown (hts _ q453) dX2_rest_7 ?_
  refine k_callr (wr := [(r_1, f4 (q_times w q))]) (va_runV (As := [.ref r_1, .long (-1)]) (rest := []) ⟨hx, hb, hml, hown, hts⟩ (ct_X1_plus hk l D ca H.size h0 r_1 (-1) v (q_times w q)) (cwV 2 hts (lw_V q454 q386 q387 q20 q388) rfl rfl rfl (by decide +kernel) ⟨Nat.le_of_ble_eq_true rfl, Nat.le_of_ble_eq_true rfl⟩) (k_preV hk hK hN hP hD [] (by decide) rfl ⟨(hF1.keep hS nF1), (Fo.of hP 0 rfl)⟩ (hF1.keep hS nF1) rfl (q0 := 0) rfl) rfl rfl hl.1 rfl (lv_room (Nat.le_of_ble_eq_true rfl)) dX2_rest_10 ⟨Nat.le_of_ble_eq_true rfl, Nat.le_of_ble_eq_true rfl⟩) hP hD hS hA [] [0] rfl rfl (by decide) (by decide) (fun u_5 r_4 H locs w_6 hP hD hxw_6 hzw_6 hqw_6 hS => ?_)
  have hP : va_P D vwCl [(r_1, f4 (q_times w q)), (r_4, f4 (q_plus v (q_times w q) (-1)))] H := hP
  have hD : va_D A [(r_1, f4 (q_times w q)), (r_4, f4 (q_plus v (q_times w q) (-1)))] := hD
  exact k_aret () hx hb hr (Or.inl ⟨_, rfl⟩) hlocks (trivial) (hP.sub [1] rfl) (hD.sub [1] (by decide) rfl) trivial hS (Nat.le_of_ble_eq_true rfl) (Nat.le_of_ble_eq_true rfl) dX2_rest_13
