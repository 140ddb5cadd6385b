set_option maxHeartbeats 4000000 in
set_option maxRecDepth 100000 in
theorem ct_X0_store_0 (l : Launch) (D : va_G) (ca : Nat → ClassId) (zH : Nat) (rw n ai : Nat) (f : AL) (v : Int64) (hn : n ≤ 16) (hai : ai < n) : Met l yX0_store (ws_ yX0_store cX0_store 4 none) ({ frames := 0, cells := 0, slots := 0, locals := 0 }) (va_Pc [.ref rw, .int (nI ai), .long v] (pr_ NW D ca [(rw, rwE ca 0 n f)] zH (fun _ => True))) (qV D (fun (u : Unit) => True) (fun u => [(rw, rwE ca 0 n (vp_updL f ai (ck 0 v)))]) (fun u H => True) (va_A [(rw, rwE ca 0 n f)] zH)) 0 0 (va_A [(rw, rwE ca 0 n f)] zH) := by
  have hk := NW_ok
  refine k_ofW (Qc := qV D (fun (u : Unit) => True) (fun u => [(rw, rwE ca 0 n (vp_updL f ai (ck 0 v)))]) (fun u H => True)) (by decide) (Nat.le_of_ble_eq_true rfl) ?_
  intro p e s m below meth c ls A H hH hx hb hr hts hown hlocks hnm hml hsz hP hD hK hN hA hAn hS hro hl
  have hl : lv_has ls 4 [(0, .ref rw), (1, .int (nI ai)), (2, .long v)] := hl
  refine lv_aload_n hx hb dX0_store_0 rfl (lv_at hl 0 rfl) ?_
  refine k_instA hx hb hown (hts _ q198) hP 0 rfl (show s.vm.findClass "[B" = some (ca 0) from (hK.2 0 _ rfl).2) dX0_store_1 ?_
  refine lv_if_eq (tgt := 19) hx hb dX0_store_4 (by decide) (fun c_1 => absurd c_1 (by decide)) (fun c_1 => ?_)
  refine lv_aload_n hx hb dX0_store_7 rfl (lv_at hl 0 rfl) ?_
  refine va_castA hx hb hown (hts _ q198) hP 0 rfl (show s.vm.findClass "[B" = some (ca 0) from (hK.2 0 _ rfl).2) dX0_store_8 ?_
  refine lv_iload_n hx hb dX0_store_11 rfl (lv_at hl 1 rfl) ?_
  refine lv_lload_n hx hb dX0_store_12 rfl (lv_at hl 2 rfl) ?_
  refine lv_l2i (v := v.toInt32) hx hb dX0_store_13 rfl ?_
  refine lv_i2b (v := v.toInt32.toInt8.toInt32) hx hb dX0_store_14 rfl ?_
  refine va_bast hx hb hK hP hD hS 0 0 rfl rfl (vin_nI (a := ai) rfl (by omega) (by omega)) dX0_store_15 (fun H locs hP hD hS => ?_)
  rw [nI_clamp (show ai < 2 ^ 31 by omega), up_32 (nar8 v)] at hP hD
  have hP : va_P D vwCl [(rw, rwE ca 0 n (vp_updL f ai (ck 0 v)))] H := hP
  have hD : va_D A [(rw, rwE ca 0 n (vp_updL f ai (ck 0 v)))] := hD
  refine lv_goto (tgt := 44) hx hb dX0_store_16 (by decide) ?_
  exact k_vret () hx hb hr hlocks (trivial) hP hD trivial hS (Nat.le_of_ble_eq_true rfl) (Nat.le_of_ble_eq_true rfl) dX0_store_44
set_option maxHeartbeats 4000000 in
set_option maxRecDepth 100000 in
theorem ct_X0_store_1 (l : Launch) (D : va_G) (ca : Nat → ClassId) (zH : Nat) (rw n ai : Nat) (f : AL) (v : Int64) (hn : n ≤ 16) (hai : ai < n) : Met l yX0_store (ws_ yX0_store cX0_store 4 none) ({ frames := 0, cells := 0, slots := 0, locals := 0 }) (va_Pc [.ref rw, .int (nI ai), .long v] (pr_ NW D ca [(rw, rwE ca 1 n f)] zH (fun _ => True))) (qV D (fun (u : Unit) => True) (fun u => [(rw, rwE ca 1 n (vp_updL f ai (ck 1 v)))]) (fun u H => True) (va_A [(rw, rwE ca 1 n f)] zH)) 0 0 (va_A [(rw, rwE ca 1 n f)] zH) := by
  have hk := NW_ok
  refine k_ofW (Qc := qV D (fun (u : Unit) => True) (fun u => [(rw, rwE ca 1 n (vp_updL f ai (ck 1 v)))]) (fun u H => True)) (by decide) (Nat.le_of_ble_eq_true rfl) ?_
  intro p e s m below meth c ls A H hH hx hb hr hts hown hlocks hnm hml hsz hP hD hK hN hA hAn hS hro hl
  have hl : lv_has ls 4 [(0, .ref rw), (1, .int (nI ai)), (2, .long v)] := hl
  refine lv_aload_n hx hb dX0_store_0 rfl (lv_at hl 0 rfl) ?_
  refine k_instO (C := "[I") hx hb hown (hts _ q198) (hN.2.2.2.2.1 _ (List.mem_of_getElem? (i := 0) rfl)) hP 0 rfl (show s.vm.findClass "[I" = some (ca 1) from (hK.2 1 _ rfl).2) dX0_store_1 ?_
  refine lv_if_eq (tgt := 19) hx hb dX0_store_4 (by decide) (fun c_1 => ?_) (fun c_1 => absurd (by decide) c_1)
  refine lv_aload_n hx hb dX0_store_19 rfl (lv_at hl 0 rfl) ?_
  refine k_instA hx hb hown (hts _ q199) hP 0 rfl (show s.vm.findClass "[I" = some (ca 1) from (hK.2 1 _ rfl).2) dX0_store_20 ?_
  refine lv_if_eq (tgt := 37) hx hb dX0_store_23 (by decide) (fun c_2 => absurd c_2 (by decide)) (fun c_2 => ?_)
  refine lv_aload_n hx hb dX0_store_26 rfl (lv_at hl 0 rfl) ?_
  refine va_castA hx hb hown (hts _ q199) hP 0 rfl (show s.vm.findClass "[I" = some (ca 1) from (hK.2 1 _ rfl).2) dX0_store_27 ?_
  refine lv_iload_n hx hb dX0_store_30 rfl (lv_at hl 1 rfl) ?_
  refine lv_lload_n hx hb dX0_store_31 rfl (lv_at hl 2 rfl) ?_
  refine lv_l2i (v := v.toInt32) hx hb dX0_store_32 rfl ?_
  refine va_iast hx hb hK hP hD hS 0 1 rfl rfl (vin_nI (a := ai) rfl (by omega) (by omega)) dX0_store_33 (fun H locs hP hD hS => ?_)
  rw [nI_clamp (show ai < 2 ^ 31 by omega), up_32 (nar32 v)] at hP hD
  have hP : va_P D vwCl [(rw, rwE ca 1 n (vp_updL f ai (ck 1 v)))] H := hP
  have hD : va_D A [(rw, rwE ca 1 n (vp_updL f ai (ck 1 v)))] := hD
  refine lv_goto (tgt := 44) hx hb dX0_store_34 (by decide) ?_
  exact k_vret () hx hb hr hlocks (trivial) hP hD trivial hS (Nat.le_of_ble_eq_true rfl) (Nat.le_of_ble_eq_true rfl) dX0_store_44
set_option maxHeartbeats 4000000 in
set_option maxRecDepth 100000 in
theorem ct_X0_store_2 (l : Launch) (D : va_G) (ca : Nat → ClassId) (zH : Nat) (rw n ai : Nat) (f : AL) (v : Int64) (hn : n ≤ 16) (hai : ai < n) : Met l yX0_store (ws_ yX0_store cX0_store 4 none) ({ frames := 0, cells := 0, slots := 0, locals := 0 }) (va_Pc [.ref rw, .int (nI ai), .long v] (pr_ NW D ca [(rw, rwE ca 2 n f)] zH (fun _ => True))) (qV D (fun (u : Unit) => True) (fun u => [(rw, rwE ca 2 n (vp_updL f ai (ck 2 v)))]) (fun u H => True) (va_A [(rw, rwE ca 2 n f)] zH)) 0 0 (va_A [(rw, rwE ca 2 n f)] zH) := by
  have hk := NW_ok
  refine k_ofW (Qc := qV D (fun (u : Unit) => True) (fun u => [(rw, rwE ca 2 n (vp_updL f ai (ck 2 v)))]) (fun u H => True)) (by decide) (Nat.le_of_ble_eq_true rfl) ?_
  intro p e s m below meth c ls A H hH hx hb hr hts hown hlocks hnm hml hsz hP hD hK hN hA hAn hS hro hl
  have hl : lv_has ls 4 [(0, .ref rw), (1, .int (nI ai)), (2, .long v)] := hl
  refine lv_aload_n hx hb dX0_store_0 rfl (lv_at hl 0 rfl) ?_
  refine k_instO (C := "[J") hx hb hown (hts _ q198) (hN.2.2.2.2.1 _ (List.mem_of_getElem? (i := 1) rfl)) hP 0 rfl (show s.vm.findClass "[J" = some (ca 2) from (hK.2 2 _ rfl).2) dX0_store_1 ?_
  refine lv_if_eq (tgt := 19) hx hb dX0_store_4 (by decide) (fun c_1 => ?_) (fun c_1 => absurd (by decide) c_1)
  refine lv_aload_n hx hb dX0_store_19 rfl (lv_at hl 0 rfl) ?_
  refine k_instO (C := "[J") hx hb hown (hts _ q199) (hN.2.2.2.2.1 _ (List.mem_of_getElem? (i := 3) rfl)) hP 0 rfl (show s.vm.findClass "[J" = some (ca 2) from (hK.2 2 _ rfl).2) dX0_store_20 ?_
  refine lv_if_eq (tgt := 37) hx hb dX0_store_23 (by decide) (fun c_2 => ?_) (fun c_2 => absurd (by decide) c_2)
  refine lv_aload_n hx hb dX0_store_37 rfl (lv_at hl 0 rfl) ?_
  refine va_castA hx hb hown (hts _ q200) hP 0 rfl (show s.vm.findClass "[J" = some (ca 2) from (hK.2 2 _ rfl).2) dX0_store_38 ?_
  refine lv_iload_n hx hb dX0_store_41 rfl (lv_at hl 1 rfl) ?_
  refine lv_lload_n hx hb dX0_store_42 rfl (lv_at hl 2 rfl) ?_
  refine va_last hx hb hK hP hD hS 0 2 rfl rfl (vin_nI (a := ai) rfl (by omega) (by omega)) dX0_store_43 (fun H locs hP hD hS => ?_)
  rw [nI_clamp (show ai < 2 ^ 31 by omega)] at hP hD
  have hP : va_P D vwCl [(rw, rwE ca 2 n (vp_updL f ai (ck 2 v)))] H := hP
  have hD : va_D A [(rw, rwE ca 2 n (vp_updL f ai (ck 2 v)))] := hD
  exact k_vret () hx hb hr hlocks (trivial) hP hD trivial hS (Nat.le_of_ble_eq_true rfl) (Nat.le_of_ble_eq_true rfl) dX0_store_44
set_option maxHeartbeats 4000000 in
set_option maxRecDepth 100000 in
theorem ct_X0_store_N (l : Launch) (hl0 : l.stackTraces = false) (D : va_G) (ca : Nat → ClassId) (zH : Nat) (i0 : Int32) (v : Int64)  : vx_Met l yX0_store (ws_ yX0_store cX0_store 4 none) ({ frames := 12, cells := 1, slots := 8, locals := 10400 }) (va_Pc [.null, .int i0, .long v] (prX NW D ca [] zH (fun _ => True))) (qV D (fun (u : Unit) => False) (fun u => []) (fun u H => True) (va_A [] zH)) (vx_X (S := Unit) (fun _ => True) (fun E _ _ => E = "java/lang/NullPointerException") (fun q => zH ≤ q)) 1 8 (va_A [] zH) := by
  have hk := NW_ok
  refine k_ofT (Qc := qV D (fun (u : Unit) => False) (fun u => []) (fun u H => True)) (by decide) (Nat.le_of_ble_eq_true rfl) ?_
  intro p e s m below meth c ls A H hH hx hb hr hts hown hlocks hnm hml hsz hP hD hK hN hA hAn hS hro hl hX hZ htb
  have hl : lv_has ls 4 [(0, .null), (1, .int i0), (2, .long v)] := hl
  refine lv_aload_nN hx hb dX0_store_0 rfl (lv_at hl 0 rfl) ?_
  refine lv_instN hx hb dX0_store_1 ?_
  refine lv_if_eq (tgt := 19) hx hb dX0_store_4 (by decide) (fun c_1 => ?_) (fun c_1 => absurd (by decide) c_1)
  refine lv_aload_nN hx hb dX0_store_19 rfl (lv_at hl 0 rfl) ?_
  refine lv_instN hx hb dX0_store_20 ?_
  refine lv_if_eq (tgt := 37) hx hb dX0_store_23 (by decide) (fun c_2 => ?_) (fun c_2 => absurd (by decide) c_2)
  refine lv_aload_nN hx hb dX0_store_37 rfl (lv_at hl 0 rfl) ?_
  refine lv_castN hx hb dX0_store_38 ?_
  refine lv_iload_n hx hb dX0_store_41 rfl (lv_at hl 1 rfl) ?_
  refine lv_lload_n hx hb dX0_store_42 rfl (lv_at hl 2 rfl) ?_
  refine vx_lastoreN hx hb dX0_store_43 (vx_npe (nb := 8) hx hl0 (nx_of nx_N hts hX) nx_oN hZ.1 hZ.2 hS (by rw [hml]; exact hl.1) (Nat.le_of_ble_eq_true rfl) (Nat.le_of_ble_eq_true rfl) (Nat.le_of_ble_eq_true rfl) (Nat.le_of_ble_eq_true rfl) hlocks (fun H1 q9 ce hz h9 hS hce hcv hcl => ?_))
  have h9 : ∀ q : Nat, q < s.heap.size → H1[q]? = s.heap[q]? := fun q hq => by rw [h9 q (by rw [hH]; exact hq), hH]
  refine vx_out (E := "java/lang/NullPointerException") (fun x hx9 => (htb x hx9).elim) hlocks hce hcv hcl (fun t ht hal => ⟨(), trivial, rfl, ?_⟩) hS.2.2 (Nat.le_of_ble_eq_true rfl) (Nat.le_of_ble_eq_true rfl)
  refine ⟨by rw [ht]; exact hS.1, fun q hq hnq => ?_⟩
  rw [ht]
  exact h9 q hq
set_option maxHeartbeats 4000000 in
set_option maxRecDepth 100000 in
theorem ct_X0_store_O0 (l : Launch) (hl0 : l.stackTraces = false) (D : va_G) (ca : Nat → ClassId) (zH : Nat) (rw n : Nat) (f : AL) (i0 : Int32) (v : Int64) (hn : n ≤ 16) (hout : ¬ vp_in i0 n) : vx_Met l yX0_store (ws_ yX0_store cX0_store 4 none) ({ frames := 12, cells := 3, slots := 222, locals := 10400 }) (va_Pc [.ref rw, .int i0, .long v] (prX NW D ca [(rw, rwE ca 0 n f)] zH (fun _ => True))) (qV D (fun (u : Unit) => False) (fun u => [(rw, rwE ca 0 n f)]) (fun u H => True) (va_A [(rw, rwE ca 0 n f)] zH)) (vx_X (S := Unit) (fun _ => True) (fun E _ _ => E = "java/lang/ArrayIndexOutOfBoundsException") (fun q => zH ≤ q)) 3 222 (va_A [(rw, rwE ca 0 n f)] zH) := by
  have hk := NW_ok
  refine k_ofT (Qc := qV D (fun (u : Unit) => False) (fun u => [(rw, rwE ca 0 n f)]) (fun u H => True)) (by decide) (Nat.le_of_ble_eq_true rfl) ?_
  intro p e s m below meth c ls A H hH hx hb hr hts hown hlocks hnm hml hsz hP hD hK hN hA hAn hS hro hl hX hZ htb
  have hl : lv_has ls 4 [(0, .ref rw), (1, .int i0), (2, .long v)] := hl
  refine lv_aload_n hx hb dX0_store_0 rfl (lv_at hl 0 rfl) ?_
  refine k_instA hx hb hown (hts _ q198) hP 0 rfl (show s.vm.findClass "[B" = some (ca 0) from (hK.2 0 _ rfl).2) dX0_store_1 ?_
  refine lv_if_eq (tgt := 19) hx hb dX0_store_4 (by decide) (fun c_1 => absurd c_1 (by decide)) (fun c_1 => ?_)
  refine lv_aload_n hx hb dX0_store_7 rfl (lv_at hl 0 rfl) ?_
  refine va_castA hx hb hown (hts _ q198) hP 0 rfl (show s.vm.findClass "[B" = some (ca 0) from (hK.2 0 _ rfl).2) dX0_store_8 ?_
  refine lv_iload_n hx hb dX0_store_11 rfl (lv_at hl 1 rfl) ?_
  refine lv_lload_n hx hb dX0_store_12 rfl (lv_at hl 2 rfl) ?_
  refine lv_l2i (v := v.toInt32) hx hb dX0_store_13 rfl ?_
  refine lv_i2b (v := v.toInt32.toInt8.toInt32) hx hb dX0_store_14 rfl ?_
  refine vx_bastZ hx hb hK hP 0 0 rfl rfl hout dX0_store_15 (fun tx htx => vx_vm (cls := "java/lang/ArrayIndexOutOfBoundsException") (names := aioU) (nb := 212) hx hl0 (by decide +kernel) (by decide +kernel) (by decide +kernel) (by decide +kernel) (nx_of nx_A hts hX) nx_oA hZ.1 hZ.2 hS (by rw [hml]; exact hl.1) (by rw [htx]; exact index_text_modelled _ _) (by rw [htx]; exact index_text_bytes _ (by omega)) (by decide) (Nat.le_of_ble_eq_true rfl) (Nat.le_of_ble_eq_true rfl) (by decide) (Nat.le_of_ble_eq_true rfl) (Nat.le_of_ble_eq_true rfl) hlocks (fun H1 q9 ce hz h9 hS hce hcv hcl => ?_))
  have h9 : ∀ q : Nat, q < s.heap.size → H1[q]? = s.heap[q]? := fun q hq => by rw [h9 q (by rw [hH]; exact hq), hH]
  refine vx_out (E := "java/lang/ArrayIndexOutOfBoundsException") (fun x hx9 => (htb x hx9).elim) hlocks hce hcv hcl (fun t ht hal => ⟨(), trivial, rfl, ?_⟩) hS.2.2 (Nat.le_of_ble_eq_true rfl) (Nat.le_of_ble_eq_true rfl)
  refine ⟨by rw [ht]; exact hS.1, fun q hq hnq => ?_⟩
  rw [ht]
  exact h9 q hq
set_option maxHeartbeats 4000000 in
set_option maxRecDepth 100000 in
theorem ct_X0_store_O1 (l : Launch) (hl0 : l.stackTraces = false) (D : va_G) (ca : Nat → ClassId) (zH : Nat) (rw n : Nat) (f : AL) (i0 : Int32) (v : Int64) (hn : n ≤ 16) (hout : ¬ vp_in i0 n) : vx_Met l yX0_store (ws_ yX0_store cX0_store 4 none) ({ frames := 12, cells := 3, slots := 222, locals := 10400 }) (va_Pc [.ref rw, .int i0, .long v] (prX NW D ca [(rw, rwE ca 1 n f)] zH (fun _ => True))) (qV D (fun (u : Unit) => False) (fun u => [(rw, rwE ca 1 n f)]) (fun u H => True) (va_A [(rw, rwE ca 1 n f)] zH)) (vx_X (S := Unit) (fun _ => True) (fun E _ _ => E = "java/lang/ArrayIndexOutOfBoundsException") (fun q => zH ≤ q)) 3 222 (va_A [(rw, rwE ca 1 n f)] zH) := by
  have hk := NW_ok
  refine k_ofT (Qc := qV D (fun (u : Unit) => False) (fun u => [(rw, rwE ca 1 n f)]) (fun u H => True)) (by decide) (Nat.le_of_ble_eq_true rfl) ?_
  intro p e s m below meth c ls A H hH hx hb hr hts hown hlocks hnm hml hsz hP hD hK hN hA hAn hS hro hl hX hZ htb
  have hl : lv_has ls 4 [(0, .ref rw), (1, .int i0), (2, .long v)] := hl
  refine lv_aload_n hx hb dX0_store_0 rfl (lv_at hl 0 rfl) ?_
  refine k_instO (C := "[I") hx hb hown (hts _ q198) (hN.2.2.2.2.1 _ (List.mem_of_getElem? (i := 0) rfl)) hP 0 rfl (show s.vm.findClass "[I" = some (ca 1) from (hK.2 1 _ rfl).2) dX0_store_1 ?_
  refine lv_if_eq (tgt := 19) hx hb dX0_store_4 (by decide) (fun c_1 => ?_) (fun c_1 => absurd (by decide) c_1)
  refine lv_aload_n hx hb dX0_store_19 rfl (lv_at hl 0 rfl) ?_
  refine k_instA hx hb hown (hts _ q199) hP 0 rfl (show s.vm.findClass "[I" = some (ca 1) from (hK.2 1 _ rfl).2) dX0_store_20 ?_
  refine lv_if_eq (tgt := 37) hx hb dX0_store_23 (by decide) (fun c_2 => absurd c_2 (by decide)) (fun c_2 => ?_)
  refine lv_aload_n hx hb dX0_store_26 rfl (lv_at hl 0 rfl) ?_
  refine va_castA hx hb hown (hts _ q199) hP 0 rfl (show s.vm.findClass "[I" = some (ca 1) from (hK.2 1 _ rfl).2) dX0_store_27 ?_
  refine lv_iload_n hx hb dX0_store_30 rfl (lv_at hl 1 rfl) ?_
  refine lv_lload_n hx hb dX0_store_31 rfl (lv_at hl 2 rfl) ?_
  refine lv_l2i (v := v.toInt32) hx hb dX0_store_32 rfl ?_
  refine vx_iastZ hx hb hK hP 0 1 rfl rfl hout dX0_store_33 (fun tx htx => vx_vm (cls := "java/lang/ArrayIndexOutOfBoundsException") (names := aioU) (nb := 212) hx hl0 (by decide +kernel) (by decide +kernel) (by decide +kernel) (by decide +kernel) (nx_of nx_A hts hX) nx_oA hZ.1 hZ.2 hS (by rw [hml]; exact hl.1) (by rw [htx]; exact index_text_modelled _ _) (by rw [htx]; exact index_text_bytes _ (by omega)) (by decide) (Nat.le_of_ble_eq_true rfl) (Nat.le_of_ble_eq_true rfl) (by decide) (Nat.le_of_ble_eq_true rfl) (Nat.le_of_ble_eq_true rfl) hlocks (fun H1 q9 ce hz h9 hS hce hcv hcl => ?_))
  have h9 : ∀ q : Nat, q < s.heap.size → H1[q]? = s.heap[q]? := fun q hq => by rw [h9 q (by rw [hH]; exact hq), hH]
  refine vx_out (E := "java/lang/ArrayIndexOutOfBoundsException") (fun x hx9 => (htb x hx9).elim) hlocks hce hcv hcl (fun t ht hal => ⟨(), trivial, rfl, ?_⟩) hS.2.2 (Nat.le_of_ble_eq_true rfl) (Nat.le_of_ble_eq_true rfl)
  refine ⟨by rw [ht]; exact hS.1, fun q hq hnq => ?_⟩
  rw [ht]
  exact h9 q hq
set_option maxHeartbeats 4000000 in
set_option maxRecDepth 100000 in
theorem ct_X0_store_O2 (l : Launch) (hl0 : l.stackTraces = false) (D : va_G) (ca : Nat → ClassId) (zH : Nat) (rw n : Nat) (f : AL) (i0 : Int32) (v : Int64) (hn : n ≤ 16) (hout : ¬ vp_in i0 n) : vx_Met l yX0_store (ws_ yX0_store cX0_store 4 none) ({ frames := 12, cells := 3, slots := 222, locals := 10400 }) (va_Pc [.ref rw, .int i0, .long v] (prX NW D ca [(rw, rwE ca 2 n f)] zH (fun _ => True))) (qV D (fun (u : Unit) => False) (fun u => [(rw, rwE ca 2 n f)]) (fun u H => True) (va_A [(rw, rwE ca 2 n f)] zH)) (vx_X (S := Unit) (fun _ => True) (fun E _ _ => E = "java/lang/ArrayIndexOutOfBoundsException") (fun q => zH ≤ q)) 3 222 (va_A [(rw, rwE ca 2 n f)] zH) := by
  have hk := NW_ok
  refine k_ofT (Qc := qV D (fun (u : Unit) => False) (fun u => [(rw, rwE ca 2 n f)]) (fun u H => True)) (by decide) (Nat.le_of_ble_eq_true rfl) ?_
  intro p e s m below meth c ls A H hH hx hb hr hts hown hlocks hnm hml hsz hP hD hK hN hA hAn hS hro hl hX hZ htb
  have hl : lv_has ls 4 [(0, .ref rw), (1, .int i0), (2, .long v)] := hl
  refine lv_aload_n hx hb dX0_store_0 rfl (lv_at hl 0 rfl) ?_
  refine k_instO (C := "[J") hx hb hown (hts _ q198) (hN.2.2.2.2.1 _ (List.mem_of_getElem? (i := 1) rfl)) hP 0 rfl (show s.vm.findClass "[J" = some (ca 2) from (hK.2 2 _ rfl).2) dX0_store_1 ?_
  refine lv_if_eq (tgt := 19) hx hb dX0_store_4 (by decide) (fun c_1 => ?_) (fun c_1 => absurd (by decide) c_1)
  refine lv_aload_n hx hb dX0_store_19 rfl (lv_at hl 0 rfl) ?_
  refine k_instO (C := "[J") hx hb hown (hts _ q199) (hN.2.2.2.2.1 _ (List.mem_of_getElem? (i := 3) rfl)) hP 0 rfl (show s.vm.findClass "[J" = some (ca 2) from (hK.2 2 _ rfl).2) dX0_store_20 ?_
  refine lv_if_eq (tgt := 37) hx hb dX0_store_23 (by decide) (fun c_2 => ?_) (fun c_2 => absurd (by decide) c_2)
  refine lv_aload_n hx hb dX0_store_37 rfl (lv_at hl 0 rfl) ?_
  refine va_castA hx hb hown (hts _ q200) hP 0 rfl (show s.vm.findClass "[J" = some (ca 2) from (hK.2 2 _ rfl).2) dX0_store_38 ?_
  refine lv_iload_n hx hb dX0_store_41 rfl (lv_at hl 1 rfl) ?_
  refine lv_lload_n hx hb dX0_store_42 rfl (lv_at hl 2 rfl) ?_
  refine vx_lastZ hx hb hK hP 0 2 rfl rfl hout dX0_store_43 (fun tx htx => vx_vm (cls := "java/lang/ArrayIndexOutOfBoundsException") (names := aioU) (nb := 212) hx hl0 (by decide +kernel) (by decide +kernel) (by decide +kernel) (by decide +kernel) (nx_of nx_A hts hX) nx_oA hZ.1 hZ.2 hS (by rw [hml]; exact hl.1) (by rw [htx]; exact index_text_modelled _ _) (by rw [htx]; exact index_text_bytes _ (by omega)) (by decide) (Nat.le_of_ble_eq_true rfl) (Nat.le_of_ble_eq_true rfl) (by decide) (Nat.le_of_ble_eq_true rfl) (Nat.le_of_ble_eq_true rfl) hlocks (fun H1 q9 ce hz h9 hS hce hcv hcl => ?_))
  have h9 : ∀ q : Nat, q < s.heap.size → H1[q]? = s.heap[q]? := fun q hq => by rw [h9 q (by rw [hH]; exact hq), hH]
  refine vx_out (E := "java/lang/ArrayIndexOutOfBoundsException") (fun x hx9 => (htb x hx9).elim) hlocks hce hcv hcl (fun t ht hal => ⟨(), trivial, rfl, ?_⟩) hS.2.2 (Nat.le_of_ble_eq_true rfl) (Nat.le_of_ble_eq_true rfl)
  refine ⟨by rw [ht]; exact hS.1, fun q hq hnq => ?_⟩
  rw [ht]
  exact h9 q hq
