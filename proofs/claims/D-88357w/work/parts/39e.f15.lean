theorem cp_32 (f g : AL) (a b n : Nat) : va_cpy (fun i => (f i).toInt32) (fun i => (g i).toInt32) a b n = fun i => ((va_cpy f g a b n) i).toInt32 := by
  funext i
  simp only [va_cpy]
  split <;> rfl
/-- n places from i of a row to the places from j on of a row -/
def p_cp (n0 n1 : Nat) (f g : AL) (i j n : Int32) : Int32 × AL :=
  if i < 0 ∨ j < 0 ∨ n < 0 ∨ n0 < i.toNatClampNeg + n.toNatClampNeg ∨ n1 < j.toNatClampNeg + n.toNatClampNeg then (-12, g) else (0, va_cpy f g i.toNatClampNeg j.toNatClampNeg n.toNatClampNeg)
theorem nn_toInt {z : Int32} (hz : ¬ z < 0) : z.toInt = (z.toNatClampNeg : Int) := by
  have hz0 : (0 : Int) ≤ z.toInt := by
    have := Int32.not_lt.mp hz
    simpa using Int32.le_iff_toInt_le.mp this
  show z.toInt = ((z.toInt.toNat : Nat) : Int)
  omega
theorem cp_cases (ty : FieldType) (n0 n1 : Nat) (f g : AL) (i j n : Int32) : (¬ i < 0 ∧ ¬ j < 0 ∧ ¬ n < 0 ∧ i.toNatClampNeg + n.toNatClampNeg ≤ n0 ∧ j.toNatClampNeg + n.toNatClampNeg ≤ n1 ∧ p_cp n0 n1 f g i j n = (0, va_cpy f g i.toNatClampNeg j.toNatClampNeg n.toNatClampNeg)) ∨ ((∃ what, copyFault ty ty n0 n1 i j n = some what) ∧ p_cp n0 n1 f g i j n = (-12, g)) := by
  by_cases h1 : i < 0
  · exact Or.inr ⟨⟨_, by rw [copyFault, if_pos h1]⟩, if_pos (Or.inl h1)⟩
  · by_cases h2 : j < 0
    · exact Or.inr ⟨⟨_, by rw [copyFault, if_neg h1, if_pos h2]⟩, if_pos (Or.inr (Or.inl h2))⟩
    · by_cases h3 : n < 0
      · exact Or.inr ⟨⟨_, by rw [copyFault, if_neg h1, if_neg h2, if_pos h3]⟩, if_pos (Or.inr (Or.inr (Or.inl h3)))⟩
      · have e1 := nn_toInt h1
        have e2 := nn_toInt h2
        have e3 := nn_toInt h3
        by_cases h4 : i.toInt + n.toInt > n0
        · exact Or.inr ⟨⟨_, by rw [copyFault, if_neg h1, if_neg h2, if_neg h3, if_pos h4]⟩, if_pos (Or.inr (Or.inr (Or.inr (Or.inl (by omega)))))⟩
        · by_cases h5 : j.toInt + n.toInt > n1
          · exact Or.inr ⟨⟨_, by rw [copyFault, if_neg h1, if_neg h2, if_neg h3, if_neg h4, if_pos h5]⟩, if_pos (Or.inr (Or.inr (Or.inr (Or.inr (by omega)))))⟩
          · exact Or.inl ⟨h1, h2, h3, by omega, by omega, if_neg (by rintro (q | q | q | q | q) <;> first | exact h1 q | exact h2 q | exact h3 q | omega)⟩
theorem fits_8 {f : AL} {i : Nat} (h : ck 0 (f i) = f i) : fits .byte (.int (f i).toInt32) = true := by
  have h1 : (f i).toInt32.toInt8.toInt32.toInt64 = f i := h
  have h2 : (f i).toInt32 = (f i).toInt32.toInt8.toInt32 := by
    conv => lhs; rw [← h1]
    rw [i32_64]
  rw [h2]
  generalize (f i).toInt32.toInt8 = b
  have h3 := Int8.toInt_lt b
  have h4 := Int8.le_toInt b
  have e1 : (-128 : Int32).toInt = -128 := by decide
  have e2 : (127 : Int32).toInt = 127 := by decide
  have e3 : -128 ≤ b.toInt32 ∧ b.toInt32 ≤ 127 := by
    rw [Int32.le_iff_toInt_le, Int32.le_iff_toInt_le, Int8.toInt_toInt32, e1, e2]
    omega
  simpa [fits, narrow] using e3
set_option maxHeartbeats 4000000 in
set_option maxRecDepth 100000 in
theorem ct_X0_sortOf_0 (l : Launch) (D : va_G) (ca : Nat → ClassId) (zH : Nat) (rw n : Nat) (f : AL)  : Met l yX0_sortOf (ws_ yX0_sortOf cX0_sortOf 1 (some .int)) ({ frames := 0, cells := 0, slots := 0, locals := 0 }) (va_Pc [.ref rw] (pr_ NW D ca [(rw, rwE ca 0 n f)] zH (fun _ => True))) (qI D (fun (r : Int32) (u : Unit) => r = 0) (fun u => [(rw, rwE ca 0 n f)]) (fun u H => True) (va_A [(rw, rwE ca 0 n f)] zH)) 0 0 (va_A [(rw, rwE ca 0 n f)] zH) := by
  have hk := NW_ok
  refine k_ofW (Qc := qI D (fun (r : Int32) (u : Unit) => r = 0) (fun u => [(rw, rwE ca 0 n f)]) (fun u H => True)) (by decide) (Nat.le_of_ble_eq_true rfl) ?_
  intro p e s m below meth c ls A H hH hx hb hr hts hown hlocks hnm hml hsz hP hD hK hN hA hAn hS hro hl
  have hl : lv_has ls 1 [(0, .ref rw)] := hl
  refine lv_aload_n hx hb dX0_sortOf_0 rfl (lv_at hl 0 rfl) ?_
  refine k_instA hx hb hown (hts _ q198) hP 0 rfl (show s.vm.findClass "[B" = some (ca 0) from (hK.2 0 _ rfl).2) dX0_sortOf_1 ?_
  refine lv_if_eq (tgt := 11) hx hb dX0_sortOf_4 (by decide) (fun c_1 => absurd c_1 (by decide)) (fun c_1 => ?_)
  refine lv_iconst (v := 0) hx hb dX0_sortOf_7 (by decide) ?_
  refine lv_goto (tgt := 23) hx hb dX0_sortOf_8 (by decide) ?_
  exact k_iret () hx hb hr hlocks (rfl) hP hD trivial hS (Nat.le_of_ble_eq_true rfl) (Nat.le_of_ble_eq_true rfl) dX0_sortOf_23
set_option maxHeartbeats 4000000 in
set_option maxRecDepth 100000 in
theorem ct_X0_sortOf_1 (l : Launch) (D : va_G) (ca : Nat → ClassId) (zH : Nat) (rw n : Nat) (f : AL)  : Met l yX0_sortOf (ws_ yX0_sortOf cX0_sortOf 1 (some .int)) ({ frames := 0, cells := 0, slots := 0, locals := 0 }) (va_Pc [.ref rw] (pr_ NW D ca [(rw, rwE ca 1 n f)] zH (fun _ => True))) (qI D (fun (r : Int32) (u : Unit) => r = 1) (fun u => [(rw, rwE ca 1 n f)]) (fun u H => True) (va_A [(rw, rwE ca 1 n f)] zH)) 0 0 (va_A [(rw, rwE ca 1 n f)] zH) := by
  have hk := NW_ok
  refine k_ofW (Qc := qI D (fun (r : Int32) (u : Unit) => r = 1) (fun u => [(rw, rwE ca 1 n f)]) (fun u H => True)) (by decide) (Nat.le_of_ble_eq_true rfl) ?_
  intro p e s m below meth c ls A H hH hx hb hr hts hown hlocks hnm hml hsz hP hD hK hN hA hAn hS hro hl
  have hl : lv_has ls 1 [(0, .ref rw)] := hl
  refine lv_aload_n hx hb dX0_sortOf_0 rfl (lv_at hl 0 rfl) ?_
  refine k_instO (C := "[I") hx hb hown (hts _ q198) (hN.2.2.2.2.1 _ (List.mem_of_getElem? (i := 0) rfl)) hP 0 rfl (show s.vm.findClass "[I" = some (ca 1) from (hK.2 1 _ rfl).2) dX0_sortOf_1 ?_
  refine lv_if_eq (tgt := 11) hx hb dX0_sortOf_4 (by decide) (fun c_1 => ?_) (fun c_1 => absurd (by decide) c_1)
  refine lv_aload_n hx hb dX0_sortOf_11 rfl (lv_at hl 0 rfl) ?_
  refine k_instA hx hb hown (hts _ q199) hP 0 rfl (show s.vm.findClass "[I" = some (ca 1) from (hK.2 1 _ rfl).2) dX0_sortOf_12 ?_
  refine lv_if_eq (tgt := 22) hx hb dX0_sortOf_15 (by decide) (fun c_2 => absurd c_2 (by decide)) (fun c_2 => ?_)
  refine lv_iconst (v := 1) hx hb dX0_sortOf_18 (by decide) ?_
  refine lv_goto (tgt := 23) hx hb dX0_sortOf_19 (by decide) ?_
  exact k_iret () hx hb hr hlocks (rfl) hP hD trivial hS (Nat.le_of_ble_eq_true rfl) (Nat.le_of_ble_eq_true rfl) dX0_sortOf_23
set_option maxHeartbeats 4000000 in
set_option maxRecDepth 100000 in
theorem ct_X0_sortOf_2 (l : Launch) (D : va_G) (ca : Nat → ClassId) (zH : Nat) (rw n : Nat) (f : AL)  : Met l yX0_sortOf (ws_ yX0_sortOf cX0_sortOf 1 (some .int)) ({ frames := 0, cells := 0, slots := 0, locals := 0 }) (va_Pc [.ref rw] (pr_ NW D ca [(rw, rwE ca 2 n f)] zH (fun _ => True))) (qI D (fun (r : Int32) (u : Unit) => r = 2) (fun u => [(rw, rwE ca 2 n f)]) (fun u H => True) (va_A [(rw, rwE ca 2 n f)] zH)) 0 0 (va_A [(rw, rwE ca 2 n f)] zH) := by
  have hk := NW_ok
  refine k_ofW (Qc := qI D (fun (r : Int32) (u : Unit) => r = 2) (fun u => [(rw, rwE ca 2 n f)]) (fun u H => True)) (by decide) (Nat.le_of_ble_eq_true rfl) ?_
  intro p e s m below meth c ls A H hH hx hb hr hts hown hlocks hnm hml hsz hP hD hK hN hA hAn hS hro hl
  have hl : lv_has ls 1 [(0, .ref rw)] := hl
  refine lv_aload_n hx hb dX0_sortOf_0 rfl (lv_at hl 0 rfl) ?_
  refine k_instO (C := "[J") hx hb hown (hts _ q198) (hN.2.2.2.2.1 _ (List.mem_of_getElem? (i := 1) rfl)) hP 0 rfl (show s.vm.findClass "[J" = some (ca 2) from (hK.2 2 _ rfl).2) dX0_sortOf_1 ?_
  refine lv_if_eq (tgt := 11) hx hb dX0_sortOf_4 (by decide) (fun c_1 => ?_) (fun c_1 => absurd (by decide) c_1)
  refine lv_aload_n hx hb dX0_sortOf_11 rfl (lv_at hl 0 rfl) ?_
  refine k_instO (C := "[J") hx hb hown (hts _ q199) (hN.2.2.2.2.1 _ (List.mem_of_getElem? (i := 3) rfl)) hP 0 rfl (show s.vm.findClass "[J" = some (ca 2) from (hK.2 2 _ rfl).2) dX0_sortOf_12 ?_
  refine lv_if_eq (tgt := 22) hx hb dX0_sortOf_15 (by decide) (fun c_2 => ?_) (fun c_2 => absurd (by decide) c_2)
  refine lv_iconst (v := 2) hx hb dX0_sortOf_22 (by decide) ?_
  exact k_iret () hx hb hr hlocks (rfl) hP hD trivial hS (Nat.le_of_ble_eq_true rfl) (Nat.le_of_ble_eq_true rfl) dX0_sortOf_23
set_option maxHeartbeats 4000000 in
set_option maxRecDepth 100000 in
theorem ct_X0_areUnlike_NN (l : Launch) (D : va_G) (ca : Nat → ClassId) (zH : Nat)   : Met l yX0_areUnlike (ws_ yX0_areUnlike cX0_areUnlike 2 (some .boolean)) ({ frames := 1, cells := 0, slots := 0, locals := 20 }) (va_Pc [.null, .null] (pr_ NW D ca [] zH (fun _ => True))) (qI D (fun (r : Int32) (u : Unit) => r = bI false) (fun u => []) (fun u H => True) (va_A [] zH)) 0 0 (va_A [] zH) := by
  have hk := NW_ok
  refine k_ofW (Qc := qI D (fun (r : Int32) (u : Unit) => r = bI false) (fun u => []) (fun u H => True)) (by decide) (Nat.le_of_ble_eq_true rfl) ?_
  intro p e s m below meth c ls A H hH hx hb hr hts hown hlocks hnm hml hsz hP hD hK hN hA hAn hS hro hl
  have hl : lv_has ls 2 [(0, .null), (1, .null)] := hl
  refine lv_aload_nN hx hb dX0_areUnlike_0 rfl (lv_at hl 0 rfl) ?_
  refine lv_ifnullN (tgt := 23) hx hb dX0_areUnlike_1 (by decide) ?_
  refine lv_iconst (v := 0) hx hb dX0_areUnlike_23 (by decide) ?_
  exact k_zret () hx hb hr hlocks (by decide) (rfl) hP hD trivial hS (Nat.le_of_ble_eq_true rfl) (Nat.le_of_ble_eq_true rfl) dX0_areUnlike_24
set_option maxHeartbeats 4000000 in
set_option maxRecDepth 100000 in
theorem ct_X0_areUnlike_NR (l : Launch) (D : va_G) (ca : Nat → ClassId) (zH : Nat) (rw : Nat)  : Met l yX0_areUnlike (ws_ yX0_areUnlike cX0_areUnlike 2 (some .boolean)) ({ frames := 1, cells := 0, slots := 0, locals := 20 }) (va_Pc [.null, .ref rw] (pr_ NW D ca [] zH (fun _ => True))) (qI D (fun (r : Int32) (u : Unit) => r = bI false) (fun u => []) (fun u H => True) (va_A [] zH)) 0 0 (va_A [] zH) := by
  have hk := NW_ok
  refine k_ofW (Qc := qI D (fun (r : Int32) (u : Unit) => r = bI false) (fun u => []) (fun u H => True)) (by decide) (Nat.le_of_ble_eq_true rfl) ?_
  intro p e s m below meth c ls A H hH hx hb hr hts hown hlocks hnm hml hsz hP hD hK hN hA hAn hS hro hl
  have hl : lv_has ls 2 [(0, .null), (1, .ref rw)] := hl
  refine lv_aload_nN hx hb dX0_areUnlike_0 rfl (lv_at hl 0 rfl) ?_
  refine lv_ifnullN (tgt := 23) hx hb dX0_areUnlike_1 (by decide) ?_
  refine lv_iconst (v := 0) hx hb dX0_areUnlike_23 (by decide) ?_
  exact k_zret () hx hb hr hlocks (by decide) (rfl) hP hD trivial hS (Nat.le_of_ble_eq_true rfl) (Nat.le_of_ble_eq_true rfl) dX0_areUnlike_24
set_option maxHeartbeats 4000000 in
set_option maxRecDepth 100000 in
theorem ct_X0_areUnlike_RN (l : Launch) (D : va_G) (ca : Nat → ClassId) (zH : Nat) (rw : Nat)  : Met l yX0_areUnlike (ws_ yX0_areUnlike cX0_areUnlike 2 (some .boolean)) ({ frames := 1, cells := 0, slots := 0, locals := 20 }) (va_Pc [.ref rw, .null] (pr_ NW D ca [] zH (fun _ => True))) (qI D (fun (r : Int32) (u : Unit) => r = bI false) (fun u => []) (fun u H => True) (va_A [] zH)) 0 0 (va_A [] zH) := by
  have hk := NW_ok
  refine k_ofW (Qc := qI D (fun (r : Int32) (u : Unit) => r = bI false) (fun u => []) (fun u H => True)) (by decide) (Nat.le_of_ble_eq_true rfl) ?_
  intro p e s m below meth c ls A H hH hx hb hr hts hown hlocks hnm hml hsz hP hD hK hN hA hAn hS hro hl
  have hl : lv_has ls 2 [(0, .ref rw), (1, .null)] := hl
  refine lv_aload_n hx hb dX0_areUnlike_0 rfl (lv_at hl 0 rfl) ?_
  refine lv_ifnull hx hb dX0_areUnlike_1 ?_
  refine lv_aload_nN hx hb dX0_areUnlike_4 rfl (lv_at hl 1 rfl) ?_
  refine lv_ifnullN (tgt := 23) hx hb dX0_areUnlike_5 (by decide) ?_
  refine lv_iconst (v := 0) hx hb dX0_areUnlike_23 (by decide) ?_
  exact k_zret () hx hb hr hlocks (by decide) (rfl) hP hD trivial hS (Nat.le_of_ble_eq_true rfl) (Nat.le_of_ble_eq_true rfl) dX0_areUnlike_24
set_option maxHeartbeats 4000000 in
set_option maxRecDepth 100000 in
theorem ct_X0_areUnlike_00 (l : Launch) (D : va_G) (ca : Nat → ClassId) (zH : Nat) (rw1 n1 rw2 n2 : Nat) (f1 f2 : AL)  : Met l yX0_areUnlike (ws_ yX0_areUnlike cX0_areUnlike 2 (some .boolean)) ({ frames := 1, cells := 0, slots := 0, locals := 20 }) (va_Pc [.ref rw1, .ref rw2] (pr_ NW D ca [(rw1, rwE ca 0 n1 f1), (rw2, rwE ca 0 n2 f2)] zH (fun _ => True))) (qI D (fun (r : Int32) (u : Unit) => r = bI false) (fun u => [(rw1, rwE ca 0 n1 f1), (rw2, rwE ca 0 n2 f2)]) (fun u H => True) (va_A [(rw1, rwE ca 0 n1 f1), (rw2, rwE ca 0 n2 f2)] zH)) 0 0 (va_A [(rw1, rwE ca 0 n1 f1), (rw2, rwE ca 0 n2 f2)] zH) := by
  have hk := NW_ok
  refine k_ofW (Qc := qI D (fun (r : Int32) (u : Unit) => r = bI false) (fun u => [(rw1, rwE ca 0 n1 f1), (rw2, rwE ca 0 n2 f2)]) (fun u H => True)) (by decide) (Nat.le_of_ble_eq_true rfl) ?_
  intro p e s m below meth c ls A H hH hx hb hr hts hown hlocks hnm hml hsz hP hD hK hN hA hAn hS hro hl
  have hl : lv_has ls 2 [(0, .ref rw1), (1, .ref rw2)] := hl
  refine lv_aload_n hx hb dX0_areUnlike_0 rfl (lv_at hl 0 rfl) ?_
  refine lv_ifnull hx hb dX0_areUnlike_1 ?_
  refine lv_aload_n hx hb dX0_areUnlike_4 rfl (lv_at hl 1 rfl) ?_
  refine lv_ifnull hx hb dX0_areUnlike_5 ?_
  refine lv_aload_n hx hb dX0_areUnlike_8 rfl (lv_at hl 0 rfl) ?_
  refine k_calli (wr := [(rw2, rwE ca 0 n2 f2)]) (va_runS (As := [.ref rw1]) (rest := []) ⟨hx, hb, hml, hown, hts⟩ (ct_X0_sortOf_0 l D ca H.size rw1 n1 f1) (va_cwS 1 hts (lw_S q209 q210 q19 q211) rfl rfl rfl (by decide +kernel) ⟨Nat.le_of_ble_eq_true rfl, Nat.le_of_ble_eq_true rfl⟩) (k_pre hk hK hN hP hD [0] (by decide) rfl trivial) rfl rfl hl.1 rfl (lv_room (Nat.le_of_ble_eq_true rfl)) dX0_areUnlike_9 ⟨Nat.le_of_ble_eq_true rfl, Nat.le_of_ble_eq_true rfl⟩) hP hD hS hA [0] [1] rfl rfl (by decide) (by decide) (fun r_1 u_2 H locs w_3 hP hD hxw_3 hzw_3 hqw_3 hS => ?_)
  have hP : va_P D vwCl [(rw2, rwE ca 0 n2 f2), (rw1, rwE ca 0 n1 f1)] H := hP
  have hD : va_D A [(rw2, rwE ca 0 n2 f2), (rw1, rwE ca 0 n1 f1)] := hD
  obtain rfl : r_1 = 0 := w_3
  refine lv_aload_n hx hb dX0_areUnlike_12 rfl (lv_at hl 1 rfl) ?_
  refine k_calli (wr := [(rw1, rwE ca 0 n1 f1)]) (va_runS (As := [.ref rw2]) (rest := [.int 0]) ⟨hx, hb, hml, hown, hts⟩ (ct_X0_sortOf_0 l D ca H.size rw2 n2 f2) (va_cwS 1 hts (lw_S q209 q210 q19 q211) rfl rfl rfl (by decide +kernel) ⟨Nat.le_of_ble_eq_true rfl, Nat.le_of_ble_eq_true rfl⟩) (k_pre hk hK hN hP hD [0] (by decide) rfl trivial) rfl rfl hl.1 rfl (lv_room (Nat.le_of_ble_eq_true rfl)) dX0_areUnlike_13 ⟨Nat.le_of_ble_eq_true rfl, Nat.le_of_ble_eq_true rfl⟩) hP hD hS hA [0] [1] rfl rfl (by decide) (by decide) (fun r_4 u_5 H locs w_6 hP hD hxw_6 hzw_6 hqw_6 hS => ?_)
  have hP : va_P D vwCl [(rw1, rwE ca 0 n1 f1), (rw2, rwE ca 0 n2 f2)] H := hP
  have hD : va_D A [(rw1, rwE ca 0 n1 f1), (rw2, rwE ca 0 n2 f2)] := hD
  obtain rfl : r_4 = 0 := w_6
  refine lv_icmp_eq (tgt := 23) hx hb dX0_areUnlike_16 (by decide) (fun c_7 => ?_) (fun c_7 => absurd (by decide) c_7)
  refine lv_iconst (v := 0) hx hb dX0_areUnlike_23 (by decide) ?_
  exact k_zret () hx hb hr hlocks (by decide) (rfl) hP hD trivial hS (Nat.le_of_ble_eq_true rfl) (Nat.le_of_ble_eq_true rfl) dX0_areUnlike_24
set_option maxHeartbeats 4000000 in
set_option maxRecDepth 100000 in
theorem ct_X0_areUnlike_01 (l : Launch) (D : va_G) (ca : Nat → ClassId) (zH : Nat) (rw1 n1 rw2 n2 : Nat) (f1 f2 : AL)  : Met l yX0_areUnlike (ws_ yX0_areUnlike cX0_areUnlike 2 (some .boolean)) ({ frames := 1, cells := 0, slots := 0, locals := 20 }) (va_Pc [.ref rw1, .ref rw2] (pr_ NW D ca [(rw1, rwE ca 0 n1 f1), (rw2, rwE ca 1 n2 f2)] zH (fun _ => True))) (qI D (fun (r : Int32) (u : Unit) => r = bI true) (fun u => [(rw1, rwE ca 0 n1 f1), (rw2, rwE ca 1 n2 f2)]) (fun u H => True) (va_A [(rw1, rwE ca 0 n1 f1), (rw2, rwE ca 1 n2 f2)] zH)) 0 0 (va_A [(rw1, rwE ca 0 n1 f1), (rw2, rwE ca 1 n2 f2)] zH) := by
  have hk := NW_ok
  refine k_ofW (Qc := qI D (fun (r : Int32) (u : Unit) => r = bI true) (fun u => [(rw1, rwE ca 0 n1 f1), (rw2, rwE ca 1 n2 f2)]) (fun u H => True)) (by decide) (Nat.le_of_ble_eq_true rfl) ?_
  intro p e s m below meth c ls A H hH hx hb hr hts hown hlocks hnm hml hsz hP hD hK hN hA hAn hS hro hl
  have hl : lv_has ls 2 [(0, .ref rw1), (1, .ref rw2)] := hl
  refine lv_aload_n hx hb dX0_areUnlike_0 rfl (lv_at hl 0 rfl) ?_
  refine lv_ifnull hx hb dX0_areUnlike_1 ?_
  refine lv_aload_n hx hb dX0_areUnlike_4 rfl (lv_at hl 1 rfl) ?_
  refine lv_ifnull hx hb dX0_areUnlike_5 ?_
  refine lv_aload_n hx hb dX0_areUnlike_8 rfl (lv_at hl 0 rfl) ?_
  refine k_calli (wr := [(rw2, rwE ca 1 n2 f2)]) (va_runS (As := [.ref rw1]) (rest := []) ⟨hx, hb, hml, hown, hts⟩ (ct_X0_sortOf_0 l D ca H.size rw1 n1 f1) (va_cwS 1 hts (lw_S q209 q210 q19 q211) rfl rfl rfl (by decide +kernel) ⟨Nat.le_of_ble_eq_true rfl, Nat.le_of_ble_eq_true rfl⟩) (k_pre hk hK hN hP hD [0] (by decide) rfl trivial) rfl rfl hl.1 rfl (lv_room (Nat.le_of_ble_eq_true rfl)) dX0_areUnlike_9 ⟨Nat.le_of_ble_eq_true rfl, Nat.le_of_ble_eq_true rfl⟩) hP hD hS hA [0] [1] rfl rfl (by decide) (by decide) (fun r_1 u_2 H locs w_3 hP hD hxw_3 hzw_3 hqw_3 hS => ?_)
  have hP : va_P D vwCl [(rw2, rwE ca 1 n2 f2), (rw1, rwE ca 0 n1 f1)] H := hP
  have hD : va_D A [(rw2, rwE ca 1 n2 f2), (rw1, rwE ca 0 n1 f1)] := hD
  obtain rfl : r_1 = 0 := w_3
  refine lv_aload_n hx hb dX0_areUnlike_12 rfl (lv_at hl 1 rfl) ?_
  refine k_calli (wr := [(rw1, rwE ca 0 n1 f1)]) (va_runS (As := [.ref rw2]) (rest := [.int 0]) ⟨hx, hb, hml, hown, hts⟩ (ct_X0_sortOf_1 l D ca H.size rw2 n2 f2) (va_cwS 1 hts (lw_S q209 q210 q19 q211) rfl rfl rfl (by decide +kernel) ⟨Nat.le_of_ble_eq_true rfl, Nat.le_of_ble_eq_true rfl⟩) (k_pre hk hK hN hP hD [0] (by decide) rfl trivial) rfl rfl hl.1 rfl (lv_room (Nat.le_of_ble_eq_true rfl)) dX0_areUnlike_13 ⟨Nat.le_of_ble_eq_true rfl, Nat.le_of_ble_eq_true rfl⟩) hP hD hS hA [0] [1] rfl rfl (by decide) (by decide) (fun r_4 u_5 H locs w_6 hP hD hxw_6 hzw_6 hqw_6 hS => ?_)
  have hP : va_P D vwCl [(rw1, rwE ca 0 n1 f1), (rw2, rwE ca 1 n2 f2)] H := hP
  have hD : va_D A [(rw1, rwE ca 0 n1 f1), (rw2, rwE ca 1 n2 f2)] := hD
  obtain rfl : r_4 = 1 := w_6
  refine lv_icmp_eq (tgt := 23) hx hb dX0_areUnlike_16 (by decide) (fun c_7 => absurd c_7 (by decide)) (fun c_7 => ?_)
  refine lv_iconst (v := 1) hx hb dX0_areUnlike_19 (by decide) ?_
  refine lv_goto (tgt := 24) hx hb dX0_areUnlike_20 (by decide) ?_
  exact k_zret () hx hb hr hlocks (by decide) (rfl) hP hD trivial hS (Nat.le_of_ble_eq_true rfl) (Nat.le_of_ble_eq_true rfl) dX0_areUnlike_24
set_option maxHeartbeats 4000000 in
set_option maxRecDepth 100000 in
theorem ct_X0_areUnlike_02 (l : Launch) (D : va_G) (ca : Nat → ClassId) (zH : Nat) (rw1 n1 rw2 n2 : Nat) (f1 f2 : AL)  : Met l yX0_areUnlike (ws_ yX0_areUnlike cX0_areUnlike 2 (some .boolean)) ({ frames := 1, cells := 0, slots := 0, locals := 20 }) (va_Pc [.ref rw1, .ref rw2] (pr_ NW D ca [(rw1, rwE ca 0 n1 f1), (rw2, rwE ca 2 n2 f2)] zH (fun _ => True))) (qI D (fun (r : Int32) (u : Unit) => r = bI true) (fun u => [(rw1, rwE ca 0 n1 f1), (rw2, rwE ca 2 n2 f2)]) (fun u H => True) (va_A [(rw1, rwE ca 0 n1 f1), (rw2, rwE ca 2 n2 f2)] zH)) 0 0 (va_A [(rw1, rwE ca 0 n1 f1), (rw2, rwE ca 2 n2 f2)] zH) := by
  have hk := NW_ok
  refine k_ofW (Qc := qI D (fun (r : Int32) (u : Unit) => r = bI true) (fun u => [(rw1, rwE ca 0 n1 f1), (rw2, rwE ca 2 n2 f2)]) (fun u H => True)) (by decide) (Nat.le_of_ble_eq_true rfl) ?_
  intro p e s m below meth c ls A H hH hx hb hr hts hown hlocks hnm hml hsz hP hD hK hN hA hAn hS hro hl
  have hl : lv_has ls 2 [(0, .ref rw1), (1, .ref rw2)] := hl
  refine lv_aload_n hx hb dX0_areUnlike_0 rfl (lv_at hl 0 rfl) ?_
  refine lv_ifnull hx hb dX0_areUnlike_1 ?_
  refine lv_aload_n hx hb dX0_areUnlike_4 rfl (lv_at hl 1 rfl) ?_
  refine lv_ifnull hx hb dX0_areUnlike_5 ?_
  refine lv_aload_n hx hb dX0_areUnlike_8 rfl (lv_at hl 0 rfl) ?_
  refine k_calli (wr := [(rw2, rwE ca 2 n2 f2)]) (va_runS (As := [.ref rw1]) (rest := []) ⟨hx, hb, hml, hown, hts⟩ (ct_X0_sortOf_0 l D ca H.size rw1 n1 f1) (va_cwS 1 hts (lw_S q209 q210 q19 q211) rfl rfl rfl (by decide +kernel) ⟨Nat.le_of_ble_eq_true rfl, Nat.le_of_ble_eq_true rfl⟩) (k_pre hk hK hN hP hD [0] (by decide) rfl trivial) rfl rfl hl.1 rfl (lv_room (Nat.le_of_ble_eq_true rfl)) dX0_areUnlike_9 ⟨Nat.le_of_ble_eq_true rfl, Nat.le_of_ble_eq_true rfl⟩) hP hD hS hA [0] [1] rfl rfl (by decide) (by decide) (fun r_1 u_2 H locs w_3 hP hD hxw_3 hzw_3 hqw_3 hS => ?_)
  have hP : va_P D vwCl [(rw2, rwE ca 2 n2 f2), (rw1, rwE ca 0 n1 f1)] H := hP
  have hD : va_D A [(rw2, rwE ca 2 n2 f2), (rw1, rwE ca 0 n1 f1)] := hD
  obtain rfl : r_1 = 0 := w_3
  refine lv_aload_n hx hb dX0_areUnlike_12 rfl (lv_at hl 1 rfl) ?_
  refine k_calli (wr := [(rw1, rwE ca 0 n1 f1)]) (va_runS (As := [.ref rw2]) (rest := [.int 0]) ⟨hx, hb, hml, hown, hts⟩ (ct_X0_sortOf_2 l D ca H.size rw2 n2 f2) (va_cwS 1 hts (lw_S q209 q210 q19 q211) rfl rfl rfl (by decide +kernel) ⟨Nat.le_of_ble_eq_true rfl, Nat.le_of_ble_eq_true rfl⟩) (k_pre hk hK hN hP hD [0] (by decide) rfl trivial) rfl rfl hl.1 rfl (lv_room (Nat.le_of_ble_eq_true rfl)) dX0_areUnlike_13 ⟨Nat.le_of_ble_eq_true rfl, Nat.le_of_ble_eq_true rfl⟩) hP hD hS hA [0] [1] rfl rfl (by decide) (by decide) (fun r_4 u_5 H locs w_6 hP hD hxw_6 hzw_6 hqw_6 hS => ?_)
  have hP : va_P D vwCl [(rw1, rwE ca 0 n1 f1), (rw2, rwE ca 2 n2 f2)] H := hP
  have hD : va_D A [(rw1, rwE ca 0 n1 f1), (rw2, rwE ca 2 n2 f2)] := hD
  obtain rfl : r_4 = 2 := w_6
  refine lv_icmp_eq (tgt := 23) hx hb dX0_areUnlike_16 (by decide) (fun c_7 => absurd c_7 (by decide)) (fun c_7 => ?_)
  refine lv_iconst (v := 1) hx hb dX0_areUnlike_19 (by decide) ?_
  refine lv_goto (tgt := 24) hx hb dX0_areUnlike_20 (by decide) ?_
  exact k_zret () hx hb hr hlocks (by decide) (rfl) hP hD trivial hS (Nat.le_of_ble_eq_true rfl) (Nat.le_of_ble_eq_true rfl) dX0_areUnlike_24
set_option maxHeartbeats 4000000 in
set_option maxRecDepth 100000 in
theorem ct_X0_areUnlike_S0 (l : Launch) (D : va_G) (ca : Nat → ClassId) (zH : Nat) (rw1 n1 : Nat) (f1 : AL)  : Met l yX0_areUnlike (ws_ yX0_areUnlike cX0_areUnlike 2 (some .boolean)) ({ frames := 1, cells := 0, slots := 0, locals := 20 }) (va_Pc [.ref rw1, .ref rw1] (pr_ NW D ca [(rw1, rwE ca 0 n1 f1)] zH (fun _ => True))) (qI D (fun (r : Int32) (u : Unit) => r = bI false) (fun u => [(rw1, rwE ca 0 n1 f1)]) (fun u H => True) (va_A [(rw1, rwE ca 0 n1 f1)] zH)) 0 0 (va_A [(rw1, rwE ca 0 n1 f1)] zH) := by
  have hk := NW_ok
  refine k_ofW (Qc := qI D (fun (r : Int32) (u : Unit) => r = bI false) (fun u => [(rw1, rwE ca 0 n1 f1)]) (fun u H => True)) (by decide) (Nat.le_of_ble_eq_true rfl) ?_
  intro p e s m below meth c ls A H hH hx hb hr hts hown hlocks hnm hml hsz hP hD hK hN hA hAn hS hro hl
  have hl : lv_has ls 2 [(0, .ref rw1), (1, .ref rw1)] := hl
  refine lv_aload_n hx hb dX0_areUnlike_0 rfl (lv_at hl 0 rfl) ?_
  refine lv_ifnull hx hb dX0_areUnlike_1 ?_
  refine lv_aload_n hx hb dX0_areUnlike_4 rfl (lv_at hl 1 rfl) ?_
  refine lv_ifnull hx hb dX0_areUnlike_5 ?_
  refine lv_aload_n hx hb dX0_areUnlike_8 rfl (lv_at hl 0 rfl) ?_
  refine k_calli (wr := []) (va_runS (As := [.ref rw1]) (rest := []) ⟨hx, hb, hml, hown, hts⟩ (ct_X0_sortOf_0 l D ca H.size rw1 n1 f1) (va_cwS 1 hts (lw_S q209 q210 q19 q211) rfl rfl rfl (by decide +kernel) ⟨Nat.le_of_ble_eq_true rfl, Nat.le_of_ble_eq_true rfl⟩) (k_pre hk hK hN hP hD [0] (by decide) rfl trivial) rfl rfl hl.1 rfl (lv_room (Nat.le_of_ble_eq_true rfl)) dX0_areUnlike_9 ⟨Nat.le_of_ble_eq_true rfl, Nat.le_of_ble_eq_true rfl⟩) hP hD hS hA [0] [] rfl rfl (by decide) (by decide) (fun r_1 u_2 H locs w_3 hP hD hxw_3 hzw_3 hqw_3 hS => ?_)
  have hP : va_P D vwCl [(rw1, rwE ca 0 n1 f1)] H := hP
  have hD : va_D A [(rw1, rwE ca 0 n1 f1)] := hD
  obtain rfl : r_1 = 0 := w_3
  refine lv_aload_n hx hb dX0_areUnlike_12 rfl (lv_at hl 1 rfl) ?_
  refine k_calli (wr := []) (va_runS (As := [.ref rw1]) (rest := [.int 0]) ⟨hx, hb, hml, hown, hts⟩ (ct_X0_sortOf_0 l D ca H.size rw1 n1 f1) (va_cwS 1 hts (lw_S q209 q210 q19 q211) rfl rfl rfl (by decide +kernel) ⟨Nat.le_of_ble_eq_true rfl, Nat.le_of_ble_eq_true rfl⟩) (k_pre hk hK hN hP hD [0] (by decide) rfl trivial) rfl rfl hl.1 rfl (lv_room (Nat.le_of_ble_eq_true rfl)) dX0_areUnlike_13 ⟨Nat.le_of_ble_eq_true rfl, Nat.le_of_ble_eq_true rfl⟩) hP hD hS hA [0] [] rfl rfl (by decide) (by decide) (fun r_4 u_5 H locs w_6 hP hD hxw_6 hzw_6 hqw_6 hS => ?_)
  have hP : va_P D vwCl [(rw1, rwE ca 0 n1 f1)] H := hP
  have hD : va_D A [(rw1, rwE ca 0 n1 f1)] := hD
  obtain rfl : r_4 = 0 := w_6
  refine lv_icmp_eq (tgt := 23) hx hb dX0_areUnlike_16 (by decide) (fun c_7 => ?_) (fun c_7 => absurd (by decide) c_7)
  refine lv_iconst (v := 0) hx hb dX0_areUnlike_23 (by decide) ?_
  exact k_zret () hx hb hr hlocks (by decide) (rfl) hP hD trivial hS (Nat.le_of_ble_eq_true rfl) (Nat.le_of_ble_eq_true rfl) dX0_areUnlike_24
set_option maxHeartbeats 4000000 in
set_option maxRecDepth 100000 in
theorem ct_X0_areUnlike_10 (l : Launch) (D : va_G) (ca : Nat → ClassId) (zH : Nat) (rw1 n1 rw2 n2 : Nat) (f1 f2 : AL)  : Met l yX0_areUnlike (ws_ yX0_areUnlike cX0_areUnlike 2 (some .boolean)) ({ frames := 1, cells := 0, slots := 0, locals := 20 }) (va_Pc [.ref rw1, .ref rw2] (pr_ NW D ca [(rw1, rwE ca 1 n1 f1), (rw2, rwE ca 0 n2 f2)] zH (fun _ => True))) (qI D (fun (r : Int32) (u : Unit) => r = bI true) (fun u => [(rw1, rwE ca 1 n1 f1), (rw2, rwE ca 0 n2 f2)]) (fun u H => True) (va_A [(rw1, rwE ca 1 n1 f1), (rw2, rwE ca 0 n2 f2)] zH)) 0 0 (va_A [(rw1, rwE ca 1 n1 f1), (rw2, rwE ca 0 n2 f2)] zH) := by
  have hk := NW_ok
  refine k_ofW (Qc := qI D (fun (r : Int32) (u : Unit) => r = bI true) (fun u => [(rw1, rwE ca 1 n1 f1), (rw2, rwE ca 0 n2 f2)]) (fun u H => True)) (by decide) (Nat.le_of_ble_eq_true rfl) ?_
  intro p e s m below meth c ls A H hH hx hb hr hts hown hlocks hnm hml hsz hP hD hK hN hA hAn hS hro hl
  have hl : lv_has ls 2 [(0, .ref rw1), (1, .ref rw2)] := hl
  refine lv_aload_n hx hb dX0_areUnlike_0 rfl (lv_at hl 0 rfl) ?_
  refine lv_ifnull hx hb dX0_areUnlike_1 ?_
  refine lv_aload_n hx hb dX0_areUnlike_4 rfl (lv_at hl 1 rfl) ?_
  refine lv_ifnull hx hb dX0_areUnlike_5 ?_
  refine lv_aload_n hx hb dX0_areUnlike_8 rfl (lv_at hl 0 rfl) ?_
  refine k_calli (wr := [(rw2, rwE ca 0 n2 f2)]) (va_runS (As := [.ref rw1]) (rest := []) ⟨hx, hb, hml, hown, hts⟩ (ct_X0_sortOf_1 l D ca H.size rw1 n1 f1) (va_cwS 1 hts (lw_S q209 q210 q19 q211) rfl rfl rfl (by decide +kernel) ⟨Nat.le_of_ble_eq_true rfl, Nat.le_of_ble_eq_true rfl⟩) (k_pre hk hK hN hP hD [0] (by decide) rfl trivial) rfl rfl hl.1 rfl (lv_room (Nat.le_of_ble_eq_true rfl)) dX0_areUnlike_9 ⟨Nat.le_of_ble_eq_true rfl, Nat.le_of_ble_eq_true rfl⟩) hP hD hS hA [0] [1] rfl rfl (by decide) (by decide) (fun r_1 u_2 H locs w_3 hP hD hxw_3 hzw_3 hqw_3 hS => ?_)
  have hP : va_P D vwCl [(rw2, rwE ca 0 n2 f2), (rw1, rwE ca 1 n1 f1)] H := hP
  have hD : va_D A [(rw2, rwE ca 0 n2 f2), (rw1, rwE ca 1 n1 f1)] := hD
  obtain rfl : r_1 = 1 := w_3
  refine lv_aload_n hx hb dX0_areUnlike_12 rfl (lv_at hl 1 rfl) ?_
  refine k_calli (wr := [(rw1, rwE ca 1 n1 f1)]) (va_runS (As := [.ref rw2]) (rest := [.int 1]) ⟨hx, hb, hml, hown, hts⟩ (ct_X0_sortOf_0 l D ca H.size rw2 n2 f2) (va_cwS 1 hts (lw_S q209 q210 q19 q211) rfl rfl rfl (by decide +kernel) ⟨Nat.le_of_ble_eq_true rfl, Nat.le_of_ble_eq_true rfl⟩) (k_pre hk hK hN hP hD [0] (by decide) rfl trivial) rfl rfl hl.1 rfl (lv_room (Nat.le_of_ble_eq_true rfl)) dX0_areUnlike_13 ⟨Nat.le_of_ble_eq_true rfl, Nat.le_of_ble_eq_true rfl⟩) hP hD hS hA [0] [1] rfl rfl (by decide) (by decide) (fun r_4 u_5 H locs w_6 hP hD hxw_6 hzw_6 hqw_6 hS => ?_)
  have hP : va_P D vwCl [(rw1, rwE ca 1 n1 f1), (rw2, rwE ca 0 n2 f2)] H := hP
  have hD : va_D A [(rw1, rwE ca 1 n1 f1), (rw2, rwE ca 0 n2 f2)] := hD
  obtain rfl : r_4 = 0 := w_6
  refine lv_icmp_eq (tgt := 23) hx hb dX0_areUnlike_16 (by decide) (fun c_7 => absurd c_7 (by decide)) (fun c_7 => ?_)
  refine lv_iconst (v := 1) hx hb dX0_areUnlike_19 (by decide) ?_
  refine lv_goto (tgt := 24) hx hb dX0_areUnlike_20 (by decide) ?_
  exact k_zret () hx hb hr hlocks (by decide) (rfl) hP hD trivial hS (Nat.le_of_ble_eq_true rfl) (Nat.le_of_ble_eq_true rfl) dX0_areUnlike_24
set_option maxHeartbeats 4000000 in
set_option maxRecDepth 100000 in
theorem ct_X0_areUnlike_11 (l : Launch) (D : va_G) (ca : Nat → ClassId) (zH : Nat) (rw1 n1 rw2 n2 : Nat) (f1 f2 : AL)  : Met l yX0_areUnlike (ws_ yX0_areUnlike cX0_areUnlike 2 (some .boolean)) ({ frames := 1, cells := 0, slots := 0, locals := 20 }) (va_Pc [.ref rw1, .ref rw2] (pr_ NW D ca [(rw1, rwE ca 1 n1 f1), (rw2, rwE ca 1 n2 f2)] zH (fun _ => True))) (qI D (fun (r : Int32) (u : Unit) => r = bI false) (fun u => [(rw1, rwE ca 1 n1 f1), (rw2, rwE ca 1 n2 f2)]) (fun u H => True) (va_A [(rw1, rwE ca 1 n1 f1), (rw2, rwE ca 1 n2 f2)] zH)) 0 0 (va_A [(rw1, rwE ca 1 n1 f1), (rw2, rwE ca 1 n2 f2)] zH) := by
  have hk := NW_ok
  refine k_ofW (Qc := qI D (fun (r : Int32) (u : Unit) => r = bI false) (fun u => [(rw1, rwE ca 1 n1 f1), (rw2, rwE ca 1 n2 f2)]) (fun u H => True)) (by decide) (Nat.le_of_ble_eq_true rfl) ?_
  intro p e s m below meth c ls A H hH hx hb hr hts hown hlocks hnm hml hsz hP hD hK hN hA hAn hS hro hl
  have hl : lv_has ls 2 [(0, .ref rw1), (1, .ref rw2)] := hl
  refine lv_aload_n hx hb dX0_areUnlike_0 rfl (lv_at hl 0 rfl) ?_
  refine lv_ifnull hx hb dX0_areUnlike_1 ?_
  refine lv_aload_n hx hb dX0_areUnlike_4 rfl (lv_at hl 1 rfl) ?_
  refine lv_ifnull hx hb dX0_areUnlike_5 ?_
  refine lv_aload_n hx hb dX0_areUnlike_8 rfl (lv_at hl 0 rfl) ?_
  refine k_calli (wr := [(rw2, rwE ca 1 n2 f2)]) (va_runS (As := [.ref rw1]) (rest := []) ⟨hx, hb, hml, hown, hts⟩ (ct_X0_sortOf_1 l D ca H.size rw1 n1 f1) (va_cwS 1 hts (lw_S q209 q210 q19 q211) rfl rfl rfl (by decide +kernel) ⟨Nat.le_of_ble_eq_true rfl, Nat.le_of_ble_eq_true rfl⟩) (k_pre hk hK hN hP hD [0] (by decide) rfl trivial) rfl rfl hl.1 rfl (lv_room (Nat.le_of_ble_eq_true rfl)) dX0_areUnlike_9 ⟨Nat.le_of_ble_eq_true rfl, Nat.le_of_ble_eq_true rfl⟩) hP hD hS hA [0] [1] rfl rfl (by decide) (by decide) (fun r_1 u_2 H locs w_3 hP hD hxw_3 hzw_3 hqw_3 hS => ?_)
  have hP : va_P D vwCl [(rw2, rwE ca 1 n2 f2), (rw1, rwE ca 1 n1 f1)] H := hP
  have hD : va_D A [(rw2, rwE ca 1 n2 f2), (rw1, rwE ca 1 n1 f1)] := hD
  obtain rfl : r_1 = 1 := w_3
  refine lv_aload_n hx hb dX0_areUnlike_12 rfl (lv_at hl 1 rfl) ?_
  refine k_calli (wr := [(rw1, rwE ca 1 n1 f1)]) (va_runS (As := [.ref rw2]) (rest := [.int 1]) ⟨hx, hb, hml, hown, hts⟩ (ct_X0_sortOf_1 l D ca H.size rw2 n2 f2) (va_cwS 1 hts (lw_S q209 q210 q19 q211) rfl rfl rfl (by decide +kernel) ⟨Nat.le_of_ble_eq_true rfl, Nat.le_of_ble_eq_true rfl⟩) (k_pre hk hK hN hP hD [0] (by decide) rfl trivial) rfl rfl hl.1 rfl (lv_room (Nat.le_of_ble_eq_true rfl)) dX0_areUnlike_13 ⟨Nat.le_of_ble_eq_true rfl, Nat.le_of_ble_eq_true rfl⟩) hP hD hS hA [0] [1] rfl rfl (by decide) (by decide) (fun r_4 u_5 H locs w_6 hP hD hxw_6 hzw_6 hqw_6 hS => ?_)
  have hP : va_P D vwCl [(rw1, rwE ca 1 n1 f1), (rw2, rwE ca 1 n2 f2)] H := hP
  have hD : va_D A [(rw1, rwE ca 1 n1 f1), (rw2, rwE ca 1 n2 f2)] := hD
  obtain rfl : r_4 = 1 := w_6
  refine lv_icmp_eq (tgt := 23) hx hb dX0_areUnlike_16 (by decide) (fun c_7 => ?_) (fun c_7 => absurd (by decide) c_7)
  refine lv_iconst (v := 0) hx hb dX0_areUnlike_23 (by decide) ?_
  exact k_zret () hx hb hr hlocks (by decide) (rfl) hP hD trivial hS (Nat.le_of_ble_eq_true rfl) (Nat.le_of_ble_eq_true rfl) dX0_areUnlike_24
set_option maxHeartbeats 4000000 in
set_option maxRecDepth 100000 in
theorem ct_X0_areUnlike_12 (l : Launch) (D : va_G) (ca : Nat → ClassId) (zH : Nat) (rw1 n1 rw2 n2 : Nat) (f1 f2 : AL)  : Met l yX0_areUnlike (ws_ yX0_areUnlike cX0_areUnlike 2 (some .boolean)) ({ frames := 1, cells := 0, slots := 0, locals := 20 }) (va_Pc [.ref rw1, .ref rw2] (pr_ NW D ca [(rw1, rwE ca 1 n1 f1), (rw2, rwE ca 2 n2 f2)] zH (fun _ => True))) (qI D (fun (r : Int32) (u : Unit) => r = bI true) (fun u => [(rw1, rwE ca 1 n1 f1), (rw2, rwE ca 2 n2 f2)]) (fun u H => True) (va_A [(rw1, rwE ca 1 n1 f1), (rw2, rwE ca 2 n2 f2)] zH)) 0 0 (va_A [(rw1, rwE ca 1 n1 f1), (rw2, rwE ca 2 n2 f2)] zH) := by
  have hk := NW_ok
  refine k_ofW (Qc := qI D (fun (r : Int32) (u : Unit) => r = bI true) (fun u => [(rw1, rwE ca 1 n1 f1), (rw2, rwE ca 2 n2 f2)]) (fun u H => True)) (by decide) (Nat.le_of_ble_eq_true rfl) ?_
  intro p e s m below meth c ls A H hH hx hb hr hts hown hlocks hnm hml hsz hP hD hK hN hA hAn hS hro hl
  have hl : lv_has ls 2 [(0, .ref rw1), (1, .ref rw2)] := hl
  refine lv_aload_n hx hb dX0_areUnlike_0 rfl (lv_at hl 0 rfl) ?_
  refine lv_ifnull hx hb dX0_areUnlike_1 ?_
  refine lv_aload_n hx hb dX0_areUnlike_4 rfl (lv_at hl 1 rfl) ?_
  refine lv_ifnull hx hb dX0_areUnlike_5 ?_
  refine lv_aload_n hx hb dX0_areUnlike_8 rfl (lv_at hl 0 rfl) ?_
  refine k_calli (wr := [(rw2, rwE ca 2 n2 f2)]) (va_runS (As := [.ref rw1]) (rest := []) ⟨hx, hb, hml, hown, hts⟩ (ct_X0_sortOf_1 l D ca H.size rw1 n1 f1) (va_cwS 1 hts (lw_S q209 q210 q19 q211) rfl rfl rfl (by decide +kernel) ⟨Nat.le_of_ble_eq_true rfl, Nat.le_of_ble_eq_true rfl⟩) (k_pre hk hK hN hP hD [0] (by decide) rfl trivial) rfl rfl hl.1 rfl (lv_room (Nat.le_of_ble_eq_true rfl)) dX0_areUnlike_9 ⟨Nat.le_of_ble_eq_true rfl, Nat.le_of_ble_eq_true rfl⟩) hP hD hS hA [0] [1] rfl rfl (by decide) (by decide) (fun r_1 u_2 H locs w_3 hP hD hxw_3 hzw_3 hqw_3 hS => ?_)
  have hP : va_P D vwCl [(rw2, rwE ca 2 n2 f2), (rw1, rwE ca 1 n1 f1)] H := hP
  have hD : va_D A [(rw2, rwE ca 2 n2 f2), (rw1, rwE ca 1 n1 f1)] := hD
  obtain rfl : r_1 = 1 := w_3
  refine lv_aload_n hx hb dX0_areUnlike_12 rfl (lv_at hl 1 rfl) ?_
  refine k_calli (wr := [(rw1, rwE ca 1 n1 f1)]) (va_runS (As := [.ref rw2]) (rest := [.int 1]) ⟨hx, hb, hml, hown, hts⟩ (ct_X0_sortOf_2 l D ca H.size rw2 n2 f2) (va_cwS 1 hts (lw_S q209 q210 q19 q211) rfl rfl rfl (by decide +kernel) ⟨Nat.le_of_ble_eq_true rfl, Nat.le_of_ble_eq_true rfl⟩) (k_pre hk hK hN hP hD [0] (by decide) rfl trivial) rfl rfl hl.1 rfl (lv_room (Nat.le_of_ble_eq_true rfl)) dX0_areUnlike_13 ⟨Nat.le_of_ble_eq_true rfl, Nat.le_of_ble_eq_true rfl⟩) hP hD hS hA [0] [1] rfl rfl (by decide) (by decide) (fun r_4 u_5 H locs w_6 hP hD hxw_6 hzw_6 hqw_6 hS => ?_)
  have hP : va_P D vwCl [(rw1, rwE ca 1 n1 f1), (rw2, rwE ca 2 n2 f2)] H := hP
  have hD : va_D A [(rw1, rwE ca 1 n1 f1), (rw2, rwE ca 2 n2 f2)] := hD
  obtain rfl : r_4 = 2 := w_6
  refine lv_icmp_eq (tgt := 23) hx hb dX0_areUnlike_16 (by decide) (fun c_7 => absurd c_7 (by decide)) (fun c_7 => ?_)
  refine lv_iconst (v := 1) hx hb dX0_areUnlike_19 (by decide) ?_
  refine lv_goto (tgt := 24) hx hb dX0_areUnlike_20 (by decide) ?_
  exact k_zret () hx hb hr hlocks (by decide) (rfl) hP hD trivial hS (Nat.le_of_ble_eq_true rfl) (Nat.le_of_ble_eq_true rfl) dX0_areUnlike_24
set_option maxHeartbeats 4000000 in
set_option maxRecDepth 100000 in
theorem ct_X0_areUnlike_S1 (l : Launch) (D : va_G) (ca : Nat → ClassId) (zH : Nat) (rw1 n1 : Nat) (f1 : AL)  : Met l yX0_areUnlike (ws_ yX0_areUnlike cX0_areUnlike 2 (some .boolean)) ({ frames := 1, cells := 0, slots := 0, locals := 20 }) (va_Pc [.ref rw1, .ref rw1] (pr_ NW D ca [(rw1, rwE ca 1 n1 f1)] zH (fun _ => True))) (qI D (fun (r : Int32) (u : Unit) => r = bI false) (fun u => [(rw1, rwE ca 1 n1 f1)]) (fun u H => True) (va_A [(rw1, rwE ca 1 n1 f1)] zH)) 0 0 (va_A [(rw1, rwE ca 1 n1 f1)] zH) := by
  have hk := NW_ok
  refine k_ofW (Qc := qI D (fun (r : Int32) (u : Unit) => r = bI false) (fun u => [(rw1, rwE ca 1 n1 f1)]) (fun u H => True)) (by decide) (Nat.le_of_ble_eq_true rfl) ?_
  intro p e s m below meth c ls A H hH hx hb hr hts hown hlocks hnm hml hsz hP hD hK hN hA hAn hS hro hl
  have hl : lv_has ls 2 [(0, .ref rw1), (1, .ref rw1)] := hl
  refine lv_aload_n hx hb dX0_areUnlike_0 rfl (lv_at hl 0 rfl) ?_
  refine lv_ifnull hx hb dX0_areUnlike_1 ?_
  refine lv_aload_n hx hb dX0_areUnlike_4 rfl (lv_at hl 1 rfl) ?_
  refine lv_ifnull hx hb dX0_areUnlike_5 ?_
  refine lv_aload_n hx hb dX0_areUnlike_8 rfl (lv_at hl 0 rfl) ?_
  refine k_calli (wr := []) (va_runS (As := [.ref rw1]) (rest := []) ⟨hx, hb, hml, hown, hts⟩ (ct_X0_sortOf_1 l D ca H.size rw1 n1 f1) (va_cwS 1 hts (lw_S q209 q210 q19 q211) rfl rfl rfl (by decide +kernel) ⟨Nat.le_of_ble_eq_true rfl, Nat.le_of_ble_eq_true rfl⟩) (k_pre hk hK hN hP hD [0] (by decide) rfl trivial) rfl rfl hl.1 rfl (lv_room (Nat.le_of_ble_eq_true rfl)) dX0_areUnlike_9 ⟨Nat.le_of_ble_eq_true rfl, Nat.le_of_ble_eq_true rfl⟩) hP hD hS hA [0] [] rfl rfl (by decide) (by decide) (fun r_1 u_2 H locs w_3 hP hD hxw_3 hzw_3 hqw_3 hS => ?_)
  have hP : va_P D vwCl [(rw1, rwE ca 1 n1 f1)] H := hP
  have hD : va_D A [(rw1, rwE ca 1 n1 f1)] := hD
  obtain rfl : r_1 = 1 := w_3
  refine lv_aload_n hx hb dX0_areUnlike_12 rfl (lv_at hl 1 rfl) ?_
  refine k_calli (wr := []) (va_runS (As := [.ref rw1]) (rest := [.int 1]) ⟨hx, hb, hml, hown, hts⟩ (ct_X0_sortOf_1 l D ca H.size rw1 n1 f1) (va_cwS 1 hts (lw_S q209 q210 q19 q211) rfl rfl rfl (by decide +kernel) ⟨Nat.le_of_ble_eq_true rfl, Nat.le_of_ble_eq_true rfl⟩) (k_pre hk hK hN hP hD [0] (by decide) rfl trivial) rfl rfl hl.1 rfl (lv_room (Nat.le_of_ble_eq_true rfl)) dX0_areUnlike_13 ⟨Nat.le_of_ble_eq_true rfl, Nat.le_of_ble_eq_true rfl⟩) hP hD hS hA [0] [] rfl rfl (by decide) (by decide) (fun r_4 u_5 H locs w_6 hP hD hxw_6 hzw_6 hqw_6 hS => ?_)
  have hP : va_P D vwCl [(rw1, rwE ca 1 n1 f1)] H := hP
  have hD : va_D A [(rw1, rwE ca 1 n1 f1)] := hD
  obtain rfl : r_4 = 1 := w_6
  refine lv_icmp_eq (tgt := 23) hx hb dX0_areUnlike_16 (by decide) (fun c_7 => ?_) (fun c_7 => absurd (by decide) c_7)
  refine lv_iconst (v := 0) hx hb dX0_areUnlike_23 (by decide) ?_
  exact k_zret () hx hb hr hlocks (by decide) (rfl) hP hD trivial hS (Nat.le_of_ble_eq_true rfl) (Nat.le_of_ble_eq_true rfl) dX0_areUnlike_24
set_option maxHeartbeats 4000000 in
set_option maxRecDepth 100000 in
theorem ct_X0_areUnlike_20 (l : Launch) (D : va_G) (ca : Nat → ClassId) (zH : Nat) (rw1 n1 rw2 n2 : Nat) (f1 f2 : AL)  : Met l yX0_areUnlike (ws_ yX0_areUnlike cX0_areUnlike 2 (some .boolean)) ({ frames := 1, cells := 0, slots := 0, locals := 20 }) (va_Pc [.ref rw1, .ref rw2] (pr_ NW D ca [(rw1, rwE ca 2 n1 f1), (rw2, rwE ca 0 n2 f2)] zH (fun _ => True))) (qI D (fun (r : Int32) (u : Unit) => r = bI true) (fun u => [(rw1, rwE ca 2 n1 f1), (rw2, rwE ca 0 n2 f2)]) (fun u H => True) (va_A [(rw1, rwE ca 2 n1 f1), (rw2, rwE ca 0 n2 f2)] zH)) 0 0 (va_A [(rw1, rwE ca 2 n1 f1), (rw2, rwE ca 0 n2 f2)] zH) := by
  have hk := NW_ok
  refine k_ofW (Qc := qI D (fun (r : Int32) (u : Unit) => r = bI true) (fun u => [(rw1, rwE ca 2 n1 f1), (rw2, rwE ca 0 n2 f2)]) (fun u H => True)) (by decide) (Nat.le_of_ble_eq_true rfl) ?_
  intro p e s m below meth c ls A H hH hx hb hr hts hown hlocks hnm hml hsz hP hD hK hN hA hAn hS hro hl
  have hl : lv_has ls 2 [(0, .ref rw1), (1, .ref rw2)] := hl
  refine lv_aload_n hx hb dX0_areUnlike_0 rfl (lv_at hl 0 rfl) ?_
  refine lv_ifnull hx hb dX0_areUnlike_1 ?_
  refine lv_aload_n hx hb dX0_areUnlike_4 rfl (lv_at hl 1 rfl) ?_
  refine lv_ifnull hx hb dX0_areUnlike_5 ?_
  refine lv_aload_n hx hb dX0_areUnlike_8 rfl (lv_at hl 0 rfl) ?_
  refine k_calli (wr := [(rw2, rwE ca 0 n2 f2)]) (va_runS (As := [.ref rw1]) (rest := []) ⟨hx, hb, hml, hown, hts⟩ (ct_X0_sortOf_2 l D ca H.size rw1 n1 f1) (va_cwS 1 hts (lw_S q209 q210 q19 q211) rfl rfl rfl (by decide +kernel) ⟨Nat.le_of_ble_eq_true rfl, Nat.le_of_ble_eq_true rfl⟩) (k_pre hk hK hN hP hD [0] (by decide) rfl trivial) rfl rfl hl.1 rfl (lv_room (Nat.le_of_ble_eq_true rfl)) dX0_areUnlike_9 ⟨Nat.le_of_ble_eq_true rfl, Nat.le_of_ble_eq_true rfl⟩) hP hD hS hA [0] [1] rfl rfl (by decide) (by decide) (fun r_1 u_2 H locs w_3 hP hD hxw_3 hzw_3 hqw_3 hS => ?_)
  have hP : va_P D vwCl [(rw2, rwE ca 0 n2 f2), (rw1, rwE ca 2 n1 f1)] H := hP
  have hD : va_D A [(rw2, rwE ca 0 n2 f2), (rw1, rwE ca 2 n1 f1)] := hD
  obtain rfl : r_1 = 2 := w_3
  refine lv_aload_n hx hb dX0_areUnlike_12 rfl (lv_at hl 1 rfl) ?_
  refine k_calli (wr := [(rw1, rwE ca 2 n1 f1)]) (va_runS (As := [.ref rw2]) (rest := [.int 2]) ⟨hx, hb, hml, hown, hts⟩ (ct_X0_sortOf_0 l D ca H.size rw2 n2 f2) (va_cwS 1 hts (lw_S q209 q210 q19 q211) rfl rfl rfl (by decide +kernel) ⟨Nat.le_of_ble_eq_true rfl, Nat.le_of_ble_eq_true rfl⟩) (k_pre hk hK hN hP hD [0] (by decide) rfl trivial) rfl rfl hl.1 rfl (lv_room (Nat.le_of_ble_eq_true rfl)) dX0_areUnlike_13 ⟨Nat.le_of_ble_eq_true rfl, Nat.le_of_ble_eq_true rfl⟩) hP hD hS hA [0] [1] rfl rfl (by decide) (by decide) (fun r_4 u_5 H locs w_6 hP hD hxw_6 hzw_6 hqw_6 hS => ?_)
  have hP : va_P D vwCl [(rw1, rwE ca 2 n1 f1), (rw2, rwE ca 0 n2 f2)] H := hP
  have hD : va_D A [(rw1, rwE ca 2 n1 f1), (rw2, rwE ca 0 n2 f2)] := hD
  obtain rfl : r_4 = 0 := w_6
  refine lv_icmp_eq (tgt := 23) hx hb dX0_areUnlike_16 (by decide) (fun c_7 => absurd c_7 (by decide)) (fun c_7 => ?_)
  refine lv_iconst (v := 1) hx hb dX0_areUnlike_19 (by decide) ?_
  refine lv_goto (tgt := 24) hx hb dX0_areUnlike_20 (by decide) ?_
  exact k_zret () hx hb hr hlocks (by decide) (rfl) hP hD trivial hS (Nat.le_of_ble_eq_true rfl) (Nat.le_of_ble_eq_true rfl) dX0_areUnlike_24
set_option maxHeartbeats 4000000 in
set_option maxRecDepth 100000 in
theorem ct_X0_areUnlike_21 (l : Launch) (D : va_G) (ca : Nat → ClassId) (zH : Nat) (rw1 n1 rw2 n2 : Nat) (f1 f2 : AL)  : Met l yX0_areUnlike (ws_ yX0_areUnlike cX0_areUnlike 2 (some .boolean)) ({ frames := 1, cells := 0, slots := 0, locals := 20 }) (va_Pc [.ref rw1, .ref rw2] (pr_ NW D ca [(rw1, rwE ca 2 n1 f1), (rw2, rwE ca 1 n2 f2)] zH (fun _ => True))) (qI D (fun (r : Int32) (u : Unit) => r = bI true) (fun u => [(rw1, rwE ca 2 n1 f1), (rw2, rwE ca 1 n2 f2)]) (fun u H => True) (va_A [(rw1, rwE ca 2 n1 f1), (rw2, rwE ca 1 n2 f2)] zH)) 0 0 (va_A [(rw1, rwE ca 2 n1 f1), (rw2, rwE ca 1 n2 f2)] zH) := by
  have hk := NW_ok
  refine k_ofW (Qc := qI D (fun (r : Int32) (u : Unit) => r = bI true) (fun u => [(rw1, rwE ca 2 n1 f1), (rw2, rwE ca 1 n2 f2)]) (fun u H => True)) (by decide) (Nat.le_of_ble_eq_true rfl) ?_
  intro p e s m below meth c ls A H hH hx hb hr hts hown hlocks hnm hml hsz hP hD hK hN hA hAn hS hro hl
  have hl : lv_has ls 2 [(0, .ref rw1), (1, .ref rw2)] := hl
  refine lv_aload_n hx hb dX0_areUnlike_0 rfl (lv_at hl 0 rfl) ?_
  refine lv_ifnull hx hb dX0_areUnlike_1 ?_
  refine lv_aload_n hx hb dX0_areUnlike_4 rfl (lv_at hl 1 rfl) ?_
  refine lv_ifnull hx hb dX0_areUnlike_5 ?_
  refine lv_aload_n hx hb dX0_areUnlike_8 rfl (lv_at hl 0 rfl) ?_
  refine k_calli (wr := [(rw2, rwE ca 1 n2 f2)]) (va_runS (As := [.ref rw1]) (rest := []) ⟨hx, hb, hml, hown, hts⟩ (ct_X0_sortOf_2 l D ca H.size rw1 n1 f1) (va_cwS 1 hts (lw_S q209 q210 q19 q211) rfl rfl rfl (by decide +kernel) ⟨Nat.le_of_ble_eq_true rfl, Nat.le_of_ble_eq_true rfl⟩) (k_pre hk hK hN hP hD [0] (by decide) rfl trivial) rfl rfl hl.1 rfl (lv_room (Nat.le_of_ble_eq_true rfl)) dX0_areUnlike_9 ⟨Nat.le_of_ble_eq_true rfl, Nat.le_of_ble_eq_true rfl⟩) hP hD hS hA [0] [1] rfl rfl (by decide) (by decide) (fun r_1 u_2 H locs w_3 hP hD hxw_3 hzw_3 hqw_3 hS => ?_)
  have hP : va_P D vwCl [(rw2, rwE ca 1 n2 f2), (rw1, rwE ca 2 n1 f1)] H := hP
  have hD : va_D A [(rw2, rwE ca 1 n2 f2), (rw1, rwE ca 2 n1 f1)] := hD
  obtain rfl : r_1 = 2 := w_3
  refine lv_aload_n hx hb dX0_areUnlike_12 rfl (lv_at hl 1 rfl) ?_
  refine k_calli (wr := [(rw1, rwE ca 2 n1 f1)]) (va_runS (As := [.ref rw2]) (rest := [.int 2]) ⟨hx, hb, hml, hown, hts⟩ (ct_X0_sortOf_1 l D ca H.size rw2 n2 f2) (va_cwS 1 hts (lw_S q209 q210 q19 q211) rfl rfl rfl (by decide +kernel) ⟨Nat.le_of_ble_eq_true rfl, Nat.le_of_ble_eq_true rfl⟩) (k_pre hk hK hN hP hD [0] (by decide) rfl trivial) rfl rfl hl.1 rfl (lv_room (Nat.le_of_ble_eq_true rfl)) dX0_areUnlike_13 ⟨Nat.le_of_ble_eq_true rfl, Nat.le_of_ble_eq_true rfl⟩) hP hD hS hA [0] [1] rfl rfl (by decide) (by decide) (fun r_4 u_5 H locs w_6 hP hD hxw_6 hzw_6 hqw_6 hS => ?_)
  have hP : va_P D vwCl [(rw1, rwE ca 2 n1 f1), (rw2, rwE ca 1 n2 f2)] H := hP
  have hD : va_D A [(rw1, rwE ca 2 n1 f1), (rw2, rwE ca 1 n2 f2)] := hD
  obtain rfl : r_4 = 1 := w_6
  refine lv_icmp_eq (tgt := 23) hx hb dX0_areUnlike_16 (by decide) (fun c_7 => absurd c_7 (by decide)) (fun c_7 => ?_)
  refine lv_iconst (v := 1) hx hb dX0_areUnlike_19 (by decide) ?_
  refine lv_goto (tgt := 24) hx hb dX0_areUnlike_20 (by decide) ?_
  exact k_zret () hx hb hr hlocks (by decide) (rfl) hP hD trivial hS (Nat.le_of_ble_eq_true rfl) (Nat.le_of_ble_eq_true rfl) dX0_areUnlike_24
set_option maxHeartbeats 4000000 in
set_option maxRecDepth 100000 in
theorem ct_X0_areUnlike_22 (l : Launch) (D : va_G) (ca : Nat → ClassId) (zH : Nat) (rw1 n1 rw2 n2 : Nat) (f1 f2 : AL)  : Met l yX0_areUnlike (ws_ yX0_areUnlike cX0_areUnlike 2 (some .boolean)) ({ frames := 1, cells := 0, slots := 0, locals := 20 }) (va_Pc [.ref rw1, .ref rw2] (pr_ NW D ca [(rw1, rwE ca 2 n1 f1), (rw2, rwE ca 2 n2 f2)] zH (fun _ => True))) (qI D (fun (r : Int32) (u : Unit) => r = bI false) (fun u => [(rw1, rwE ca 2 n1 f1), (rw2, rwE ca 2 n2 f2)]) (fun u H => True) (va_A [(rw1, rwE ca 2 n1 f1), (rw2, rwE ca 2 n2 f2)] zH)) 0 0 (va_A [(rw1, rwE ca 2 n1 f1), (rw2, rwE ca 2 n2 f2)] zH) := by
  have hk := NW_ok
  refine k_ofW (Qc := qI D (fun (r : Int32) (u : Unit) => r = bI false) (fun u => [(rw1, rwE ca 2 n1 f1), (rw2, rwE ca 2 n2 f2)]) (fun u H => True)) (by decide) (Nat.le_of_ble_eq_true rfl) ?_
  intro p e s m below meth c ls A H hH hx hb hr hts hown hlocks hnm hml hsz hP hD hK hN hA hAn hS hro hl
  have hl : lv_has ls 2 [(0, .ref rw1), (1, .ref rw2)] := hl
  refine lv_aload_n hx hb dX0_areUnlike_0 rfl (lv_at hl 0 rfl) ?_
  refine lv_ifnull hx hb dX0_areUnlike_1 ?_
  refine lv_aload_n hx hb dX0_areUnlike_4 rfl (lv_at hl 1 rfl) ?_
  refine lv_ifnull hx hb dX0_areUnlike_5 ?_
  refine lv_aload_n hx hb dX0_areUnlike_8 rfl (lv_at hl 0 rfl) ?_
  refine k_calli (wr := [(rw2, rwE ca 2 n2 f2)]) (va_runS (As := [.ref rw1]) (rest := []) ⟨hx, hb, hml, hown, hts⟩ (ct_X0_sortOf_2 l D ca H.size rw1 n1 f1) (va_cwS 1 hts (lw_S q209 q210 q19 q211) rfl rfl rfl (by decide +kernel) ⟨Nat.le_of_ble_eq_true rfl, Nat.le_of_ble_eq_true rfl⟩) (k_pre hk hK hN hP hD [0] (by decide) rfl trivial) rfl rfl hl.1 rfl (lv_room (Nat.le_of_ble_eq_true rfl)) dX0_areUnlike_9 ⟨Nat.le_of_ble_eq_true rfl, Nat.le_of_ble_eq_true rfl⟩) hP hD hS hA [0] [1] rfl rfl (by decide) (by decide) (fun r_1 u_2 H locs w_3 hP hD hxw_3 hzw_3 hqw_3 hS => ?_)
  have hP : va_P D vwCl [(rw2, rwE ca 2 n2 f2), (rw1, rwE ca 2 n1 f1)] H := hP
  have hD : va_D A [(rw2, rwE ca 2 n2 f2), (rw1, rwE ca 2 n1 f1)] := hD
  obtain rfl : r_1 = 2 := w_3
  refine lv_aload_n hx hb dX0_areUnlike_12 rfl (lv_at hl 1 rfl) ?_
  refine k_calli (wr := [(rw1, rwE ca 2 n1 f1)]) (va_runS (As := [.ref rw2]) (rest := [.int 2]) ⟨hx, hb, hml, hown, hts⟩ (ct_X0_sortOf_2 l D ca H.size rw2 n2 f2) (va_cwS 1 hts (lw_S q209 q210 q19 q211) rfl rfl rfl (by decide +kernel) ⟨Nat.le_of_ble_eq_true rfl, Nat.le_of_ble_eq_true rfl⟩) (k_pre hk hK hN hP hD [0] (by decide) rfl trivial) rfl rfl hl.1 rfl (lv_room (Nat.le_of_ble_eq_true rfl)) dX0_areUnlike_13 ⟨Nat.le_of_ble_eq_true rfl, Nat.le_of_ble_eq_true rfl⟩) hP hD hS hA [0] [1] rfl rfl (by decide) (by decide) (fun r_4 u_5 H locs w_6 hP hD hxw_6 hzw_6 hqw_6 hS => ?_)
  have hP : va_P D vwCl [(rw1, rwE ca 2 n1 f1), (rw2, rwE ca 2 n2 f2)] H := hP
  have hD : va_D A [(rw1, rwE ca 2 n1 f1), (rw2, rwE ca 2 n2 f2)] := hD
  obtain rfl : r_4 = 2 := w_6
  refine lv_icmp_eq (tgt := 23) hx hb dX0_areUnlike_16 (by decide) (fun c_7 => ?_) (fun c_7 => absurd (by decide) c_7)
  refine lv_iconst (v := 0) hx hb dX0_areUnlike_23 (by decide) ?_
  exact k_zret () hx hb hr hlocks (by decide) (rfl) hP hD trivial hS (Nat.le_of_ble_eq_true rfl) (Nat.le_of_ble_eq_true rfl) dX0_areUnlike_24
set_option maxHeartbeats 4000000 in
set_option maxRecDepth 100000 in
theorem ct_X0_areUnlike_S2 (l : Launch) (D : va_G) (ca : Nat → ClassId) (zH : Nat) (rw1 n1 : Nat) (f1 : AL)  : Met l yX0_areUnlike (ws_ yX0_areUnlike cX0_areUnlike 2 (some .boolean)) ({ frames := 1, cells := 0, slots := 0, locals := 20 }) (va_Pc [.ref rw1, .ref rw1] (pr_ NW D ca [(rw1, rwE ca 2 n1 f1)] zH (fun _ => True))) (qI D (fun (r : Int32) (u : Unit) => r = bI false) (fun u => [(rw1, rwE ca 2 n1 f1)]) (fun u H => True) (va_A [(rw1, rwE ca 2 n1 f1)] zH)) 0 0 (va_A [(rw1, rwE ca 2 n1 f1)] zH) := by
  have hk := NW_ok
  refine k_ofW (Qc := qI D (fun (r : Int32) (u : Unit) => r = bI false) (fun u => [(rw1, rwE ca 2 n1 f1)]) (fun u H => True)) (by decide) (Nat.le_of_ble_eq_true rfl) ?_
  intro p e s m below meth c ls A H hH hx hb hr hts hown hlocks hnm hml hsz hP hD hK hN hA hAn hS hro hl
  have hl : lv_has ls 2 [(0, .ref rw1), (1, .ref rw1)] := hl
  refine lv_aload_n hx hb dX0_areUnlike_0 rfl (lv_at hl 0 rfl) ?_
  refine lv_ifnull hx hb dX0_areUnlike_1 ?_
  refine lv_aload_n hx hb dX0_areUnlike_4 rfl (lv_at hl 1 rfl) ?_
  refine lv_ifnull hx hb dX0_areUnlike_5 ?_
  refine lv_aload_n hx hb dX0_areUnlike_8 rfl (lv_at hl 0 rfl) ?_
  refine k_calli (wr := []) (va_runS (As := [.ref rw1]) (rest := []) ⟨hx, hb, hml, hown, hts⟩ (ct_X0_sortOf_2 l D ca H.size rw1 n1 f1) (va_cwS 1 hts (lw_S q209 q210 q19 q211) rfl rfl rfl (by decide +kernel) ⟨Nat.le_of_ble_eq_true rfl, Nat.le_of_ble_eq_true rfl⟩) (k_pre hk hK hN hP hD [0] (by decide) rfl trivial) rfl rfl hl.1 rfl (lv_room (Nat.le_of_ble_eq_true rfl)) dX0_areUnlike_9 ⟨Nat.le_of_ble_eq_true rfl, Nat.le_of_ble_eq_true rfl⟩) hP hD hS hA [0] [] rfl rfl (by decide) (by decide) (fun r_1 u_2 H locs w_3 hP hD hxw_3 hzw_3 hqw_3 hS => ?_)
  have hP : va_P D vwCl [(rw1, rwE ca 2 n1 f1)] H := hP
  have hD : va_D A [(rw1, rwE ca 2 n1 f1)] := hD
  obtain rfl : r_1 = 2 := w_3
  refine lv_aload_n hx hb dX0_areUnlike_12 rfl (lv_at hl 1 rfl) ?_
  refine k_calli (wr := []) (va_runS (As := [.ref rw1]) (rest := [.int 2]) ⟨hx, hb, hml, hown, hts⟩ (ct_X0_sortOf_2 l D ca H.size rw1 n1 f1) (va_cwS 1 hts (lw_S q209 q210 q19 q211) rfl rfl rfl (by decide +kernel) ⟨Nat.le_of_ble_eq_true rfl, Nat.le_of_ble_eq_true rfl⟩) (k_pre hk hK hN hP hD [0] (by decide) rfl trivial) rfl rfl hl.1 rfl (lv_room (Nat.le_of_ble_eq_true rfl)) dX0_areUnlike_13 ⟨Nat.le_of_ble_eq_true rfl, Nat.le_of_ble_eq_true rfl⟩) hP hD hS hA [0] [] rfl rfl (by decide) (by decide) (fun r_4 u_5 H locs w_6 hP hD hxw_6 hzw_6 hqw_6 hS => ?_)
  have hP : va_P D vwCl [(rw1, rwE ca 2 n1 f1)] H := hP
  have hD : va_D A [(rw1, rwE ca 2 n1 f1)] := hD
  obtain rfl : r_4 = 2 := w_6
  refine lv_icmp_eq (tgt := 23) hx hb dX0_areUnlike_16 (by decide) (fun c_7 => ?_) (fun c_7 => absurd (by decide) c_7)
  refine lv_iconst (v := 0) hx hb dX0_areUnlike_23 (by decide) ?_
  exact k_zret () hx hb hr hlocks (by decide) (rfl) hP hD trivial hS (Nat.le_of_ble_eq_true rfl) (Nat.le_of_ble_eq_true rfl) dX0_areUnlike_24
