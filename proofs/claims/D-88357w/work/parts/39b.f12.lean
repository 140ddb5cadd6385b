set_option maxHeartbeats 4000000 in
set_option maxRecDepth 100000 in
theorem ct_X0_rowOf_0 (l : Launch) (D : va_G) (ca : Nat → ClassId) (zH : Nat) (nn : Nat) (hnn : nn ≤ 16) : Met l yX0_rowOf (ws_ yX0_rowOf cX0_rowOf 2 (some (.object "java/lang/Object"))) ({ frames := 0, cells := 1, slots := 16, locals := 0 }) (va_Pc [.int (nI 0), .int (nI nn)] (pr_ NW D ca [] zH (fun _ => True))) (qR D (fun (u : Unit) => True) (fun u a => [(a, rwE ca 0 nn (fun _ => 0))]) (fun u a H => True) (va_A [] zH)) 1 16 (va_A [] zH) := by
  have hk := NW_ok
  refine k_ofW (Qc := qR D (fun (u : Unit) => True) (fun u a => [(a, rwE ca 0 nn (fun _ => 0))]) (fun u a H => True)) (by decide) (Nat.le_of_ble_eq_true rfl) ?_
  intro p e s m below meth c ls A H hH hx hb hr hts hown hlocks hnm hml hsz hP hD hK hN hA hAn hS hro hl
  have hl : lv_has ls 2 [(0, .int (nI 0)), (1, .int (nI nn))] := hl
  refine lv_iload_n hx hb dX0_rowOf_0 rfl (lv_at hl 0 rfl) ?_
  refine lv_if_ne (tgt := 10) hx hb dX0_rowOf_1 (by decide) (fun c_1 => absurd (by decide) c_1) (fun c_1 => ?_)
  refine lv_iload_n hx hb dX0_rowOf_4 rfl (lv_at hl 1 rfl) ?_
  refine va_newa (atype := .byte) (a0 := (nn, .inl (fun _ => 0))) hx hb (hts _ q122) rfl hK hP hD hS hA (fun _ => rfl) (fun h => absurd (lt_y (a := nn) (b := 0) rfl rfl (by omega) (by decide) h) (Nat.not_lt_zero nn)) (nI_clamp (show nn < 2 ^ 31 by omega)) (by show nn * 1 ≤ 536870912; omega) (Nat.le_of_ble_eq_true rfl) (by show 0 + nn ≤ 16; omega) dX0_rowOf_5 (fun q9 cA H hK9 hP hD hS => ?_)
  have ecA : cA = ca 0 := Option.some.inj (((hK9.2 6 _ rfl).2).symm.trans ((hK.2 0 _ rfl).2))
  subst ecA
  refine W.widen (k := 1) (n := 16) (by omega) (by omega) ?_
  have hP : va_P D vwCl [(q9, rwE ca 0 nn (fun _ => 0))] H := hP
  have hD : va_D A [(q9, rwE ca 0 nn (fun _ => 0))] := hD
  refine lv_goto (tgt := 24) hx hb dX0_rowOf_7 (by decide) ?_
  exact k_aret () hx hb hr (Or.inl ⟨_, rfl⟩) hlocks (trivial) hP hD trivial hS (Nat.le_of_ble_eq_true rfl) (Nat.le_of_ble_eq_true rfl) dX0_rowOf_24
set_option maxHeartbeats 4000000 in
set_option maxRecDepth 100000 in
theorem ct_X0_rowOf_1 (l : Launch) (D : va_G) (ca : Nat → ClassId) (zH : Nat) (nn : Nat) (hnn : nn ≤ 16) : Met l yX0_rowOf (ws_ yX0_rowOf cX0_rowOf 2 (some (.object "java/lang/Object"))) ({ frames := 0, cells := 1, slots := 16, locals := 0 }) (va_Pc [.int (nI 1), .int (nI nn)] (pr_ NW D ca [] zH (fun _ => True))) (qR D (fun (u : Unit) => True) (fun u a => [(a, rwE ca 1 nn (fun _ => 0))]) (fun u a H => True) (va_A [] zH)) 1 16 (va_A [] zH) := by
  have hk := NW_ok
  refine k_ofW (Qc := qR D (fun (u : Unit) => True) (fun u a => [(a, rwE ca 1 nn (fun _ => 0))]) (fun u a H => True)) (by decide) (Nat.le_of_ble_eq_true rfl) ?_
  intro p e s m below meth c ls A H hH hx hb hr hts hown hlocks hnm hml hsz hP hD hK hN hA hAn hS hro hl
  have hl : lv_has ls 2 [(0, .int (nI 1)), (1, .int (nI nn))] := hl
  refine lv_iload_n hx hb dX0_rowOf_0 rfl (lv_at hl 0 rfl) ?_
  refine lv_if_ne (tgt := 10) hx hb dX0_rowOf_1 (by decide) (fun c_1 => ?_) (fun c_1 => absurd c_1 (by decide))
  refine lv_iload_n hx hb dX0_rowOf_10 rfl (lv_at hl 0 rfl) ?_
  refine lv_iconst (v := 1) hx hb dX0_rowOf_11 (by decide) ?_
  refine lv_icmp_ne (tgt := 21) hx hb dX0_rowOf_12 (by decide) (fun c_2 => absurd (by decide) c_2) (fun c_2 => ?_)
  refine lv_iload_n hx hb dX0_rowOf_15 rfl (lv_at hl 1 rfl) ?_
  refine va_newa (atype := .int) (a0 := (nn, .inl (fun _ => 0))) hx hb (hts _ q139) rfl hK hP hD hS hA (fun _ => rfl) (fun h => absurd (lt_y (a := nn) (b := 0) rfl rfl (by omega) (by decide) h) (Nat.not_lt_zero nn)) (nI_clamp (show nn < 2 ^ 31 by omega)) (by show nn * 4 ≤ 536870912; omega) (Nat.le_of_ble_eq_true rfl) (by show 0 + nn ≤ 16; omega) dX0_rowOf_16 (fun q9 cA H hK9 hP hD hS => ?_)
  have ecA : cA = ca 1 := Option.some.inj (((hK9.2 6 _ rfl).2).symm.trans ((hK.2 1 _ rfl).2))
  subst ecA
  refine W.widen (k := 1) (n := 16) (by omega) (by omega) ?_
  have hP : va_P D vwCl [(q9, rwE ca 1 nn (fun _ => 0))] H := hP
  have hD : va_D A [(q9, rwE ca 1 nn (fun _ => 0))] := hD
  refine lv_goto (tgt := 24) hx hb dX0_rowOf_18 (by decide) ?_
  exact k_aret () hx hb hr (Or.inl ⟨_, rfl⟩) hlocks (trivial) hP hD trivial hS (Nat.le_of_ble_eq_true rfl) (Nat.le_of_ble_eq_true rfl) dX0_rowOf_24
set_option maxHeartbeats 4000000 in
set_option maxRecDepth 100000 in
theorem ct_X0_rowOf_2 (l : Launch) (D : va_G) (ca : Nat → ClassId) (zH : Nat) (nn : Nat) (hnn : nn ≤ 16) : Met l yX0_rowOf (ws_ yX0_rowOf cX0_rowOf 2 (some (.object "java/lang/Object"))) ({ frames := 0, cells := 1, slots := 16, locals := 0 }) (va_Pc [.int (nI 2), .int (nI nn)] (pr_ NW D ca [] zH (fun _ => True))) (qR D (fun (u : Unit) => True) (fun u a => [(a, rwE ca 2 nn (fun _ => 0))]) (fun u a H => True) (va_A [] zH)) 1 16 (va_A [] zH) := by
  have hk := NW_ok
  refine k_ofW (Qc := qR D (fun (u : Unit) => True) (fun u a => [(a, rwE ca 2 nn (fun _ => 0))]) (fun u a H => True)) (by decide) (Nat.le_of_ble_eq_true rfl) ?_
  intro p e s m below meth c ls A H hH hx hb hr hts hown hlocks hnm hml hsz hP hD hK hN hA hAn hS hro hl
  have hl : lv_has ls 2 [(0, .int (nI 2)), (1, .int (nI nn))] := hl
  refine lv_iload_n hx hb dX0_rowOf_0 rfl (lv_at hl 0 rfl) ?_
  refine lv_if_ne (tgt := 10) hx hb dX0_rowOf_1 (by decide) (fun c_1 => ?_) (fun c_1 => absurd c_1 (by decide))
  refine lv_iload_n hx hb dX0_rowOf_10 rfl (lv_at hl 0 rfl) ?_
  refine lv_iconst (v := 1) hx hb dX0_rowOf_11 (by decide) ?_
  refine lv_icmp_ne (tgt := 21) hx hb dX0_rowOf_12 (by decide) (fun c_2 => ?_) (fun c_2 => absurd c_2 (by decide))
  refine lv_iload_n hx hb dX0_rowOf_21 rfl (lv_at hl 1 rfl) ?_
  refine va_newa (atype := .long) (a0 := (nn, .inr (.inl (fun _ => 0)))) hx hb (hts _ q140) rfl hK hP hD hS hA (fun _ => rfl) (fun h => absurd (lt_y (a := nn) (b := 0) rfl rfl (by omega) (by decide) h) (Nat.not_lt_zero nn)) (nI_clamp (show nn < 2 ^ 31 by omega)) (by show nn * 8 ≤ 536870912; omega) (Nat.le_of_ble_eq_true rfl) (by show 0 + nn ≤ 16; omega) dX0_rowOf_22 (fun q9 cA H hK9 hP hD hS => ?_)
  have ecA : cA = ca 2 := Option.some.inj (((hK9.2 6 _ rfl).2).symm.trans ((hK.2 2 _ rfl).2))
  subst ecA
  refine W.widen (k := 1) (n := 16) (by omega) (by omega) ?_
  have hP : va_P D vwCl [(q9, rwE ca 2 nn (fun _ => 0))] H := hP
  have hD : va_D A [(q9, rwE ca 2 nn (fun _ => 0))] := hD
  exact k_aret () hx hb hr (Or.inl ⟨_, rfl⟩) hlocks (trivial) hP hD trivial hS (Nat.le_of_ble_eq_true rfl) (Nat.le_of_ble_eq_true rfl) dX0_rowOf_24
set_option maxHeartbeats 4000000 in
set_option maxRecDepth 100000 in
theorem ct_X0_rowOf_S0 (l : Launch) (hl0 : l.stackTraces = false) (D : va_G) (ca : Nat → ClassId) (zH : Nat) (n0 : Int32) (hneg : n0 < 0) : vx_Met l yX0_rowOf (ws_ yX0_rowOf cX0_rowOf 2 (some (.object "java/lang/Object"))) ({ frames := 12, cells := 3, slots := 54, locals := 10400 }) (va_Pc [.int (nI 0), .int n0] (prX NW D ca [] zH (fun _ => True))) (qR D (fun (u : Unit) => False) (fun u a => []) (fun u a H => True) (va_A [] zH)) (vx_X (S := Unit) (fun _ => True) (fun E _ _ => E = "java/lang/NegativeArraySizeException") (fun q => zH ≤ q)) 3 54 (va_A [] zH) := by
  have hk := NW_ok
  refine k_ofT (Qc := qR D (fun (u : Unit) => False) (fun u a => []) (fun u a H => True)) (by decide) (Nat.le_of_ble_eq_true rfl) ?_
  intro p e s m below meth c ls A H hH hx hb hr hts hown hlocks hnm hml hsz hP hD hK hN hA hAn hS hro hl hX hZ htb
  have hl : lv_has ls 2 [(0, .int (nI 0)), (1, .int n0)] := hl
  refine lv_iload_n hx hb dX0_rowOf_0 rfl (lv_at hl 0 rfl) ?_
  refine lv_if_ne (tgt := 10) hx hb dX0_rowOf_1 (by decide) (fun c_1 => absurd (by decide) c_1) (fun c_1 => ?_)
  refine lv_iload_n hx hb dX0_rowOf_4 rfl (lv_at hl 1 rfl) ?_
  refine vx_newarrayZ (atype := .byte) hx hb hneg dX0_rowOf_5 (fun tx htx => vx_vm (cls := "java/lang/NegativeArraySizeException") (names := nasU) (nb := 44) hx hl0 (by decide +kernel) (by decide +kernel) (by decide +kernel) (by decide +kernel) (nx_of nx_S hts hX) nx_oS hZ.1 hZ.2 hS (by rw [hml]; exact hl.1) (by rw [htx]; exact negative_text_modelled hneg) (by rw [htx]; exact negative_text_bytes _) (by decide) (Nat.le_of_ble_eq_true rfl) (Nat.le_of_ble_eq_true rfl) (by decide) (Nat.le_of_ble_eq_true rfl) (Nat.le_of_ble_eq_true rfl) hlocks (fun H1 q9 ce hz h9 hS hce hcv hcl => ?_))
  have h9 : ∀ q : Nat, q < s.heap.size → H1[q]? = s.heap[q]? := fun q hq => by rw [h9 q (by rw [hH]; exact hq), hH]
  refine vx_out (E := "java/lang/NegativeArraySizeException") (fun x hx9 => (htb x hx9).elim) hlocks hce hcv hcl (fun t ht hal => ⟨(), trivial, rfl, ?_⟩) hS.2.2 (Nat.le_of_ble_eq_true rfl) (Nat.le_of_ble_eq_true rfl)
  refine ⟨by rw [ht]; exact hS.1, fun q hq hnq => ?_⟩
  rw [ht]
  exact h9 q hq
set_option maxHeartbeats 4000000 in
set_option maxRecDepth 100000 in
theorem ct_X0_rowOf_S1 (l : Launch) (hl0 : l.stackTraces = false) (D : va_G) (ca : Nat → ClassId) (zH : Nat) (n0 : Int32) (hneg : n0 < 0) : vx_Met l yX0_rowOf (ws_ yX0_rowOf cX0_rowOf 2 (some (.object "java/lang/Object"))) ({ frames := 12, cells := 3, slots := 54, locals := 10400 }) (va_Pc [.int (nI 1), .int n0] (prX NW D ca [] zH (fun _ => True))) (qR D (fun (u : Unit) => False) (fun u a => []) (fun u a H => True) (va_A [] zH)) (vx_X (S := Unit) (fun _ => True) (fun E _ _ => E = "java/lang/NegativeArraySizeException") (fun q => zH ≤ q)) 3 54 (va_A [] zH) := by
  have hk := NW_ok
  refine k_ofT (Qc := qR D (fun (u : Unit) => False) (fun u a => []) (fun u a H => True)) (by decide) (Nat.le_of_ble_eq_true rfl) ?_
  intro p e s m below meth c ls A H hH hx hb hr hts hown hlocks hnm hml hsz hP hD hK hN hA hAn hS hro hl hX hZ htb
  have hl : lv_has ls 2 [(0, .int (nI 1)), (1, .int n0)] := hl
  refine lv_iload_n hx hb dX0_rowOf_0 rfl (lv_at hl 0 rfl) ?_
  refine lv_if_ne (tgt := 10) hx hb dX0_rowOf_1 (by decide) (fun c_1 => ?_) (fun c_1 => absurd c_1 (by decide))
  refine lv_iload_n hx hb dX0_rowOf_10 rfl (lv_at hl 0 rfl) ?_
  refine lv_iconst (v := 1) hx hb dX0_rowOf_11 (by decide) ?_
  refine lv_icmp_ne (tgt := 21) hx hb dX0_rowOf_12 (by decide) (fun c_2 => absurd (by decide) c_2) (fun c_2 => ?_)
  refine lv_iload_n hx hb dX0_rowOf_15 rfl (lv_at hl 1 rfl) ?_
  refine vx_newarrayZ (atype := .int) hx hb hneg dX0_rowOf_16 (fun tx htx => vx_vm (cls := "java/lang/NegativeArraySizeException") (names := nasU) (nb := 44) hx hl0 (by decide +kernel) (by decide +kernel) (by decide +kernel) (by decide +kernel) (nx_of nx_S hts hX) nx_oS hZ.1 hZ.2 hS (by rw [hml]; exact hl.1) (by rw [htx]; exact negative_text_modelled hneg) (by rw [htx]; exact negative_text_bytes _) (by decide) (Nat.le_of_ble_eq_true rfl) (Nat.le_of_ble_eq_true rfl) (by decide) (Nat.le_of_ble_eq_true rfl) (Nat.le_of_ble_eq_true rfl) hlocks (fun H1 q9 ce hz h9 hS hce hcv hcl => ?_))
  have h9 : ∀ q : Nat, q < s.heap.size → H1[q]? = s.heap[q]? := fun q hq => by rw [h9 q (by rw [hH]; exact hq), hH]
  refine vx_out (E := "java/lang/NegativeArraySizeException") (fun x hx9 => (htb x hx9).elim) hlocks hce hcv hcl (fun t ht hal => ⟨(), trivial, rfl, ?_⟩) hS.2.2 (Nat.le_of_ble_eq_true rfl) (Nat.le_of_ble_eq_true rfl)
  refine ⟨by rw [ht]; exact hS.1, fun q hq hnq => ?_⟩
  rw [ht]
  exact h9 q hq
set_option maxHeartbeats 4000000 in
set_option maxRecDepth 100000 in
theorem ct_X0_rowOf_S2 (l : Launch) (hl0 : l.stackTraces = false) (D : va_G) (ca : Nat → ClassId) (zH : Nat) (n0 : Int32) (hneg : n0 < 0) : vx_Met l yX0_rowOf (ws_ yX0_rowOf cX0_rowOf 2 (some (.object "java/lang/Object"))) ({ frames := 12, cells := 3, slots := 54, locals := 10400 }) (va_Pc [.int (nI 2), .int n0] (prX NW D ca [] zH (fun _ => True))) (qR D (fun (u : Unit) => False) (fun u a => []) (fun u a H => True) (va_A [] zH)) (vx_X (S := Unit) (fun _ => True) (fun E _ _ => E = "java/lang/NegativeArraySizeException") (fun q => zH ≤ q)) 3 54 (va_A [] zH) := by
  have hk := NW_ok
  refine k_ofT (Qc := qR D (fun (u : Unit) => False) (fun u a => []) (fun u a H => True)) (by decide) (Nat.le_of_ble_eq_true rfl) ?_
  intro p e s m below meth c ls A H hH hx hb hr hts hown hlocks hnm hml hsz hP hD hK hN hA hAn hS hro hl hX hZ htb
  have hl : lv_has ls 2 [(0, .int (nI 2)), (1, .int n0)] := hl
  refine lv_iload_n hx hb dX0_rowOf_0 rfl (lv_at hl 0 rfl) ?_
  refine lv_if_ne (tgt := 10) hx hb dX0_rowOf_1 (by decide) (fun c_1 => ?_) (fun c_1 => absurd c_1 (by decide))
  refine lv_iload_n hx hb dX0_rowOf_10 rfl (lv_at hl 0 rfl) ?_
  refine lv_iconst (v := 1) hx hb dX0_rowOf_11 (by decide) ?_
  refine lv_icmp_ne (tgt := 21) hx hb dX0_rowOf_12 (by decide) (fun c_2 => ?_) (fun c_2 => absurd c_2 (by decide))
  refine lv_iload_n hx hb dX0_rowOf_21 rfl (lv_at hl 1 rfl) ?_
  refine vx_newarrayZ (atype := .long) hx hb hneg dX0_rowOf_22 (fun tx htx => vx_vm (cls := "java/lang/NegativeArraySizeException") (names := nasU) (nb := 44) hx hl0 (by decide +kernel) (by decide +kernel) (by decide +kernel) (by decide +kernel) (nx_of nx_S hts hX) nx_oS hZ.1 hZ.2 hS (by rw [hml]; exact hl.1) (by rw [htx]; exact negative_text_modelled hneg) (by rw [htx]; exact negative_text_bytes _) (by decide) (Nat.le_of_ble_eq_true rfl) (Nat.le_of_ble_eq_true rfl) (by decide) (Nat.le_of_ble_eq_true rfl) (Nat.le_of_ble_eq_true rfl) hlocks (fun H1 q9 ce hz h9 hS hce hcv hcl => ?_))
  have h9 : ∀ q : Nat, q < s.heap.size → H1[q]? = s.heap[q]? := fun q hq => by rw [h9 q (by rw [hH]; exact hq), hH]
  refine vx_out (E := "java/lang/NegativeArraySizeException") (fun x hx9 => (htb x hx9).elim) hlocks hce hcv hcl (fun t ht hal => ⟨(), trivial, rfl, ?_⟩) hS.2.2 (Nat.le_of_ble_eq_true rfl) (Nat.le_of_ble_eq_true rfl)
  refine ⟨by rw [ht]; exact hS.1, fun q hq hnq => ?_⟩
  rw [ht]
  exact h9 q hq
