/-! LEAVES: pure words -/
def p_one (a b c d : Int64) : Bool := decide (b &&& 1 = a &&& 1) && decide (c &&& 1 = a &&& 1) && decide (d &&& 1 = a &&& 1)
def q_one (v : Q4) : Bool := p_one v.1 v.2.1 v.2.2.1 v.2.2.2
def q_times (p q : Q4) : Q4 := ((p.1 * q.1 - p.2.1 * q.2.1 - p.2.2.1 * q.2.2.1 - p.2.2.2 * q.2.2.2) / 2, (p.1 * q.2.1 + p.2.1 * q.1 + p.2.2.1 * q.2.2.2 - p.2.2.2 * q.2.2.1) / 2, (p.1 * q.2.2.1 - p.2.1 * q.2.2.2 + p.2.2.1 * q.1 + p.2.2.2 * q.2.1) / 2, (p.1 * q.2.2.2 + p.2.1 * q.2.2.1 - p.2.2.1 * q.2.1 + p.2.2.2 * q.1) / 2)
def q_mirror (v : Q4) : Q4 := (v.1, -v.2.1, -v.2.2.1, -v.2.2.2)
def q_sq (v : Q4) : Int64 := v.1 * v.1 + v.2.1 * v.2.1 + v.2.2.1 * v.2.2.1 + v.2.2.2 * v.2.2.2
def q_norm (v : Q4) : Int64 := q_sq v / 4
def q_null (v : Q4) : Bool := decide (v.1 = 0) && decide (v.2.1 = 0) && decide (v.2.2.1 = 0) && decide (v.2.2.2 = 0)
def q_low (v : Q4) : Bool := p_in v.1 (-20000) 20000 && p_in v.2.1 (-20000) 20000 && p_in v.2.2.1 (-20000) 20000 && p_in v.2.2.2 (-20000) 20000
def q_gt (v w : Q4) : Bool := if v.1 = w.1 then (if v.2.1 = w.2.1 then (if v.2.2.1 = w.2.2.1 then decide (w.2.2.2 < v.2.2.2) else decide (w.2.2.1 < v.2.2.1)) else decide (w.2.1 < v.2.1)) else decide (w.1 < v.1)
def q_same (v w : Q4) : Bool := decide (v.1 = w.1) && decide (v.2.1 = w.2.1) && decide (v.2.2.1 = w.2.2.1) && decide (v.2.2.2 = w.2.2.2)
def q_plus (v w : Q4) (t : Int64) : Q4 := (v.1 + t * w.1, v.2.1 + t * w.2.1, v.2.2.1 + t * w.2.2.1, v.2.2.2 + t * w.2.2.2)
def q_part (v : Q4) (k : Int32) : Int64 := if k = 0 then v.1 else if k = 1 then v.2.1 else if k = 2 then v.2.2.1 else v.2.2.2
def p_fl (a b : Int64) : Int64 := if ¬ a - a / b * b = 0 ∧ ¬ 0 ≤ a then a / b - 1 else a / b
def p_fd (a b : Int64) : Int64 := if ¬ 0 ≤ a ^^^ b ∧ ¬ a / b * b = a then a / b - 1 else a / b
def p_even (v n : Int64) : Int64 := 2 * p_fd (v + n) (2 * n)
def p_odd (v n : Int64) : Int64 := 2 * p_fd v (2 * n) + 1

set_option maxHeartbeats 4000000 in
set_option maxRecDepth 100000 in
theorem ct_X5_in {KN : State → Prop} (hk : KNok KN) (l : Launch) (D : va_G) (ca : Nat → ClassId) (zH : Nat) (v lo hi : Int64)  : Met l yX5_in (ws_ yX5_in cX5_in 6 (some .boolean)) ({ frames := 0, cells := 0, slots := 0, locals := 0 }) (va_Pc [.long v, .long lo, .long hi] (pr_ KN D ca [] zH (fun _ => True))) (qI D (fun (r : Int32) (u : Unit) => r = bI (p_in v lo hi)) (fun u => []) (fun u H => True) (va_A [] zH)) 0 0 (va_A [] zH) := by
  refine k_ofW (Qc := qI D (fun (r : Int32) (u : Unit) => r = bI (p_in v lo hi)) (fun u => []) (fun u H => True)) (by decide) (Nat.le_of_ble_eq_true rfl) ?_
  intro p e s m below meth c ls A H hH hx hb hr hts hown hlocks hnm hml hsz hP hD hK hN hA hAn hS hro hl
  have hl : lv_has ls 6 [(0, .long v), (2, .long lo), (4, .long hi)] := hl
  refine lv_lload_n hx hb dX5_in_0 rfl (lv_at hl 0 rfl) ?_
  refine lv_lload_n hx hb dX5_in_1 rfl (lv_at hl 1 rfl) ?_
  refine k_lc_lt (tgt := 17) hx hb dX5_in_2 dX5_in_3 (by decide) (fun c_1 => ?_) (fun c_1 => ?_)
  · refine lv_iconst (v := 0) hx hb dX5_in_17 (by decide) ?_
    exact k_zret () hx hb hr hlocks (by decide) (by simp [p_in, bI, c_1]) hP hD trivial hS (Nat.le_of_ble_eq_true rfl) (Nat.le_of_ble_eq_true rfl) dX5_in_18
  · refine lv_lload_n hx hb dX5_in_6 rfl (lv_at hl 0 rfl) ?_
    refine lv_lload hx hb dX5_in_7 (lv_at hl 2 rfl) ?_
    refine k_lc_gt (tgt := 17) hx hb dX5_in_9 dX5_in_10 (by decide) (fun c_2 => ?_) (fun c_2 => ?_)
    · refine lv_iconst (v := 0) hx hb dX5_in_17 (by decide) ?_
      exact k_zret () hx hb hr hlocks (by decide) (by simp [p_in, bI, c_1, c_2]) hP hD trivial hS (Nat.le_of_ble_eq_true rfl) (Nat.le_of_ble_eq_true rfl) dX5_in_18
    · refine lv_iconst (v := 1) hx hb dX5_in_13 (by decide) ?_
      refine lv_goto (tgt := 18) hx hb dX5_in_14 (by decide) ?_
      exact k_zret () hx hb hr hlocks (by decide) (by simp [p_in, bI, c_1, c_2]) hP hD trivial hS (Nat.le_of_ble_eq_true rfl) (Nat.le_of_ble_eq_true rfl) dX5_in_18
set_option maxHeartbeats 4000000 in
set_option maxRecDepth 100000 in
theorem ct_X0_isIn {KN : State → Prop} (hk : KNok KN) (l : Launch) (D : va_G) (ca : Nat → ClassId) (zH : Nat) (v lo hi : Int64)  : Met l yX0_isIn (ws_ yX0_isIn cX0_isIn 6 (some .boolean)) ({ frames := 0, cells := 0, slots := 0, locals := 0 }) (va_Pc [.long v, .long lo, .long hi] (pr_ KN D ca [] zH (fun _ => True))) (qI D (fun (r : Int32) (u : Unit) => r = bI (p_in v lo hi)) (fun u => []) (fun u H => True) (va_A [] zH)) 0 0 (va_A [] zH) := by
  refine k_ofW (Qc := qI D (fun (r : Int32) (u : Unit) => r = bI (p_in v lo hi)) (fun u => []) (fun u H => True)) (by decide) (Nat.le_of_ble_eq_true rfl) ?_
  intro p e s m below meth c ls A H hH hx hb hr hts hown hlocks hnm hml hsz hP hD hK hN hA hAn hS hro hl
  have hl : lv_has ls 6 [(0, .long v), (2, .long lo), (4, .long hi)] := hl
  refine lv_lload_n hx hb dX0_isIn_0 rfl (lv_at hl 0 rfl) ?_
  refine lv_lload_n hx hb dX0_isIn_1 rfl (lv_at hl 1 rfl) ?_
  refine k_lc_lt (tgt := 17) hx hb dX0_isIn_2 dX0_isIn_3 (by decide) (fun c_1 => ?_) (fun c_1 => ?_)
  · refine lv_iconst (v := 0) hx hb dX0_isIn_17 (by decide) ?_
    exact k_zret () hx hb hr hlocks (by decide) (by simp [p_in, bI, c_1]) hP hD trivial hS (Nat.le_of_ble_eq_true rfl) (Nat.le_of_ble_eq_true rfl) dX0_isIn_18
  · refine lv_lload_n hx hb dX0_isIn_6 rfl (lv_at hl 0 rfl) ?_
    refine lv_lload hx hb dX0_isIn_7 (lv_at hl 2 rfl) ?_
    refine k_lc_gt (tgt := 17) hx hb dX0_isIn_9 dX0_isIn_10 (by decide) (fun c_2 => ?_) (fun c_2 => ?_)
    · refine lv_iconst (v := 0) hx hb dX0_isIn_17 (by decide) ?_
      exact k_zret () hx hb hr hlocks (by decide) (by simp [p_in, bI, c_1, c_2]) hP hD trivial hS (Nat.le_of_ble_eq_true rfl) (Nat.le_of_ble_eq_true rfl) dX0_isIn_18
    · refine lv_iconst (v := 1) hx hb dX0_isIn_13 (by decide) ?_
      refine lv_goto (tgt := 18) hx hb dX0_isIn_14 (by decide) ?_
      exact k_zret () hx hb hr hlocks (by decide) (by simp [p_in, bI, c_1, c_2]) hP hD trivial hS (Nat.le_of_ble_eq_true rfl) (Nat.le_of_ble_eq_true rfl) dX0_isIn_18
set_option maxHeartbeats 4000000 in
set_option maxRecDepth 100000 in
theorem ct_X5_isSheet {KN : State → Prop} (hk : KNok KN) (l : Launch) (D : va_G) (ca : Nat → ClassId) (zH : Nat) (n : Int32)  : Met l yX5_isSheet (ws_ yX5_isSheet cX5_isSheet 1 (some .boolean)) ({ frames := 1, cells := 0, slots := 0, locals := 25 }) (va_Pc [.int n] (pr_ KN D ca [] zH (fun _ => True))) (qI D (fun (r : Int32) (u : Unit) => r = bI (p_in n.toInt64 0 5)) (fun u => []) (fun u H => True) (va_A [] zH)) 0 0 (va_A [] zH) := by
  refine k_ofW (Qc := qI D (fun (r : Int32) (u : Unit) => r = bI (p_in n.toInt64 0 5)) (fun u => []) (fun u H => True)) (by decide) (Nat.le_of_ble_eq_true rfl) ?_
  intro p e s m below meth c ls A H hH hx hb hr hts hown hlocks hnm hml hsz hP hD hK hN hA hAn hS hro hl
  have hl : lv_has ls 1 [(0, .int n)] := hl
  refine lv_iload_n hx hb dX5_isSheet_0 rfl (lv_at hl 0 rfl) ?_
  refine lv_i2l (v := n.toInt64) hx hb dX5_isSheet_1 rfl ?_
  refine lv_lconst (v := 0) hx hb dX5_isSheet_2 (by decide) ?_
  refine lv_ldc2 hx hb hown (hts _ q634) dX5_isSheet_3 ?_
  refine k_calli (wr := []) (va_runS (As := [.long n.toInt64, .long 0, .long 5]) (rest := []) ⟨hx, hb, hml, hown, hts⟩ (ct_X5_in hk l D ca H.size n.toInt64 0 5) (va_cwS 3 hts (lw_S q635 q636 q24 q637) rfl rfl rfl (by decide +kernel) ⟨Nat.le_of_ble_eq_true rfl, Nat.le_of_ble_eq_true rfl⟩) (k_pre hk hK hN hP hD [] (by decide) rfl trivial) rfl rfl hl.1 rfl (lv_room (Nat.le_of_ble_eq_true rfl)) dX5_isSheet_6 ⟨Nat.le_of_ble_eq_true rfl, Nat.le_of_ble_eq_true rfl⟩) hP hD hS hA [] [] rfl rfl (by decide) (by decide) (fun r_1 u_2 H locs w_3 hP hD hxw_3 hzw_3 hqw_3 hS => ?_)
  obtain rfl : r_1 = bI (p_in n.toInt64 0 5) := w_3
  exact k_zret () hx hb hr hlocks (bI_nar _) (rfl) hP hD trivial hS (Nat.le_of_ble_eq_true rfl) (Nat.le_of_ble_eq_true rfl) dX5_isSheet_9
set_option maxHeartbeats 4000000 in
set_option maxRecDepth 100000 in
theorem ct_X5_isRegister {KN : State → Prop} (hk : KNok KN) (l : Launch) (D : va_G) (ca : Nat → ClassId) (zH : Nat) (n : Int32)  : Met l yX5_isRegister (ws_ yX5_isRegister cX5_isRegister 1 (some .boolean)) ({ frames := 1, cells := 0, slots := 0, locals := 25 }) (va_Pc [.int n] (pr_ KN D ca [] zH (fun _ => True))) (qI D (fun (r : Int32) (u : Unit) => r = bI (p_in n.toInt64 0 15)) (fun u => []) (fun u H => True) (va_A [] zH)) 0 0 (va_A [] zH) := by
  refine k_ofW (Qc := qI D (fun (r : Int32) (u : Unit) => r = bI (p_in n.toInt64 0 15)) (fun u => []) (fun u H => True)) (by decide) (Nat.le_of_ble_eq_true rfl) ?_
  intro p e s m below meth c ls A H hH hx hb hr hts hown hlocks hnm hml hsz hP hD hK hN hA hAn hS hro hl
  have hl : lv_has ls 1 [(0, .int n)] := hl
  refine lv_iload_n hx hb dX5_isRegister_0 rfl (lv_at hl 0 rfl) ?_
  refine lv_i2l (v := n.toInt64) hx hb dX5_isRegister_1 rfl ?_
  refine lv_lconst (v := 0) hx hb dX5_isRegister_2 (by decide) ?_
  refine lv_ldc2 hx hb hown (hts _ q663) dX5_isRegister_3 ?_
  refine k_calli (wr := []) (va_runS (As := [.long n.toInt64, .long 0, .long 15]) (rest := []) ⟨hx, hb, hml, hown, hts⟩ (ct_X5_in hk l D ca H.size n.toInt64 0 15) (va_cwS 3 hts (lw_S q635 q636 q24 q637) rfl rfl rfl (by decide +kernel) ⟨Nat.le_of_ble_eq_true rfl, Nat.le_of_ble_eq_true rfl⟩) (k_pre hk hK hN hP hD [] (by decide) rfl trivial) rfl rfl hl.1 rfl (lv_room (Nat.le_of_ble_eq_true rfl)) dX5_isRegister_6 ⟨Nat.le_of_ble_eq_true rfl, Nat.le_of_ble_eq_true rfl⟩) hP hD hS hA [] [] rfl rfl (by decide) (by decide) (fun r_1 u_2 H locs w_3 hP hD hxw_3 hzw_3 hqw_3 hS => ?_)
  obtain rfl : r_1 = bI (p_in n.toInt64 0 15) := w_3
  exact k_zret () hx hb hr hlocks (bI_nar _) (rfl) hP hD trivial hS (Nat.le_of_ble_eq_true rfl) (Nat.le_of_ble_eq_true rfl) dX5_isRegister_9
set_option maxHeartbeats 4000000 in
set_option maxRecDepth 100000 in
theorem ct_X0_isSheet {KN : State → Prop} (hk : KNok KN) (l : Launch) (D : va_G) (ca : Nat → ClassId) (zH : Nat) (n : Int32)  : Met l yX0_isSheet (ws_ yX0_isSheet cX0_isSheet 1 (some .boolean)) ({ frames := 1, cells := 0, slots := 0, locals := 25 }) (va_Pc [.int n] (pr_ KN D ca [] zH (fun _ => True))) (qI D (fun (r : Int32) (u : Unit) => r = bI (p_in n.toInt64 0 5)) (fun u => []) (fun u H => True) (va_A [] zH)) 0 0 (va_A [] zH) := by
  refine k_ofW (Qc := qI D (fun (r : Int32) (u : Unit) => r = bI (p_in n.toInt64 0 5)) (fun u => []) (fun u H => True)) (by decide) (Nat.le_of_ble_eq_true rfl) ?_
  intro p e s m below meth c ls A H hH hx hb hr hts hown hlocks hnm hml hsz hP hD hK hN hA hAn hS hro hl
  have hl : lv_has ls 1 [(0, .int n)] := hl
  refine lv_iload_n hx hb dX0_isSheet_0 rfl (lv_at hl 0 rfl) ?_
  refine lv_i2l (v := n.toInt64) hx hb dX0_isSheet_1 rfl ?_
  refine lv_lconst (v := 0) hx hb dX0_isSheet_2 (by decide) ?_
  refine lv_ldc2 hx hb hown (hts _ q130) dX0_isSheet_3 ?_
  refine k_calli (wr := []) (va_runS (As := [.long n.toInt64, .long 0, .long 5]) (rest := []) ⟨hx, hb, hml, hown, hts⟩ (ct_X0_isIn hk l D ca H.size n.toInt64 0 5) (va_cwS 3 hts (lw_S q131 q132 q19 q133) rfl rfl rfl (by decide +kernel) ⟨Nat.le_of_ble_eq_true rfl, Nat.le_of_ble_eq_true rfl⟩) (k_pre hk hK hN hP hD [] (by decide) rfl trivial) rfl rfl hl.1 rfl (lv_room (Nat.le_of_ble_eq_true rfl)) dX0_isSheet_6 ⟨Nat.le_of_ble_eq_true rfl, Nat.le_of_ble_eq_true rfl⟩) hP hD hS hA [] [] rfl rfl (by decide) (by decide) (fun r_1 u_2 H locs w_3 hP hD hxw_3 hzw_3 hqw_3 hS => ?_)
  obtain rfl : r_1 = bI (p_in n.toInt64 0 5) := w_3
  exact k_zret () hx hb hr hlocks (bI_nar _) (rfl) hP hD trivial hS (Nat.le_of_ble_eq_true rfl) (Nat.le_of_ble_eq_true rfl) dX0_isSheet_9
set_option maxHeartbeats 4000000 in
set_option maxRecDepth 100000 in
theorem ct_X0_isRegister {KN : State → Prop} (hk : KNok KN) (l : Launch) (D : va_G) (ca : Nat → ClassId) (zH : Nat) (n : Int32)  : Met l yX0_isRegister (ws_ yX0_isRegister cX0_isRegister 1 (some .boolean)) ({ frames := 1, cells := 0, slots := 0, locals := 25 }) (va_Pc [.int n] (pr_ KN D ca [] zH (fun _ => True))) (qI D (fun (r : Int32) (u : Unit) => r = bI (p_in n.toInt64 0 15)) (fun u => []) (fun u H => True) (va_A [] zH)) 0 0 (va_A [] zH) := by
  refine k_ofW (Qc := qI D (fun (r : Int32) (u : Unit) => r = bI (p_in n.toInt64 0 15)) (fun u => []) (fun u H => True)) (by decide) (Nat.le_of_ble_eq_true rfl) ?_
  intro p e s m below meth c ls A H hH hx hb hr hts hown hlocks hnm hml hsz hP hD hK hN hA hAn hS hro hl
  have hl : lv_has ls 1 [(0, .int n)] := hl
  refine lv_iload_n hx hb dX0_isRegister_0 rfl (lv_at hl 0 rfl) ?_
  refine lv_i2l (v := n.toInt64) hx hb dX0_isRegister_1 rfl ?_
  refine lv_lconst (v := 0) hx hb dX0_isRegister_2 (by decide) ?_
  refine lv_ldc2 hx hb hown (hts _ q316) dX0_isRegister_3 ?_
  refine k_calli (wr := []) (va_runS (As := [.long n.toInt64, .long 0, .long 15]) (rest := []) ⟨hx, hb, hml, hown, hts⟩ (ct_X0_isIn hk l D ca H.size n.toInt64 0 15) (va_cwS 3 hts (lw_S q131 q132 q19 q133) rfl rfl rfl (by decide +kernel) ⟨Nat.le_of_ble_eq_true rfl, Nat.le_of_ble_eq_true rfl⟩) (k_pre hk hK hN hP hD [] (by decide) rfl trivial) rfl rfl hl.1 rfl (lv_room (Nat.le_of_ble_eq_true rfl)) dX0_isRegister_6 ⟨Nat.le_of_ble_eq_true rfl, Nat.le_of_ble_eq_true rfl⟩) hP hD hS hA [] [] rfl rfl (by decide) (by decide) (fun r_1 u_2 H locs w_3 hP hD hxw_3 hzw_3 hqw_3 hS => ?_)
  obtain rfl : r_1 = bI (p_in n.toInt64 0 15) := w_3
  exact k_zret () hx hb hr hlocks (bI_nar _) (rfl) hP hD trivial hS (Nat.le_of_ble_eq_true rfl) (Nat.le_of_ble_eq_true rfl) dX0_isRegister_9
set_option maxHeartbeats 4000000 in
set_option maxRecDepth 100000 in
theorem ct_X0_isSide {KN : State → Prop} (hk : KNok KN) (l : Launch) (D : va_G) (ca : Nat → ClassId) (zH : Nat) (n : Int32)  : Met l yX0_isSide (ws_ yX0_isSide cX0_isSide 1 (some .boolean)) ({ frames := 1, cells := 0, slots := 0, locals := 25 }) (va_Pc [.int n] (pr_ KN D ca [] zH (fun _ => True))) (qI D (fun (r : Int32) (u : Unit) => r = bI (p_in n.toInt64 0 1)) (fun u => []) (fun u H => True) (va_A [] zH)) 0 0 (va_A [] zH) := by
  refine k_ofW (Qc := qI D (fun (r : Int32) (u : Unit) => r = bI (p_in n.toInt64 0 1)) (fun u => []) (fun u H => True)) (by decide) (Nat.le_of_ble_eq_true rfl) ?_
  intro p e s m below meth c ls A H hH hx hb hr hts hown hlocks hnm hml hsz hP hD hK hN hA hAn hS hro hl
  have hl : lv_has ls 1 [(0, .int n)] := hl
  refine lv_iload_n hx hb dX0_isSide_0 rfl (lv_at hl 0 rfl) ?_
  refine lv_i2l (v := n.toInt64) hx hb dX0_isSide_1 rfl ?_
  refine lv_lconst (v := 0) hx hb dX0_isSide_2 (by decide) ?_
  refine lv_lconst (v := 1) hx hb dX0_isSide_3 (by decide) ?_
  refine k_calli (wr := []) (va_runS (As := [.long n.toInt64, .long 0, .long 1]) (rest := []) ⟨hx, hb, hml, hown, hts⟩ (ct_X0_isIn hk l D ca H.size n.toInt64 0 1) (va_cwS 3 hts (lw_S q131 q132 q19 q133) rfl rfl rfl (by decide +kernel) ⟨Nat.le_of_ble_eq_true rfl, Nat.le_of_ble_eq_true rfl⟩) (k_pre hk hK hN hP hD [] (by decide) rfl trivial) rfl rfl hl.1 rfl (lv_room (Nat.le_of_ble_eq_true rfl)) dX0_isSide_4 ⟨Nat.le_of_ble_eq_true rfl, Nat.le_of_ble_eq_true rfl⟩) hP hD hS hA [] [] rfl rfl (by decide) (by decide) (fun r_1 u_2 H locs w_3 hP hD hxw_3 hzw_3 hqw_3 hS => ?_)
  obtain rfl : r_1 = bI (p_in n.toInt64 0 1) := w_3
  exact k_zret () hx hb hr hlocks (bI_nar _) (rfl) hP hD trivial hS (Nat.le_of_ble_eq_true rfl) (Nat.le_of_ble_eq_true rfl) dX0_isSide_7
set_option maxHeartbeats 4000000 in
set_option maxRecDepth 100000 in
theorem ct_X5_isPart {KN : State → Prop} (hk : KNok KN) (l : Launch) (D : va_G) (ca : Nat → ClassId) (zH : Nat) (v : Int64)  : Met l yX5_isPart (ws_ yX5_isPart cX5_isPart 2 (some .boolean)) ({ frames := 1, cells := 0, slots := 0, locals := 25 }) (va_Pc [.long v] (pr_ KN D ca [] zH (fun _ => True))) (qI D (fun (r : Int32) (u : Unit) => r = bI (p_in v (-20000) 20000)) (fun u => []) (fun u H => True) (va_A [] zH)) 0 0 (va_A [] zH) := by
  refine k_ofW (Qc := qI D (fun (r : Int32) (u : Unit) => r = bI (p_in v (-20000) 20000)) (fun u => []) (fun u H => True)) (by decide) (Nat.le_of_ble_eq_true rfl) ?_
  intro p e s m below meth c ls A H hH hx hb hr hts hown hlocks hnm hml hsz hP hD hK hN hA hAn hS hro hl
  have hl : lv_has ls 2 [(0, .long v)] := hl
  refine lv_lload_n hx hb dX5_isPart_0 rfl (lv_at hl 0 rfl) ?_
  refine lv_ldc2 hx hb hown (hts _ q667) dX5_isPart_1 ?_
  refine lv_ldc2 hx hb hown (hts _ q668) dX5_isPart_4 ?_
  refine k_calli (wr := []) (va_runS (As := [.long v, .long (-20000), .long 20000]) (rest := []) ⟨hx, hb, hml, hown, hts⟩ (ct_X5_in hk l D ca H.size v (-20000) 20000) (va_cwS 3 hts (lw_S q635 q636 q24 q637) rfl rfl rfl (by decide +kernel) ⟨Nat.le_of_ble_eq_true rfl, Nat.le_of_ble_eq_true rfl⟩) (k_pre hk hK hN hP hD [] (by decide) rfl trivial) rfl rfl hl.1 rfl (lv_room (Nat.le_of_ble_eq_true rfl)) dX5_isPart_7 ⟨Nat.le_of_ble_eq_true rfl, Nat.le_of_ble_eq_true rfl⟩) hP hD hS hA [] [] rfl rfl (by decide) (by decide) (fun r_1 u_2 H locs w_3 hP hD hxw_3 hzw_3 hqw_3 hS => ?_)
  obtain rfl : r_1 = bI (p_in v (-20000) 20000) := w_3
  exact k_zret () hx hb hr hlocks (bI_nar _) (rfl) hP hD trivial hS (Nat.le_of_ble_eq_true rfl) (Nat.le_of_ble_eq_true rfl) dX5_isPart_10
set_option maxHeartbeats 4000000 in
set_option maxRecDepth 100000 in
theorem ct_X5_isOne {KN : State → Prop} (hk : KNok KN) (l : Launch) (D : va_G) (ca : Nat → ClassId) (zH : Nat) (a0 b0 c0 d0 : Int64)  : Met l yX5_isOne (ws_ yX5_isOne cX5_isOne 10 (some .boolean)) ({ frames := 0, cells := 0, slots := 0, locals := 0 }) (va_Pc [.long a0, .long b0, .long c0, .long d0] (pr_ KN D ca [] zH (fun _ => True))) (qI D (fun (r : Int32) (u : Unit) => r = bI (p_one a0 b0 c0 d0)) (fun u => []) (fun u H => True) (va_A [] zH)) 0 0 (va_A [] zH) := by
  refine k_ofW (Qc := qI D (fun (r : Int32) (u : Unit) => r = bI (p_one a0 b0 c0 d0)) (fun u => []) (fun u H => True)) (by decide) (Nat.le_of_ble_eq_true rfl) ?_
  intro p e s m below meth c ls A H hH hx hb hr hts hown hlocks hnm hml hsz hP hD hK hN hA hAn hS hro hl
  have hl : lv_has ls 10 [(0, .long a0), (2, .long b0), (4, .long c0), (6, .long d0)] := hl
  refine lv_lload_n hx hb dX5_isOne_0 rfl (lv_at hl 0 rfl) ?_
  refine lv_lconst (v := 1) hx hb dX5_isOne_1 (by decide) ?_
  refine lv_land hx hb dX5_isOne_2 ?_
  refine lv_lstore (lv' := [(8, .long (a0 &&& 1)), (0, .long a0), (2, .long b0), (4, .long c0), (6, .long d0)]) hx hb dX5_isOne_3 hl (by decide) rfl (fun ls hl => ?_)
  refine lv_lload_n hx hb dX5_isOne_5 rfl (lv_at hl 2 rfl) ?_
  refine lv_lconst (v := 1) hx hb dX5_isOne_6 (by decide) ?_
  refine lv_land hx hb dX5_isOne_7 ?_
  refine lv_lload hx hb dX5_isOne_8 (lv_at hl 0 rfl) ?_
  refine k_lc_ne (tgt := 38) hx hb dX5_isOne_10 dX5_isOne_11 (by decide) (fun c_1 => ?_) (fun c_1 => ?_)
  · refine lv_iconst (v := 0) hx hb dX5_isOne_38 (by decide) ?_
    exact k_zret () hx hb hr hlocks (by decide) (by simp [p_one, bI, c_1]) hP hD trivial hS (Nat.le_of_ble_eq_true rfl) (Nat.le_of_ble_eq_true rfl) dX5_isOne_39
  · refine lv_lload hx hb dX5_isOne_14 (lv_at hl 3 rfl) ?_
    refine lv_lconst (v := 1) hx hb dX5_isOne_16 (by decide) ?_
    refine lv_land hx hb dX5_isOne_17 ?_
    refine lv_lload hx hb dX5_isOne_18 (lv_at hl 0 rfl) ?_
    refine k_lc_ne (tgt := 38) hx hb dX5_isOne_20 dX5_isOne_21 (by decide) (fun c_2 => ?_) (fun c_2 => ?_)
    · refine lv_iconst (v := 0) hx hb dX5_isOne_38 (by decide) ?_
      exact k_zret () hx hb hr hlocks (by decide) (by simp [p_one, bI, c_1, c_2]) hP hD trivial hS (Nat.le_of_ble_eq_true rfl) (Nat.le_of_ble_eq_true rfl) dX5_isOne_39
    · refine lv_lload hx hb dX5_isOne_24 (lv_at hl 4 rfl) ?_
      refine lv_lconst (v := 1) hx hb dX5_isOne_26 (by decide) ?_
      refine lv_land hx hb dX5_isOne_27 ?_
      refine lv_lload hx hb dX5_isOne_28 (lv_at hl 0 rfl) ?_
      refine k_lc_ne (tgt := 38) hx hb dX5_isOne_30 dX5_isOne_31 (by decide) (fun c_3 => ?_) (fun c_3 => ?_)
      · refine lv_iconst (v := 0) hx hb dX5_isOne_38 (by decide) ?_
        exact k_zret () hx hb hr hlocks (by decide) (by simp [p_one, bI, c_1, c_2, c_3]) hP hD trivial hS (Nat.le_of_ble_eq_true rfl) (Nat.le_of_ble_eq_true rfl) dX5_isOne_39
      · refine lv_iconst (v := 1) hx hb dX5_isOne_34 (by decide) ?_
        refine lv_goto (tgt := 39) hx hb dX5_isOne_35 (by decide) ?_
        exact k_zret () hx hb hr hlocks (by decide) (by simp [p_one, bI, c_1, c_2, c_3]) hP hD trivial hS (Nat.le_of_ble_eq_true rfl) (Nat.le_of_ble_eq_true rfl) dX5_isOne_39
set_option maxHeartbeats 4000000 in
set_option maxRecDepth 100000 in
theorem ct_X5_copy4 {KN : State → Prop} (hk : KNok KN) (l : Launch) (D : va_G) (ca : Nat → ClassId) (zH : Nat) (h0 h1 : Nat) (v w : Q4)  : Met l yX5_copy4 (ws_ yX5_copy4 cX5_copy4 3 none) ({ frames := 0, cells := 0, slots := 0, locals := 0 }) (va_Pc [.ref h0, .ref h1] (pr_ KN D ca [(h0, a4 ca v), (h1, a4 ca w)] zH (fun _ => True))) (qV D (fun (u : Unit) => True) (fun u => [(h0, a4 ca w), (h1, a4 ca w)]) (fun u H => True) (va_A [(h0, a4 ca v), (h1, a4 ca w)] zH)) 0 0 (va_A [(h0, a4 ca v), (h1, a4 ca w)] zH) := by
  refine k_ofW (Qc := qV D (fun (u : Unit) => True) (fun u => [(h0, a4 ca w), (h1, a4 ca w)]) (fun u H => True)) (by decide) (Nat.le_of_ble_eq_true rfl) ?_
  intro p e s m below meth c ls A H hH hx hb hr hts hown hlocks hnm hml hsz hP hD hK hN hA hAn hS hro hl
  have hl : lv_has ls 3 [(0, .ref h0), (1, .ref h1)] := hl
  refine lv_iconst (v := 0) hx hb dX5_copy4_0 (by decide) ?_
  refine lv_istore_n (lv' := [(2, .int 0), (0, .ref h0), (1, .ref h1)]) hx hb dX5_copy4_1 rfl hl (by decide) rfl (fun ls hl => ?_)
  refine lv_iload_n hx hb dX5_copy4_2 rfl (lv_at hl 0 rfl) ?_
  refine lv_iconst (v := 4) hx hb dX5_copy4_3 (by decide) ?_
  refine lv_icmp_ge (tgt := 19) hx hb dX5_copy4_4 (by decide) (fun c_1 => absurd c_1 (by decide)) (fun c_1 => ?_)
  refine lv_aload_n hx hb dX5_copy4_7 rfl (lv_at hl 1 rfl) ?_
  refine lv_iload_n hx hb dX5_copy4_8 rfl (lv_at hl 0 rfl) ?_
  refine lv_aload_n hx hb dX5_copy4_9 rfl (lv_at hl 2 rfl) ?_
  refine lv_iload_n hx hb dX5_copy4_10 rfl (lv_at hl 0 rfl) ?_
  refine va_lald hx hb hK hP 1 2 rfl rfl (vin (by decide)) dX5_copy4_11 ?_
  refine lv_topl (fun z_2 ez_2 => ?_)
  obtain rfl : z_2 = w.1 := ez_2.trans rfl
  refine va_last hx hb hK hP hD hS 0 2 rfl rfl (vin (by decide)) dX5_copy4_12 (fun H locs hP hD hS => ?_)
  rw [L4_s0] at hP hD
  have hP : va_P D vwCl [(h0, a4 ca (w.1, v.2.1, v.2.2.1, v.2.2.2)), (h1, a4 ca w)] H := hP
  have hD : va_D A [(h0, a4 ca (w.1, v.2.1, v.2.2.1, v.2.2.2)), (h1, a4 ca w)] := hD
  refine lv_iinc (v := 1) (lv' := [(2, .int 1), (0, .ref h0), (1, .ref h1)]) hx hb dX5_copy4_13 hl (k := 0) rfl (by decide) (by decide) rfl (fun ls hl => ?_)
  refine lv_goto (tgt := 2) hx hb dX5_copy4_16 (by decide) ?_
  refine lv_iload_n hx hb dX5_copy4_2 rfl (lv_at hl 0 rfl) ?_
  refine lv_iconst (v := 4) hx hb dX5_copy4_3 (by decide) ?_
  refine lv_icmp_ge (tgt := 19) hx hb dX5_copy4_4 (by decide) (fun c_3 => absurd c_3 (by decide)) (fun c_3 => ?_)
  refine lv_aload_n hx hb dX5_copy4_7 rfl (lv_at hl 1 rfl) ?_
  refine lv_iload_n hx hb dX5_copy4_8 rfl (lv_at hl 0 rfl) ?_
  refine lv_aload_n hx hb dX5_copy4_9 rfl (lv_at hl 2 rfl) ?_
  refine lv_iload_n hx hb dX5_copy4_10 rfl (lv_at hl 0 rfl) ?_
  refine va_lald hx hb hK hP 1 2 rfl rfl (vin (by decide)) dX5_copy4_11 ?_
  refine lv_topl (fun z_4 ez_4 => ?_)
  obtain rfl : z_4 = w.2.1 := ez_4.trans rfl
  refine va_last hx hb hK hP hD hS 0 2 rfl rfl (vin (by decide)) dX5_copy4_12 (fun H locs hP hD hS => ?_)
  rw [L4_s1] at hP hD
  have hP : va_P D vwCl [(h0, a4 ca (w.1, w.2.1, v.2.2.1, v.2.2.2)), (h1, a4 ca w)] H := hP
  have hD : va_D A [(h0, a4 ca (w.1, w.2.1, v.2.2.1, v.2.2.2)), (h1, a4 ca w)] := hD
  refine lv_iinc (v := 2) (lv' := [(2, .int 2), (0, .ref h0), (1, .ref h1)]) hx hb dX5_copy4_13 hl (k := 0) rfl (by decide) (by decide) rfl (fun ls hl => ?_)
  refine lv_goto (tgt := 2) hx hb dX5_copy4_16 (by decide) ?_
  refine lv_iload_n hx hb dX5_copy4_2 rfl (lv_at hl 0 rfl) ?_
  refine lv_iconst (v := 4) hx hb dX5_copy4_3 (by decide) ?_
  refine lv_icmp_ge (tgt := 19) hx hb dX5_copy4_4 (by decide) (fun c_5 => absurd c_5 (by decide)) (fun c_5 => ?_)
  refine lv_aload_n hx hb dX5_copy4_7 rfl (lv_at hl 1 rfl) ?_
  refine lv_iload_n hx hb dX5_copy4_8 rfl (lv_at hl 0 rfl) ?_
  refine lv_aload_n hx hb dX5_copy4_9 rfl (lv_at hl 2 rfl) ?_
  refine lv_iload_n hx hb dX5_copy4_10 rfl (lv_at hl 0 rfl) ?_
  refine va_lald hx hb hK hP 1 2 rfl rfl (vin (by decide)) dX5_copy4_11 ?_
  refine lv_topl (fun z_6 ez_6 => ?_)
  obtain rfl : z_6 = w.2.2.1 := ez_6.trans rfl
  refine va_last hx hb hK hP hD hS 0 2 rfl rfl (vin (by decide)) dX5_copy4_12 (fun H locs hP hD hS => ?_)
  rw [L4_s2] at hP hD
  have hP : va_P D vwCl [(h0, a4 ca (w.1, w.2.1, w.2.2.1, v.2.2.2)), (h1, a4 ca w)] H := hP
  have hD : va_D A [(h0, a4 ca (w.1, w.2.1, w.2.2.1, v.2.2.2)), (h1, a4 ca w)] := hD
  refine lv_iinc (v := 3) (lv' := [(2, .int 3), (0, .ref h0), (1, .ref h1)]) hx hb dX5_copy4_13 hl (k := 0) rfl (by decide) (by decide) rfl (fun ls hl => ?_)
  refine lv_goto (tgt := 2) hx hb dX5_copy4_16 (by decide) ?_
  refine lv_iload_n hx hb dX5_copy4_2 rfl (lv_at hl 0 rfl) ?_
  refine lv_iconst (v := 4) hx hb dX5_copy4_3 (by decide) ?_
  refine lv_icmp_ge (tgt := 19) hx hb dX5_copy4_4 (by decide) (fun c_7 => absurd c_7 (by decide)) (fun c_7 => ?_)
  refine lv_aload_n hx hb dX5_copy4_7 rfl (lv_at hl 1 rfl) ?_
  refine lv_iload_n hx hb dX5_copy4_8 rfl (lv_at hl 0 rfl) ?_
  refine lv_aload_n hx hb dX5_copy4_9 rfl (lv_at hl 2 rfl) ?_
  refine lv_iload_n hx hb dX5_copy4_10 rfl (lv_at hl 0 rfl) ?_
  refine va_lald hx hb hK hP 1 2 rfl rfl (vin (by decide)) dX5_copy4_11 ?_
  refine lv_topl (fun z_8 ez_8 => ?_)
  obtain rfl : z_8 = w.2.2.2 := ez_8.trans rfl
  refine va_last hx hb hK hP hD hS 0 2 rfl rfl (vin (by decide)) dX5_copy4_12 (fun H locs hP hD hS => ?_)
  rw [L4_s3] at hP hD
  have hP : va_P D vwCl [(h0, a4 ca (w.1, w.2.1, w.2.2.1, w.2.2.2)), (h1, a4 ca w)] H := hP
  have hD : va_D A [(h0, a4 ca (w.1, w.2.1, w.2.2.1, w.2.2.2)), (h1, a4 ca w)] := hD
  refine lv_iinc (v := 4) (lv' := [(2, .int 4), (0, .ref h0), (1, .ref h1)]) hx hb dX5_copy4_13 hl (k := 0) rfl (by decide) (by decide) rfl (fun ls hl => ?_)
  refine lv_goto (tgt := 2) hx hb dX5_copy4_16 (by decide) ?_
  refine lv_iload_n hx hb dX5_copy4_2 rfl (lv_at hl 0 rfl) ?_
  refine lv_iconst (v := 4) hx hb dX5_copy4_3 (by decide) ?_
  refine lv_icmp_ge (tgt := 19) hx hb dX5_copy4_4 (by decide) (fun c_9 => ?_) (fun c_9 => absurd (by decide) c_9)
  exact k_vret () hx hb hr hlocks (trivial) hP hD trivial hS (Nat.le_of_ble_eq_true rfl) (Nat.le_of_ble_eq_true rfl) dX5_copy4_19
set_option maxHeartbeats 4000000 in
set_option maxRecDepth 100000 in
theorem ct_X5_times {KN : State → Prop} (hk : KNok KN) (l : Launch) (D : va_G) (ca : Nat → ClassId) (zH : Nat) (h0 h1 h2 : Nat) (z v w : Q4)  : Met l yX5_times (ws_ yX5_times cX5_times 3 none) ({ frames := 0, cells := 0, slots := 0, locals := 0 }) (va_Pc [.ref h0, .ref h1, .ref h2] (pr_ KN D ca [(h0, a4 ca z), (h1, a4 ca v), (h2, a4 ca w)] zH (fun _ => True))) (qV D (fun (u : Unit) => True) (fun u => [(h0, a4 ca (q_times v w)), (h1, a4 ca v), (h2, a4 ca w)]) (fun u H => True) (va_A [(h0, a4 ca z), (h1, a4 ca v), (h2, a4 ca w)] zH)) 0 0 (va_A [(h0, a4 ca z), (h1, a4 ca v), (h2, a4 ca w)] zH) := by
  refine k_ofW (Qc := qV D (fun (u : Unit) => True) (fun u => [(h0, a4 ca (q_times v w)), (h1, a4 ca v), (h2, a4 ca w)]) (fun u H => True)) (by decide) (Nat.le_of_ble_eq_true rfl) ?_
  intro p e s m below meth c ls A H hH hx hb hr hts hown hlocks hnm hml hsz hP hD hK hN hA hAn hS hro hl
  have hl : lv_has ls 3 [(0, .ref h0), (1, .ref h1), (2, .ref h2)] := hl
  refine lv_aload_n hx hb dX5_times_0 rfl (lv_at hl 0 rfl) ?_
  refine lv_iconst (v := 0) hx hb dX5_times_1 (by decide) ?_
  refine lv_aload_n hx hb dX5_times_2 rfl (lv_at hl 1 rfl) ?_
  refine lv_iconst (v := 0) hx hb dX5_times_3 (by decide) ?_
  refine va_lald hx hb hK hP 1 2 rfl rfl (vin (by decide)) dX5_times_4 ?_
  refine lv_topl (fun z_1 ez_1 => ?_)
  obtain rfl : z_1 = v.1 := ez_1.trans rfl
  refine lv_aload_n hx hb dX5_times_5 rfl (lv_at hl 2 rfl) ?_
  refine lv_iconst (v := 0) hx hb dX5_times_6 (by decide) ?_
  refine va_lald hx hb hK hP 2 2 rfl rfl (vin (by decide)) dX5_times_7 ?_
  refine lv_topl (fun z_2 ez_2 => ?_)
  obtain rfl : z_2 = w.1 := ez_2.trans rfl
  refine lv_lmul hx hb dX5_times_8 ?_
  refine lv_aload_n hx hb dX5_times_9 rfl (lv_at hl 1 rfl) ?_
  refine lv_iconst (v := 1) hx hb dX5_times_10 (by decide) ?_
  refine va_lald hx hb hK hP 1 2 rfl rfl (vin (by decide)) dX5_times_11 ?_
  refine lv_topl (fun z_3 ez_3 => ?_)
  obtain rfl : z_3 = v.2.1 := ez_3.trans rfl
  refine lv_aload_n hx hb dX5_times_12 rfl (lv_at hl 2 rfl) ?_
  refine lv_iconst (v := 1) hx hb dX5_times_13 (by decide) ?_
  refine va_lald hx hb hK hP 2 2 rfl rfl (vin (by decide)) dX5_times_14 ?_
  refine lv_topl (fun z_4 ez_4 => ?_)
  obtain rfl : z_4 = w.2.1 := ez_4.trans rfl
  refine lv_lmul hx hb dX5_times_15 ?_
  refine lv_lsub hx hb dX5_times_16 ?_
  refine lv_aload_n hx hb dX5_times_17 rfl (lv_at hl 1 rfl) ?_
  refine lv_iconst (v := 2) hx hb dX5_times_18 (by decide) ?_
  refine va_lald hx hb hK hP 1 2 rfl rfl (vin (by decide)) dX5_times_19 ?_
  refine lv_topl (fun z_5 ez_5 => ?_)
  obtain rfl : z_5 = v.2.2.1 := ez_5.trans rfl
  refine lv_aload_n hx hb dX5_times_20 rfl (lv_at hl 2 rfl) ?_
  refine lv_iconst (v := 2) hx hb dX5_times_21 (by decide) ?_
  refine va_lald hx hb hK hP 2 2 rfl rfl (vin (by decide)) dX5_times_22 ?_
  refine lv_topl (fun z_6 ez_6 => ?_)
  obtain rfl : z_6 = w.2.2.1 := ez_6.trans rfl
  refine lv_lmul hx hb dX5_times_23 ?_
  refine lv_lsub hx hb dX5_times_24 ?_
  refine lv_aload_n hx hb dX5_times_25 rfl (lv_at hl 1 rfl) ?_
  refine lv_iconst (v := 3) hx hb dX5_times_26 (by decide) ?_
  refine va_lald hx hb hK hP 1 2 rfl rfl (vin (by decide)) dX5_times_27 ?_
  refine lv_topl (fun z_7 ez_7 => ?_)
  obtain rfl : z_7 = v.2.2.2 := ez_7.trans rfl
  refine lv_aload_n hx hb dX5_times_28 rfl (lv_at hl 2 rfl) ?_
  refine lv_iconst (v := 3) hx hb dX5_times_29 (by decide) ?_
  refine va_lald hx hb hK hP 2 2 rfl rfl (vin (by decide)) dX5_times_30 ?_
  refine lv_topl (fun z_8 ez_8 => ?_)
  obtain rfl : z_8 = w.2.2.2 := ez_8.trans rfl
  refine lv_lmul hx hb dX5_times_31 ?_
  refine lv_lsub hx hb dX5_times_32 ?_
  refine lv_ldc2 hx hb hown (hts _ q639) dX5_times_33 ?_
  refine lv_ldiv hx hb dX5_times_36 (by decide) ?_
  refine va_last hx hb hK hP hD hS 0 2 rfl rfl (vin (by decide)) dX5_times_37 (fun H locs hP hD hS => ?_)
  rw [L4_s0] at hP hD
  have hP : va_P D vwCl [(h0, a4 ca (((((v.1 * w.1) - (v.2.1 * w.2.1)) - (v.2.2.1 * w.2.2.1)) - (v.2.2.2 * w.2.2.2)) / 2, z.2.1, z.2.2.1, z.2.2.2)), (h1, a4 ca v), (h2, a4 ca w)] H := hP
  have hD : va_D A [(h0, a4 ca (((((v.1 * w.1) - (v.2.1 * w.2.1)) - (v.2.2.1 * w.2.2.1)) - (v.2.2.2 * w.2.2.2)) / 2, z.2.1, z.2.2.1, z.2.2.2)), (h1, a4 ca v), (h2, a4 ca w)] := hD
  refine lv_aload_n hx hb dX5_times_38 rfl (lv_at hl 0 rfl) ?_
  refine lv_iconst (v := 1) hx hb dX5_times_39 (by decide) ?_
  refine lv_aload_n hx hb dX5_times_40 rfl (lv_at hl 1 rfl) ?_
  refine lv_iconst (v := 0) hx hb dX5_times_41 (by decide) ?_
  refine va_lald hx hb hK hP 1 2 rfl rfl (vin (by decide)) dX5_times_42 ?_
  refine lv_topl (fun z_9 ez_9 => ?_)
  obtain rfl : z_9 = v.1 := ez_9.trans rfl
  refine lv_aload_n hx hb dX5_times_43 rfl (lv_at hl 2 rfl) ?_
  refine lv_iconst (v := 1) hx hb dX5_times_44 (by decide) ?_
  refine va_lald hx hb hK hP 2 2 rfl rfl (vin (by decide)) dX5_times_45 ?_
  refine lv_topl (fun z_10 ez_10 => ?_)
  obtain rfl : z_10 = w.2.1 := ez_10.trans rfl
  refine lv_lmul hx hb dX5_times_46 ?_
  refine lv_aload_n hx hb dX5_times_47 rfl (lv_at hl 1 rfl) ?_
  refine lv_iconst (v := 1) hx hb dX5_times_48 (by decide) ?_
  refine va_lald hx hb hK hP 1 2 rfl rfl (vin (by decide)) dX5_times_49 ?_
  refine lv_topl (fun z_11 ez_11 => ?_)
  obtain rfl : z_11 = v.2.1 := ez_11.trans rfl
  refine lv_aload_n hx hb dX5_times_50 rfl (lv_at hl 2 rfl) ?_
  refine lv_iconst (v := 0) hx hb dX5_times_51 (by decide) ?_
  refine va_lald hx hb hK hP 2 2 rfl rfl (vin (by decide)) dX5_times_52 ?_
  refine lv_topl (fun z_12 ez_12 => ?_)
  obtain rfl : z_12 = w.1 := ez_12.trans rfl
  refine lv_lmul hx hb dX5_times_53 ?_
  refine lv_ladd hx hb dX5_times_54 ?_
  refine lv_aload_n hx hb dX5_times_55 rfl (lv_at hl 1 rfl) ?_
  refine lv_iconst (v := 2) hx hb dX5_times_56 (by decide) ?_
  refine va_lald hx hb hK hP 1 2 rfl rfl (vin (by decide)) dX5_times_57 ?_
  refine lv_topl (fun z_13 ez_13 => ?_)
  obtain rfl : z_13 = v.2.2.1 := ez_13.trans rfl
  refine lv_aload_n hx hb dX5_times_58 rfl (lv_at hl 2 rfl) ?_
  refine lv_iconst (v := 3) hx hb dX5_times_59 (by decide) ?_
  refine va_lald hx hb hK hP 2 2 rfl rfl (vin (by decide)) dX5_times_60 ?_
  refine lv_topl (fun z_14 ez_14 => ?_)
  obtain rfl : z_14 = w.2.2.2 := ez_14.trans rfl
  refine lv_lmul hx hb dX5_times_61 ?_
  refine lv_ladd hx hb dX5_times_62 ?_
  refine lv_aload_n hx hb dX5_times_63 rfl (lv_at hl 1 rfl) ?_
  refine lv_iconst (v := 3) hx hb dX5_times_64 (by decide) ?_
  refine va_lald hx hb hK hP 1 2 rfl rfl (vin (by decide)) dX5_times_65 ?_
  refine lv_topl (fun z_15 ez_15 => ?_)
  obtain rfl : z_15 = v.2.2.2 := ez_15.trans rfl
  refine lv_aload_n hx hb dX5_times_66 rfl (lv_at hl 2 rfl) ?_
  refine lv_iconst (v := 2) hx hb dX5_times_67 (by decide) ?_
  refine va_lald hx hb hK hP 2 2 rfl rfl (vin (by decide)) dX5_times_68 ?_
  refine lv_topl (fun z_16 ez_16 => ?_)
  obtain rfl : z_16 = w.2.2.1 := ez_16.trans rfl
  refine lv_lmul hx hb dX5_times_69 ?_
  refine lv_lsub hx hb dX5_times_70 ?_
  refine lv_ldc2 hx hb hown (hts _ q639) dX5_times_71 ?_
  refine lv_ldiv hx hb dX5_times_74 (by decide) ?_
  refine va_last hx hb hK hP hD hS 0 2 rfl rfl (vin (by decide)) dX5_times_75 (fun H locs hP hD hS => ?_)
  rw [L4_s1] at hP hD
  have hP : va_P D vwCl [(h0, a4 ca (((((v.1 * w.1) - (v.2.1 * w.2.1)) - (v.2.2.1 * w.2.2.1)) - (v.2.2.2 * w.2.2.2)) / 2, ((((v.1 * w.2.1) + (v.2.1 * w.1)) + (v.2.2.1 * w.2.2.2)) - (v.2.2.2 * w.2.2.1)) / 2, z.2.2.1, z.2.2.2)), (h1, a4 ca v), (h2, a4 ca w)] H := hP
  have hD : va_D A [(h0, a4 ca (((((v.1 * w.1) - (v.2.1 * w.2.1)) - (v.2.2.1 * w.2.2.1)) - (v.2.2.2 * w.2.2.2)) / 2, ((((v.1 * w.2.1) + (v.2.1 * w.1)) + (v.2.2.1 * w.2.2.2)) - (v.2.2.2 * w.2.2.1)) / 2, z.2.2.1, z.2.2.2)), (h1, a4 ca v), (h2, a4 ca w)] := hD
  refine lv_aload_n hx hb dX5_times_76 rfl (lv_at hl 0 rfl) ?_
  refine lv_iconst (v := 2) hx hb dX5_times_77 (by decide) ?_
  refine lv_aload_n hx hb dX5_times_78 rfl (lv_at hl 1 rfl) ?_
  refine lv_iconst (v := 0) hx hb dX5_times_79 (by decide) ?_
  refine va_lald hx hb hK hP 1 2 rfl rfl (vin (by decide)) dX5_times_80 ?_
  refine lv_topl (fun z_17 ez_17 => ?_)
  obtain rfl : z_17 = v.1 := ez_17.trans rfl
  refine lv_aload_n hx hb dX5_times_81 rfl (lv_at hl 2 rfl) ?_
  refine lv_iconst (v := 2) hx hb dX5_times_82 (by decide) ?_
  refine va_lald hx hb hK hP 2 2 rfl rfl (vin (by decide)) dX5_times_83 ?_
  refine lv_topl (fun z_18 ez_18 => ?_)
  obtain rfl : z_18 = w.2.2.1 := ez_18.trans rfl
  refine lv_lmul hx hb dX5_times_84 ?_
  refine lv_aload_n hx hb dX5_times_85 rfl (lv_at hl 1 rfl) ?_
  refine lv_iconst (v := 1) hx hb dX5_times_86 (by decide) ?_
  refine va_lald hx hb hK hP 1 2 rfl rfl (vin (by decide)) dX5_times_87 ?_
  refine lv_topl (fun z_19 ez_19 => ?_)
  obtain rfl : z_19 = v.2.1 := ez_19.trans rfl
  refine lv_aload_n hx hb dX5_times_88 rfl (lv_at hl 2 rfl) ?_
  refine lv_iconst (v := 3) hx hb dX5_times_89 (by decide) ?_
  refine va_lald hx hb hK hP 2 2 rfl rfl (vin (by decide)) dX5_times_90 ?_
  refine lv_topl (fun z_20 ez_20 => ?_)
  obtain rfl : z_20 = w.2.2.2 := ez_20.trans rfl
  refine lv_lmul hx hb dX5_times_91 ?_
  refine lv_lsub hx hb dX5_times_92 ?_
  refine lv_aload_n hx hb dX5_times_93 rfl (lv_at hl 1 rfl) ?_
  refine lv_iconst (v := 2) hx hb dX5_times_94 (by decide) ?_
  refine va_lald hx hb hK hP 1 2 rfl rfl (vin (by decide)) dX5_times_95 ?_
  refine lv_topl (fun z_21 ez_21 => ?_)
  obtain rfl : z_21 = v.2.2.1 := ez_21.trans rfl
  refine lv_aload_n hx hb dX5_times_96 rfl (lv_at hl 2 rfl) ?_
  refine lv_iconst (v := 0) hx hb dX5_times_97 (by decide) ?_
  refine va_lald hx hb hK hP 2 2 rfl rfl (vin (by decide)) dX5_times_98 ?_
  refine lv_topl (fun z_22 ez_22 => ?_)
  obtain rfl : z_22 = w.1 := ez_22.trans rfl
  refine lv_lmul hx hb dX5_times_99 ?_
  refine lv_ladd hx hb dX5_times_100 ?_
  refine lv_aload_n hx hb dX5_times_101 rfl (lv_at hl 1 rfl) ?_
  refine lv_iconst (v := 3) hx hb dX5_times_102 (by decide) ?_
  refine va_lald hx hb hK hP 1 2 rfl rfl (vin (by decide)) dX5_times_103 ?_
  refine lv_topl (fun z_23 ez_23 => ?_)
  obtain rfl : z_23 = v.2.2.2 := ez_23.trans rfl
  refine lv_aload_n hx hb dX5_times_104 rfl (lv_at hl 2 rfl) ?_
  refine lv_iconst (v := 1) hx hb dX5_times_105 (by decide) ?_
  refine va_lald hx hb hK hP 2 2 rfl rfl (vin (by decide)) dX5_times_106 ?_
  refine lv_topl (fun z_24 ez_24 => ?_)
  obtain rfl : z_24 = w.2.1 := ez_24.trans rfl
  refine lv_lmul hx hb dX5_times_107 ?_
  refine lv_ladd hx hb dX5_times_108 ?_
  refine lv_ldc2 hx hb hown (hts _ q639) dX5_times_109 ?_
  refine lv_ldiv hx hb dX5_times_112 (by decide) ?_
  refine va_last hx hb hK hP hD hS 0 2 rfl rfl (vin (by decide)) dX5_times_113 (fun H locs hP hD hS => ?_)
  rw [L4_s2] at hP hD
  have hP : va_P D vwCl [(h0, a4 ca (((((v.1 * w.1) - (v.2.1 * w.2.1)) - (v.2.2.1 * w.2.2.1)) - (v.2.2.2 * w.2.2.2)) / 2, ((((v.1 * w.2.1) + (v.2.1 * w.1)) + (v.2.2.1 * w.2.2.2)) - (v.2.2.2 * w.2.2.1)) / 2, ((((v.1 * w.2.2.1) - (v.2.1 * w.2.2.2)) + (v.2.2.1 * w.1)) + (v.2.2.2 * w.2.1)) / 2, z.2.2.2)), (h1, a4 ca v), (h2, a4 ca w)] H := hP
  have hD : va_D A [(h0, a4 ca (((((v.1 * w.1) - (v.2.1 * w.2.1)) - (v.2.2.1 * w.2.2.1)) - (v.2.2.2 * w.2.2.2)) / 2, ((((v.1 * w.2.1) + (v.2.1 * w.1)) + (v.2.2.1 * w.2.2.2)) - (v.2.2.2 * w.2.2.1)) / 2, ((((v.1 * w.2.2.1) - (v.2.1 * w.2.2.2)) + (v.2.2.1 * w.1)) + (v.2.2.2 * w.2.1)) / 2, z.2.2.2)), (h1, a4 ca v), (h2, a4 ca w)] := hD
  refine lv_aload_n hx hb dX5_times_114 rfl (lv_at hl 0 rfl) ?_
  refine lv_iconst (v := 3) hx hb dX5_times_115 (by decide) ?_
  refine lv_aload_n hx hb dX5_times_116 rfl (lv_at hl 1 rfl) ?_
  refine lv_iconst (v := 0) hx hb dX5_times_117 (by decide) ?_
  refine va_lald hx hb hK hP 1 2 rfl rfl (vin (by decide)) dX5_times_118 ?_
  refine lv_topl (fun z_25 ez_25 => ?_)
  obtain rfl : z_25 = v.1 := ez_25.trans rfl
  refine lv_aload_n hx hb dX5_times_119 rfl (lv_at hl 2 rfl) ?_
  refine lv_iconst (v := 3) hx hb dX5_times_120 (by decide) ?_
  refine va_lald hx hb hK hP 2 2 rfl rfl (vin (by decide)) dX5_times_121 ?_
  refine lv_topl (fun z_26 ez_26 => ?_)
  obtain rfl : z_26 = w.2.2.2 := ez_26.trans rfl
  refine lv_lmul hx hb dX5_times_122 ?_
  refine lv_aload_n hx hb dX5_times_123 rfl (lv_at hl 1 rfl) ?_
  refine lv_iconst (v := 1) hx hb dX5_times_124 (by decide) ?_
  refine va_lald hx hb hK hP 1 2 rfl rfl (vin (by decide)) dX5_times_125 ?_
  refine lv_topl (fun z_27 ez_27 => ?_)
  obtain rfl : z_27 = v.2.1 := ez_27.trans rfl
  refine lv_aload_n hx hb dX5_times_126 rfl (lv_at hl 2 rfl) ?_
  refine lv_iconst (v := 2) hx hb dX5_times_127 (by decide) ?_
  refine va_lald hx hb hK hP 2 2 rfl rfl (vin (by decide)) dX5_times_128 ?_
  refine lv_topl (fun z_28 ez_28 => ?_)
  obtain rfl : z_28 = w.2.2.1 := ez_28.trans rfl
  refine lv_lmul hx hb dX5_times_129 ?_
  refine lv_ladd hx hb dX5_times_130 ?_
  refine lv_aload_n hx hb dX5_times_131 rfl (lv_at hl 1 rfl) ?_
  refine lv_iconst (v := 2) hx hb dX5_times_132 (by decide) ?_
  refine va_lald hx hb hK hP 1 2 rfl rfl (vin (by decide)) dX5_times_133 ?_
  refine lv_topl (fun z_29 ez_29 => ?_)
  obtain rfl : z_29 = v.2.2.1 := ez_29.trans rfl
  refine lv_aload_n hx hb dX5_times_134 rfl (lv_at hl 2 rfl) ?_
  refine lv_iconst (v := 1) hx hb dX5_times_135 (by decide) ?_
  refine va_lald hx hb hK hP 2 2 rfl rfl (vin (by decide)) dX5_times_136 ?_
  refine lv_topl (fun z_30 ez_30 => ?_)
  obtain rfl : z_30 = w.2.1 := ez_30.trans rfl
  refine lv_lmul hx hb dX5_times_137 ?_
  refine lv_lsub hx hb dX5_times_138 ?_
  refine lv_aload_n hx hb dX5_times_139 rfl (lv_at hl 1 rfl) ?_
  refine lv_iconst (v := 3) hx hb dX5_times_140 (by decide) ?_
  refine va_lald hx hb hK hP 1 2 rfl rfl (vin (by decide)) dX5_times_141 ?_
  refine lv_topl (fun z_31 ez_31 => ?_)
  obtain rfl : z_31 = v.2.2.2 := ez_31.trans rfl
  refine lv_aload_n hx hb dX5_times_142 rfl (lv_at hl 2 rfl) ?_
  refine lv_iconst (v := 0) hx hb dX5_times_143 (by decide) ?_
  refine va_lald hx hb hK hP 2 2 rfl rfl (vin (by decide)) dX5_times_144 ?_
  refine lv_topl (fun z_32 ez_32 => ?_)
  obtain rfl : z_32 = w.1 := ez_32.trans rfl
  refine lv_lmul hx hb dX5_times_145 ?_
  refine lv_ladd hx hb dX5_times_146 ?_
  refine lv_ldc2 hx hb hown (hts _ q639) dX5_times_147 ?_
  refine lv_ldiv hx hb dX5_times_150 (by decide) ?_
  refine va_last hx hb hK hP hD hS 0 2 rfl rfl (vin (by decide)) dX5_times_151 (fun H locs hP hD hS => ?_)
  rw [L4_s3] at hP hD
  have hP : va_P D vwCl [(h0, a4 ca (((((v.1 * w.1) - (v.2.1 * w.2.1)) - (v.2.2.1 * w.2.2.1)) - (v.2.2.2 * w.2.2.2)) / 2, ((((v.1 * w.2.1) + (v.2.1 * w.1)) + (v.2.2.1 * w.2.2.2)) - (v.2.2.2 * w.2.2.1)) / 2, ((((v.1 * w.2.2.1) - (v.2.1 * w.2.2.2)) + (v.2.2.1 * w.1)) + (v.2.2.2 * w.2.1)) / 2, ((((v.1 * w.2.2.2) + (v.2.1 * w.2.2.1)) - (v.2.2.1 * w.2.1)) + (v.2.2.2 * w.1)) / 2)), (h1, a4 ca v), (h2, a4 ca w)] H := hP
  have hD : va_D A [(h0, a4 ca (((((v.1 * w.1) - (v.2.1 * w.2.1)) - (v.2.2.1 * w.2.2.1)) - (v.2.2.2 * w.2.2.2)) / 2, ((((v.1 * w.2.1) + (v.2.1 * w.1)) + (v.2.2.1 * w.2.2.2)) - (v.2.2.2 * w.2.2.1)) / 2, ((((v.1 * w.2.2.1) - (v.2.1 * w.2.2.2)) + (v.2.2.1 * w.1)) + (v.2.2.2 * w.2.1)) / 2, ((((v.1 * w.2.2.2) + (v.2.1 * w.2.2.1)) - (v.2.2.1 * w.2.1)) + (v.2.2.2 * w.1)) / 2)), (h1, a4 ca v), (h2, a4 ca w)] := hD
  exact k_vret () hx hb hr hlocks (trivial) hP hD trivial hS (Nat.le_of_ble_eq_true rfl) (Nat.le_of_ble_eq_true rfl) dX5_times_152
set_option maxHeartbeats 4000000 in
set_option maxRecDepth 100000 in
theorem ct_X5_mirror {KN : State → Prop} (hk : KNok KN) (l : Launch) (D : va_G) (ca : Nat → ClassId) (zH : Nat) (h0 : Nat) (v : Q4)  : Met l yX5_mirror (ws_ yX5_mirror cX5_mirror 1 none) ({ frames := 0, cells := 0, slots := 0, locals := 0 }) (va_Pc [.ref h0] (pr_ KN D ca [(h0, a4 ca v)] zH (fun _ => True))) (qV D (fun (u : Unit) => True) (fun u => [(h0, a4 ca (q_mirror v))]) (fun u H => True) (va_A [(h0, a4 ca v)] zH)) 0 0 (va_A [(h0, a4 ca v)] zH) := by
  refine k_ofW (Qc := qV D (fun (u : Unit) => True) (fun u => [(h0, a4 ca (q_mirror v))]) (fun u H => True)) (by decide) (Nat.le_of_ble_eq_true rfl) ?_
  intro p e s m below meth c ls A H hH hx hb hr hts hown hlocks hnm hml hsz hP hD hK hN hA hAn hS hro hl
  have hl : lv_has ls 1 [(0, .ref h0)] := hl
  refine lv_aload_n hx hb dX5_mirror_0 rfl (lv_at hl 0 rfl) ?_
  refine lv_iconst (v := 1) hx hb dX5_mirror_1 (by decide) ?_
  refine lv_aload_n hx hb dX5_mirror_2 rfl (lv_at hl 0 rfl) ?_
  refine lv_iconst (v := 1) hx hb dX5_mirror_3 (by decide) ?_
  refine va_lald hx hb hK hP 0 2 rfl rfl (vin (by decide)) dX5_mirror_4 ?_
  refine lv_topl (fun z_1 ez_1 => ?_)
  obtain rfl : z_1 = v.2.1 := ez_1.trans rfl
  refine lv_lneg hx hb dX5_mirror_5 ?_
  refine va_last hx hb hK hP hD hS 0 2 rfl rfl (vin (by decide)) dX5_mirror_6 (fun H locs hP hD hS => ?_)
  rw [L4_s1] at hP hD
  have hP : va_P D vwCl [(h0, a4 ca (v.1, -v.2.1, v.2.2.1, v.2.2.2))] H := hP
  have hD : va_D A [(h0, a4 ca (v.1, -v.2.1, v.2.2.1, v.2.2.2))] := hD
  refine lv_aload_n hx hb dX5_mirror_7 rfl (lv_at hl 0 rfl) ?_
  refine lv_iconst (v := 2) hx hb dX5_mirror_8 (by decide) ?_
  refine lv_aload_n hx hb dX5_mirror_9 rfl (lv_at hl 0 rfl) ?_
  refine lv_iconst (v := 2) hx hb dX5_mirror_10 (by decide) ?_
  refine va_lald hx hb hK hP 0 2 rfl rfl (vin (by decide)) dX5_mirror_11 ?_
  refine lv_topl (fun z_2 ez_2 => ?_)
  obtain rfl : z_2 = v.2.2.1 := ez_2.trans rfl
  refine lv_lneg hx hb dX5_mirror_12 ?_
  refine va_last hx hb hK hP hD hS 0 2 rfl rfl (vin (by decide)) dX5_mirror_13 (fun H locs hP hD hS => ?_)
  rw [L4_s2] at hP hD
  have hP : va_P D vwCl [(h0, a4 ca (v.1, -v.2.1, -v.2.2.1, v.2.2.2))] H := hP
  have hD : va_D A [(h0, a4 ca (v.1, -v.2.1, -v.2.2.1, v.2.2.2))] := hD
  refine lv_aload_n hx hb dX5_mirror_14 rfl (lv_at hl 0 rfl) ?_
  refine lv_iconst (v := 3) hx hb dX5_mirror_15 (by decide) ?_
  refine lv_aload_n hx hb dX5_mirror_16 rfl (lv_at hl 0 rfl) ?_
  refine lv_iconst (v := 3) hx hb dX5_mirror_17 (by decide) ?_
  refine va_lald hx hb hK hP 0 2 rfl rfl (vin (by decide)) dX5_mirror_18 ?_
  refine lv_topl (fun z_3 ez_3 => ?_)
  obtain rfl : z_3 = v.2.2.2 := ez_3.trans rfl
  refine lv_lneg hx hb dX5_mirror_19 ?_
  refine va_last hx hb hK hP hD hS 0 2 rfl rfl (vin (by decide)) dX5_mirror_20 (fun H locs hP hD hS => ?_)
  rw [L4_s3] at hP hD
  have hP : va_P D vwCl [(h0, a4 ca (v.1, -v.2.1, -v.2.2.1, -v.2.2.2))] H := hP
  have hD : va_D A [(h0, a4 ca (v.1, -v.2.1, -v.2.2.1, -v.2.2.2))] := hD
  exact k_vret () hx hb hr hlocks (trivial) hP hD trivial hS (Nat.le_of_ble_eq_true rfl) (Nat.le_of_ble_eq_true rfl) dX5_mirror_21
set_option maxHeartbeats 4000000 in
set_option maxRecDepth 100000 in
theorem ct_X5_norm {KN : State → Prop} (hk : KNok KN) (l : Launch) (D : va_G) (ca : Nat → ClassId) (zH : Nat) (h0 : Nat) (v : Q4)  : Met l yX5_norm (ws_ yX5_norm cX5_norm 1 (some .long)) ({ frames := 0, cells := 0, slots := 0, locals := 0 }) (va_Pc [.ref h0] (pr_ KN D ca [(h0, a4 ca v)] zH (fun _ => True))) (qL D (fun (r : Int64) (u : Unit) => r = q_norm v) (fun u => [(h0, a4 ca v)]) (fun u H => True) (va_A [(h0, a4 ca v)] zH)) 0 0 (va_A [(h0, a4 ca v)] zH) := by
  refine k_ofW (Qc := qL D (fun (r : Int64) (u : Unit) => r = q_norm v) (fun u => [(h0, a4 ca v)]) (fun u H => True)) (by decide) (Nat.le_of_ble_eq_true rfl) ?_
  intro p e s m below meth c ls A H hH hx hb hr hts hown hlocks hnm hml hsz hP hD hK hN hA hAn hS hro hl
  have hl : lv_has ls 1 [(0, .ref h0)] := hl
  refine lv_aload_n hx hb dX5_norm_0 rfl (lv_at hl 0 rfl) ?_
  refine lv_iconst (v := 0) hx hb dX5_norm_1 (by decide) ?_
  refine va_lald hx hb hK hP 0 2 rfl rfl (vin (by decide)) dX5_norm_2 ?_
  refine lv_topl (fun z_1 ez_1 => ?_)
  obtain rfl : z_1 = v.1 := ez_1.trans rfl
  refine lv_aload_n hx hb dX5_norm_3 rfl (lv_at hl 0 rfl) ?_
  refine lv_iconst (v := 0) hx hb dX5_norm_4 (by decide) ?_
  refine va_lald hx hb hK hP 0 2 rfl rfl (vin (by decide)) dX5_norm_5 ?_
  refine lv_topl (fun z_2 ez_2 => ?_)
  obtain rfl : z_2 = v.1 := ez_2.trans rfl
  refine lv_lmul hx hb dX5_norm_6 ?_
  refine lv_aload_n hx hb dX5_norm_7 rfl (lv_at hl 0 rfl) ?_
  refine lv_iconst (v := 1) hx hb dX5_norm_8 (by decide) ?_
  refine va_lald hx hb hK hP 0 2 rfl rfl (vin (by decide)) dX5_norm_9 ?_
  refine lv_topl (fun z_3 ez_3 => ?_)
  obtain rfl : z_3 = v.2.1 := ez_3.trans rfl
  refine lv_aload_n hx hb dX5_norm_10 rfl (lv_at hl 0 rfl) ?_
  refine lv_iconst (v := 1) hx hb dX5_norm_11 (by decide) ?_
  refine va_lald hx hb hK hP 0 2 rfl rfl (vin (by decide)) dX5_norm_12 ?_
  refine lv_topl (fun z_4 ez_4 => ?_)
  obtain rfl : z_4 = v.2.1 := ez_4.trans rfl
  refine lv_lmul hx hb dX5_norm_13 ?_
  refine lv_ladd hx hb dX5_norm_14 ?_
  refine lv_aload_n hx hb dX5_norm_15 rfl (lv_at hl 0 rfl) ?_
  refine lv_iconst (v := 2) hx hb dX5_norm_16 (by decide) ?_
  refine va_lald hx hb hK hP 0 2 rfl rfl (vin (by decide)) dX5_norm_17 ?_
  refine lv_topl (fun z_5 ez_5 => ?_)
  obtain rfl : z_5 = v.2.2.1 := ez_5.trans rfl
  refine lv_aload_n hx hb dX5_norm_18 rfl (lv_at hl 0 rfl) ?_
  refine lv_iconst (v := 2) hx hb dX5_norm_19 (by decide) ?_
  refine va_lald hx hb hK hP 0 2 rfl rfl (vin (by decide)) dX5_norm_20 ?_
  refine lv_topl (fun z_6 ez_6 => ?_)
  obtain rfl : z_6 = v.2.2.1 := ez_6.trans rfl
  refine lv_lmul hx hb dX5_norm_21 ?_
  refine lv_ladd hx hb dX5_norm_22 ?_
  refine lv_aload_n hx hb dX5_norm_23 rfl (lv_at hl 0 rfl) ?_
  refine lv_iconst (v := 3) hx hb dX5_norm_24 (by decide) ?_
  refine va_lald hx hb hK hP 0 2 rfl rfl (vin (by decide)) dX5_norm_25 ?_
  refine lv_topl (fun z_7 ez_7 => ?_)
  obtain rfl : z_7 = v.2.2.2 := ez_7.trans rfl
  refine lv_aload_n hx hb dX5_norm_26 rfl (lv_at hl 0 rfl) ?_
  refine lv_iconst (v := 3) hx hb dX5_norm_27 (by decide) ?_
  refine va_lald hx hb hK hP 0 2 rfl rfl (vin (by decide)) dX5_norm_28 ?_
  refine lv_topl (fun z_8 ez_8 => ?_)
  obtain rfl : z_8 = v.2.2.2 := ez_8.trans rfl
  refine lv_lmul hx hb dX5_norm_29 ?_
  refine lv_ladd hx hb dX5_norm_30 ?_
  refine lv_ldc2 hx hb hown (hts _ q701) dX5_norm_31 ?_
  refine lv_ldiv hx hb dX5_norm_34 (by decide) ?_
  exact k_lret () hx hb hr hlocks (rfl) hP hD trivial hS (Nat.le_of_ble_eq_true rfl) (Nat.le_of_ble_eq_true rfl) dX5_norm_35
set_option maxHeartbeats 4000000 in
set_option maxRecDepth 100000 in
theorem ct_X5_isNull {KN : State → Prop} (hk : KNok KN) (l : Launch) (D : va_G) (ca : Nat → ClassId) (zH : Nat) (h0 : Nat) (v : Q4)  : Met l yX5_isNull (ws_ yX5_isNull cX5_isNull 1 (some .boolean)) ({ frames := 0, cells := 0, slots := 0, locals := 0 }) (va_Pc [.ref h0] (pr_ KN D ca [(h0, a4 ca v)] zH (fun _ => True))) (qI D (fun (r : Int32) (u : Unit) => r = bI (q_null v)) (fun u => [(h0, a4 ca v)]) (fun u H => True) (va_A [(h0, a4 ca v)] zH)) 0 0 (va_A [(h0, a4 ca v)] zH) := by
  refine k_ofW (Qc := qI D (fun (r : Int32) (u : Unit) => r = bI (q_null v)) (fun u => [(h0, a4 ca v)]) (fun u H => True)) (by decide) (Nat.le_of_ble_eq_true rfl) ?_
  intro p e s m below meth c ls A H hH hx hb hr hts hown hlocks hnm hml hsz hP hD hK hN hA hAn hS hro hl
  have hl : lv_has ls 1 [(0, .ref h0)] := hl
  refine lv_aload_n hx hb dX5_isNull_0 rfl (lv_at hl 0 rfl) ?_
  refine lv_iconst (v := 0) hx hb dX5_isNull_1 (by decide) ?_
  refine va_lald hx hb hK hP 0 2 rfl rfl (vin (by decide)) dX5_isNull_2 ?_
  refine lv_topl (fun z_1 ez_1 => ?_)
  obtain rfl : z_1 = v.1 := ez_1.trans rfl
  refine lv_lconst (v := 0) hx hb dX5_isNull_3 (by decide) ?_
  refine k_lc_ne (tgt := 36) hx hb dX5_isNull_4 dX5_isNull_5 (by decide) (fun c_2 => ?_) (fun c_2 => ?_)
  · refine lv_iconst (v := 0) hx hb dX5_isNull_36 (by decide) ?_
    exact k_zret () hx hb hr hlocks (by decide) (by simp [q_null, bI, c_2]) hP hD trivial hS (Nat.le_of_ble_eq_true rfl) (Nat.le_of_ble_eq_true rfl) dX5_isNull_37
  · refine lv_aload_n hx hb dX5_isNull_8 rfl (lv_at hl 0 rfl) ?_
    refine lv_iconst (v := 1) hx hb dX5_isNull_9 (by decide) ?_
    refine va_lald hx hb hK hP 0 2 rfl rfl (vin (by decide)) dX5_isNull_10 ?_
    refine lv_topl (fun z_3 ez_3 => ?_)
    obtain rfl : z_3 = v.2.1 := ez_3.trans rfl
    refine lv_lconst (v := 0) hx hb dX5_isNull_11 (by decide) ?_
    refine k_lc_ne (tgt := 36) hx hb dX5_isNull_12 dX5_isNull_13 (by decide) (fun c_4 => ?_) (fun c_4 => ?_)
    · refine lv_iconst (v := 0) hx hb dX5_isNull_36 (by decide) ?_
      exact k_zret () hx hb hr hlocks (by decide) (by simp [q_null, bI, c_2, c_4]) hP hD trivial hS (Nat.le_of_ble_eq_true rfl) (Nat.le_of_ble_eq_true rfl) dX5_isNull_37
    · refine lv_aload_n hx hb dX5_isNull_16 rfl (lv_at hl 0 rfl) ?_
      refine lv_iconst (v := 2) hx hb dX5_isNull_17 (by decide) ?_
      refine va_lald hx hb hK hP 0 2 rfl rfl (vin (by decide)) dX5_isNull_18 ?_
      refine lv_topl (fun z_5 ez_5 => ?_)
      obtain rfl : z_5 = v.2.2.1 := ez_5.trans rfl
      refine lv_lconst (v := 0) hx hb dX5_isNull_19 (by decide) ?_
      refine k_lc_ne (tgt := 36) hx hb dX5_isNull_20 dX5_isNull_21 (by decide) (fun c_6 => ?_) (fun c_6 => ?_)
      · refine lv_iconst (v := 0) hx hb dX5_isNull_36 (by decide) ?_
        exact k_zret () hx hb hr hlocks (by decide) (by simp [q_null, bI, c_2, c_4, c_6]) hP hD trivial hS (Nat.le_of_ble_eq_true rfl) (Nat.le_of_ble_eq_true rfl) dX5_isNull_37
      · refine lv_aload_n hx hb dX5_isNull_24 rfl (lv_at hl 0 rfl) ?_
        refine lv_iconst (v := 3) hx hb dX5_isNull_25 (by decide) ?_
        refine va_lald hx hb hK hP 0 2 rfl rfl (vin (by decide)) dX5_isNull_26 ?_
        refine lv_topl (fun z_7 ez_7 => ?_)
        obtain rfl : z_7 = v.2.2.2 := ez_7.trans rfl
        refine lv_lconst (v := 0) hx hb dX5_isNull_27 (by decide) ?_
        refine k_lc_ne (tgt := 36) hx hb dX5_isNull_28 dX5_isNull_29 (by decide) (fun c_8 => ?_) (fun c_8 => ?_)
        · refine lv_iconst (v := 0) hx hb dX5_isNull_36 (by decide) ?_
          exact k_zret () hx hb hr hlocks (by decide) (by simp [q_null, bI, c_2, c_4, c_6, c_8]) hP hD trivial hS (Nat.le_of_ble_eq_true rfl) (Nat.le_of_ble_eq_true rfl) dX5_isNull_37
        · refine lv_iconst (v := 1) hx hb dX5_isNull_32 (by decide) ?_
          refine lv_goto (tgt := 37) hx hb dX5_isNull_33 (by decide) ?_
          exact k_zret () hx hb hr hlocks (by decide) (by simp [q_null, bI, c_2, c_4, c_6, c_8]) hP hD trivial hS (Nat.le_of_ble_eq_true rfl) (Nat.le_of_ble_eq_true rfl) dX5_isNull_37
set_option maxHeartbeats 4000000 in
set_option maxRecDepth 100000 in
theorem ct_X5_isLow {KN : State → Prop} (hk : KNok KN) (l : Launch) (D : va_G) (ca : Nat → ClassId) (zH : Nat) (h0 : Nat) (v : Q4)  : Met l yX5_isLow (ws_ yX5_isLow cX5_isLow 1 (some .boolean)) ({ frames := 2, cells := 0, slots := 0, locals := 46 }) (va_Pc [.ref h0] (pr_ KN D ca [(h0, a4 ca v)] zH (fun _ => True))) (qI D (fun (r : Int32) (u : Unit) => r = bI (q_low v)) (fun u => [(h0, a4 ca v)]) (fun u H => True) (va_A [(h0, a4 ca v)] zH)) 0 0 (va_A [(h0, a4 ca v)] zH) := by
  refine k_ofW (Qc := qI D (fun (r : Int32) (u : Unit) => r = bI (q_low v)) (fun u => [(h0, a4 ca v)]) (fun u H => True)) (by decide) (Nat.le_of_ble_eq_true rfl) ?_
  intro p e s m below meth c ls A H hH hx hb hr hts hown hlocks hnm hml hsz hP hD hK hN hA hAn hS hro hl
  have hl : lv_has ls 1 [(0, .ref h0)] := hl
  refine lv_aload_n hx hb dX5_isLow_0 rfl (lv_at hl 0 rfl) ?_
  refine lv_iconst (v := 0) hx hb dX5_isLow_1 (by decide) ?_
  refine va_lald hx hb hK hP 0 2 rfl rfl (vin (by decide)) dX5_isLow_2 ?_
  refine lv_topl (fun z_1 ez_1 => ?_)
  obtain rfl : z_1 = v.1 := ez_1.trans rfl
  refine k_calli (wr := [(h0, a4 ca v)]) (va_runS (As := [.long v.1]) (rest := []) ⟨hx, hb, hml, hown, hts⟩ (ct_X5_isPart hk l D ca H.size v.1) (va_cwS 1 hts (lw_S q664 q665 q24 q666) rfl rfl rfl (by decide +kernel) ⟨Nat.le_of_ble_eq_true rfl, Nat.le_of_ble_eq_true rfl⟩) (k_pre hk hK hN hP hD [] (by decide) rfl trivial) rfl rfl hl.1 rfl (lv_room (Nat.le_of_ble_eq_true rfl)) dX5_isLow_3 ⟨Nat.le_of_ble_eq_true rfl, Nat.le_of_ble_eq_true rfl⟩) hP hD hS hA [] [0] rfl rfl (by decide) (by decide) (fun r_2 u_3 H locs w_4 hP hD hxw_4 hzw_4 hqw_4 hS => ?_)
  obtain rfl : r_2 = bI (p_in v.1 (-20000) 20000) := w_4
  refine lv_if_eq (tgt := 40) hx hb dX5_isLow_6 (by decide) (fun c_5 => ?_) (fun c_5 => ?_)
  · have c_5 := bI_z0 c_5
    refine lv_iconst (v := 0) hx hb dX5_isLow_40 (by decide) ?_
    exact k_zret () hx hb hr hlocks (by decide) (by simp [q_low, bI, c_5]) hP hD trivial hS (Nat.le_of_ble_eq_true rfl) (Nat.le_of_ble_eq_true rfl) dX5_isLow_41
  · have c_5 := bI_z1 c_5
    refine lv_aload_n hx hb dX5_isLow_9 rfl (lv_at hl 0 rfl) ?_
    refine lv_iconst (v := 1) hx hb dX5_isLow_10 (by decide) ?_
    refine va_lald hx hb hK hP 0 2 rfl rfl (vin (by decide)) dX5_isLow_11 ?_
    refine lv_topl (fun z_6 ez_6 => ?_)
    obtain rfl : z_6 = v.2.1 := ez_6.trans rfl
    refine k_calli (wr := [(h0, a4 ca v)]) (va_runS (As := [.long v.2.1]) (rest := []) ⟨hx, hb, hml, hown, hts⟩ (ct_X5_isPart hk l D ca H.size v.2.1) (va_cwS 1 hts (lw_S q664 q665 q24 q666) rfl rfl rfl (by decide +kernel) ⟨Nat.le_of_ble_eq_true rfl, Nat.le_of_ble_eq_true rfl⟩) (k_pre hk hK hN hP hD [] (by decide) rfl trivial) rfl rfl hl.1 rfl (lv_room (Nat.le_of_ble_eq_true rfl)) dX5_isLow_12 ⟨Nat.le_of_ble_eq_true rfl, Nat.le_of_ble_eq_true rfl⟩) hP hD hS hA [] [0] rfl rfl (by decide) (by decide) (fun r_7 u_8 H locs w_9 hP hD hxw_9 hzw_9 hqw_9 hS => ?_)
    obtain rfl : r_7 = bI (p_in v.2.1 (-20000) 20000) := w_9
    refine lv_if_eq (tgt := 40) hx hb dX5_isLow_15 (by decide) (fun c_10 => ?_) (fun c_10 => ?_)
    · have c_10 := bI_z0 c_10
      refine lv_iconst (v := 0) hx hb dX5_isLow_40 (by decide) ?_
      exact k_zret () hx hb hr hlocks (by decide) (by simp [q_low, bI, c_5, c_10]) hP hD trivial hS (Nat.le_of_ble_eq_true rfl) (Nat.le_of_ble_eq_true rfl) dX5_isLow_41
    · have c_10 := bI_z1 c_10
      refine lv_aload_n hx hb dX5_isLow_18 rfl (lv_at hl 0 rfl) ?_
      refine lv_iconst (v := 2) hx hb dX5_isLow_19 (by decide) ?_
      refine va_lald hx hb hK hP 0 2 rfl rfl (vin (by decide)) dX5_isLow_20 ?_
      refine lv_topl (fun z_11 ez_11 => ?_)
      obtain rfl : z_11 = v.2.2.1 := ez_11.trans rfl
      refine k_calli (wr := [(h0, a4 ca v)]) (va_runS (As := [.long v.2.2.1]) (rest := []) ⟨hx, hb, hml, hown, hts⟩ (ct_X5_isPart hk l D ca H.size v.2.2.1) (va_cwS 1 hts (lw_S q664 q665 q24 q666) rfl rfl rfl (by decide +kernel) ⟨Nat.le_of_ble_eq_true rfl, Nat.le_of_ble_eq_true rfl⟩) (k_pre hk hK hN hP hD [] (by decide) rfl trivial) rfl rfl hl.1 rfl (lv_room (Nat.le_of_ble_eq_true rfl)) dX5_isLow_21 ⟨Nat.le_of_ble_eq_true rfl, Nat.le_of_ble_eq_true rfl⟩) hP hD hS hA [] [0] rfl rfl (by decide) (by decide) (fun r_12 u_13 H locs w_14 hP hD hxw_14 hzw_14 hqw_14 hS => ?_)
      obtain rfl : r_12 = bI (p_in v.2.2.1 (-20000) 20000) := w_14
      refine lv_if_eq (tgt := 40) hx hb dX5_isLow_24 (by decide) (fun c_15 => ?_) (fun c_15 => ?_)
      · have c_15 := bI_z0 c_15
        refine lv_iconst (v := 0) hx hb dX5_isLow_40 (by decide) ?_
        exact k_zret () hx hb hr hlocks (by decide) (by simp [q_low, bI, c_5, c_10, c_15]) hP hD trivial hS (Nat.le_of_ble_eq_true rfl) (Nat.le_of_ble_eq_true rfl) dX5_isLow_41
      · have c_15 := bI_z1 c_15
        refine lv_aload_n hx hb dX5_isLow_27 rfl (lv_at hl 0 rfl) ?_
        refine lv_iconst (v := 3) hx hb dX5_isLow_28 (by decide) ?_
        refine va_lald hx hb hK hP 0 2 rfl rfl (vin (by decide)) dX5_isLow_29 ?_
        refine lv_topl (fun z_16 ez_16 => ?_)
        obtain rfl : z_16 = v.2.2.2 := ez_16.trans rfl
        refine k_calli (wr := [(h0, a4 ca v)]) (va_runS (As := [.long v.2.2.2]) (rest := []) ⟨hx, hb, hml, hown, hts⟩ (ct_X5_isPart hk l D ca H.size v.2.2.2) (va_cwS 1 hts (lw_S q664 q665 q24 q666) rfl rfl rfl (by decide +kernel) ⟨Nat.le_of_ble_eq_true rfl, Nat.le_of_ble_eq_true rfl⟩) (k_pre hk hK hN hP hD [] (by decide) rfl trivial) rfl rfl hl.1 rfl (lv_room (Nat.le_of_ble_eq_true rfl)) dX5_isLow_30 ⟨Nat.le_of_ble_eq_true rfl, Nat.le_of_ble_eq_true rfl⟩) hP hD hS hA [] [0] rfl rfl (by decide) (by decide) (fun r_17 u_18 H locs w_19 hP hD hxw_19 hzw_19 hqw_19 hS => ?_)
        obtain rfl : r_17 = bI (p_in v.2.2.2 (-20000) 20000) := w_19
        refine lv_if_eq (tgt := 40) hx hb dX5_isLow_33 (by decide) (fun c_20 => ?_) (fun c_20 => ?_)
        · have c_20 := bI_z0 c_20
          refine lv_iconst (v := 0) hx hb dX5_isLow_40 (by decide) ?_
          exact k_zret () hx hb hr hlocks (by decide) (by simp [q_low, bI, c_5, c_10, c_15, c_20]) hP hD trivial hS (Nat.le_of_ble_eq_true rfl) (Nat.le_of_ble_eq_true rfl) dX5_isLow_41
        · have c_20 := bI_z1 c_20
          refine lv_iconst (v := 1) hx hb dX5_isLow_36 (by decide) ?_
          refine lv_goto (tgt := 41) hx hb dX5_isLow_37 (by decide) ?_
          exact k_zret () hx hb hr hlocks (by decide) (by simp [q_low, bI, c_5, c_10, c_15, c_20]) hP hD trivial hS (Nat.le_of_ble_eq_true rfl) (Nat.le_of_ble_eq_true rfl) dX5_isLow_41
set_option maxHeartbeats 4000000 in
set_option maxRecDepth 100000 in
theorem ct_X5_isGreater {KN : State → Prop} (hk : KNok KN) (l : Launch) (D : va_G) (ca : Nat → ClassId) (zH : Nat) (h0 h1 : Nat) (v w : Q4)  : Met l yX5_isGreater (ws_ yX5_isGreater cX5_isGreater 3 (some .boolean)) ({ frames := 0, cells := 0, slots := 0, locals := 0 }) (va_Pc [.ref h0, .ref h1] (pr_ KN D ca [(h0, a4 ca v), (h1, a4 ca w)] zH (fun _ => True))) (qI D (fun (r : Int32) (u : Unit) => r = bI (q_gt v w)) (fun u => [(h0, a4 ca v), (h1, a4 ca w)]) (fun u H => True) (va_A [(h0, a4 ca v), (h1, a4 ca w)] zH)) 0 0 (va_A [(h0, a4 ca v), (h1, a4 ca w)] zH) := by
  refine k_ofW (Qc := qI D (fun (r : Int32) (u : Unit) => r = bI (q_gt v w)) (fun u => [(h0, a4 ca v), (h1, a4 ca w)]) (fun u H => True)) (by decide) (Nat.le_of_ble_eq_true rfl) ?_
  intro p e s m below meth c ls A H hH hx hb hr hts hown hlocks hnm hml hsz hP hD hK hN hA hAn hS hro hl
  have hl : lv_has ls 3 [(0, .ref h0), (1, .ref h1)] := hl
  refine lv_iconst (v := 0) hx hb dX5_isGreater_0 (by decide) ?_
  refine lv_istore_n (lv' := [(2, .int 0), (0, .ref h0), (1, .ref h1)]) hx hb dX5_isGreater_1 rfl hl (by decide) rfl (fun ls hl => ?_)
  refine lv_iload_n hx hb dX5_isGreater_2 rfl (lv_at hl 0 rfl) ?_
  refine lv_iconst (v := 4) hx hb dX5_isGreater_3 (by decide) ?_
  refine lv_icmp_ge (tgt := 39) hx hb dX5_isGreater_4 (by decide) (fun c_1 => absurd c_1 (by decide)) (fun c_1 => ?_)
  refine lv_aload_n hx hb dX5_isGreater_7 rfl (lv_at hl 1 rfl) ?_
  refine lv_iload_n hx hb dX5_isGreater_8 rfl (lv_at hl 0 rfl) ?_
  refine va_lald hx hb hK hP 0 2 rfl rfl (vin (by decide)) dX5_isGreater_9 ?_
  refine lv_topl (fun z_2 ez_2 => ?_)
  obtain rfl : z_2 = v.1 := ez_2.trans rfl
  refine lv_aload_n hx hb dX5_isGreater_10 rfl (lv_at hl 2 rfl) ?_
  refine lv_iload_n hx hb dX5_isGreater_11 rfl (lv_at hl 0 rfl) ?_
  refine va_lald hx hb hK hP 1 2 rfl rfl (vin (by decide)) dX5_isGreater_12 ?_
  refine lv_topl (fun z_3 ez_3 => ?_)
  obtain rfl : z_3 = w.1 := ez_3.trans rfl
  refine k_lc_eq (tgt := 33) hx hb dX5_isGreater_13 dX5_isGreater_14 (by decide) (fun c_4 => ?_) (fun c_4 => ?_)
  · refine lv_iinc (v := 1) (lv' := [(2, .int 1), (0, .ref h0), (1, .ref h1)]) hx hb dX5_isGreater_33 hl (k := 0) rfl (by decide) (by decide) rfl (fun ls hl => ?_)
    refine lv_goto (tgt := 2) hx hb dX5_isGreater_36 (by decide) ?_
    refine lv_iload_n hx hb dX5_isGreater_2 rfl (lv_at hl 0 rfl) ?_
    refine lv_iconst (v := 4) hx hb dX5_isGreater_3 (by decide) ?_
    refine lv_icmp_ge (tgt := 39) hx hb dX5_isGreater_4 (by decide) (fun c_5 => absurd c_5 (by decide)) (fun c_5 => ?_)
    refine lv_aload_n hx hb dX5_isGreater_7 rfl (lv_at hl 1 rfl) ?_
    refine lv_iload_n hx hb dX5_isGreater_8 rfl (lv_at hl 0 rfl) ?_
    refine va_lald hx hb hK hP 0 2 rfl rfl (vin (by decide)) dX5_isGreater_9 ?_
    refine lv_topl (fun z_6 ez_6 => ?_)
    obtain rfl : z_6 = v.2.1 := ez_6.trans rfl
    refine lv_aload_n hx hb dX5_isGreater_10 rfl (lv_at hl 2 rfl) ?_
    refine lv_iload_n hx hb dX5_isGreater_11 rfl (lv_at hl 0 rfl) ?_
    refine va_lald hx hb hK hP 1 2 rfl rfl (vin (by decide)) dX5_isGreater_12 ?_
    refine lv_topl (fun z_7 ez_7 => ?_)
    obtain rfl : z_7 = w.2.1 := ez_7.trans rfl
    refine k_lc_eq (tgt := 33) hx hb dX5_isGreater_13 dX5_isGreater_14 (by decide) (fun c_8 => ?_) (fun c_8 => ?_)
    · refine lv_iinc (v := 2) (lv' := [(2, .int 2), (0, .ref h0), (1, .ref h1)]) hx hb dX5_isGreater_33 hl (k := 0) rfl (by decide) (by decide) rfl (fun ls hl => ?_)
      refine lv_goto (tgt := 2) hx hb dX5_isGreater_36 (by decide) ?_
      refine lv_iload_n hx hb dX5_isGreater_2 rfl (lv_at hl 0 rfl) ?_
      refine lv_iconst (v := 4) hx hb dX5_isGreater_3 (by decide) ?_
      refine lv_icmp_ge (tgt := 39) hx hb dX5_isGreater_4 (by decide) (fun c_9 => absurd c_9 (by decide)) (fun c_9 => ?_)
      refine lv_aload_n hx hb dX5_isGreater_7 rfl (lv_at hl 1 rfl) ?_
      refine lv_iload_n hx hb dX5_isGreater_8 rfl (lv_at hl 0 rfl) ?_
      refine va_lald hx hb hK hP 0 2 rfl rfl (vin (by decide)) dX5_isGreater_9 ?_
      refine lv_topl (fun z_10 ez_10 => ?_)
      obtain rfl : z_10 = v.2.2.1 := ez_10.trans rfl
      refine lv_aload_n hx hb dX5_isGreater_10 rfl (lv_at hl 2 rfl) ?_
      refine lv_iload_n hx hb dX5_isGreater_11 rfl (lv_at hl 0 rfl) ?_
      refine va_lald hx hb hK hP 1 2 rfl rfl (vin (by decide)) dX5_isGreater_12 ?_
      refine lv_topl (fun z_11 ez_11 => ?_)
      obtain rfl : z_11 = w.2.2.1 := ez_11.trans rfl
      refine k_lc_eq (tgt := 33) hx hb dX5_isGreater_13 dX5_isGreater_14 (by decide) (fun c_12 => ?_) (fun c_12 => ?_)
      · refine lv_iinc (v := 3) (lv' := [(2, .int 3), (0, .ref h0), (1, .ref h1)]) hx hb dX5_isGreater_33 hl (k := 0) rfl (by decide) (by decide) rfl (fun ls hl => ?_)
        refine lv_goto (tgt := 2) hx hb dX5_isGreater_36 (by decide) ?_
        refine lv_iload_n hx hb dX5_isGreater_2 rfl (lv_at hl 0 rfl) ?_
        refine lv_iconst (v := 4) hx hb dX5_isGreater_3 (by decide) ?_
        refine lv_icmp_ge (tgt := 39) hx hb dX5_isGreater_4 (by decide) (fun c_13 => absurd c_13 (by decide)) (fun c_13 => ?_)
        refine lv_aload_n hx hb dX5_isGreater_7 rfl (lv_at hl 1 rfl) ?_
        refine lv_iload_n hx hb dX5_isGreater_8 rfl (lv_at hl 0 rfl) ?_
        refine va_lald hx hb hK hP 0 2 rfl rfl (vin (by decide)) dX5_isGreater_9 ?_
        refine lv_topl (fun z_14 ez_14 => ?_)
        obtain rfl : z_14 = v.2.2.2 := ez_14.trans rfl
        refine lv_aload_n hx hb dX5_isGreater_10 rfl (lv_at hl 2 rfl) ?_
        refine lv_iload_n hx hb dX5_isGreater_11 rfl (lv_at hl 0 rfl) ?_
        refine va_lald hx hb hK hP 1 2 rfl rfl (vin (by decide)) dX5_isGreater_12 ?_
        refine lv_topl (fun z_15 ez_15 => ?_)
        obtain rfl : z_15 = w.2.2.2 := ez_15.trans rfl
        refine k_lc_eq (tgt := 33) hx hb dX5_isGreater_13 dX5_isGreater_14 (by decide) (fun c_16 => ?_) (fun c_16 => ?_)
        · refine lv_iinc (v := 4) (lv' := [(2, .int 4), (0, .ref h0), (1, .ref h1)]) hx hb dX5_isGreater_33 hl (k := 0) rfl (by decide) (by decide) rfl (fun ls hl => ?_)
          refine lv_goto (tgt := 2) hx hb dX5_isGreater_36 (by decide) ?_
          refine lv_iload_n hx hb dX5_isGreater_2 rfl (lv_at hl 0 rfl) ?_
          refine lv_iconst (v := 4) hx hb dX5_isGreater_3 (by decide) ?_
          refine lv_icmp_ge (tgt := 39) hx hb dX5_isGreater_4 (by decide) (fun c_17 => ?_) (fun c_17 => absurd (by decide) c_17)
          refine lv_iconst (v := 0) hx hb dX5_isGreater_39 (by decide) ?_
          exact k_zret () hx hb hr hlocks (by decide) (by simp [q_gt, bI, c_4, c_8, c_12, c_16]) hP hD trivial hS (Nat.le_of_ble_eq_true rfl) (Nat.le_of_ble_eq_true rfl) dX5_isGreater_40
        · refine lv_aload_n hx hb dX5_isGreater_17 rfl (lv_at hl 1 rfl) ?_
          refine lv_iload_n hx hb dX5_isGreater_18 rfl (lv_at hl 0 rfl) ?_
          refine va_lald hx hb hK hP 0 2 rfl rfl (vin (by decide)) dX5_isGreater_19 ?_
          refine lv_topl (fun z_18 ez_18 => ?_)
          obtain rfl : z_18 = v.2.2.2 := ez_18.trans rfl
          refine lv_aload_n hx hb dX5_isGreater_20 rfl (lv_at hl 2 rfl) ?_
          refine lv_iload_n hx hb dX5_isGreater_21 rfl (lv_at hl 0 rfl) ?_
          refine va_lald hx hb hK hP 1 2 rfl rfl (vin (by decide)) dX5_isGreater_22 ?_
          refine lv_topl (fun z_19 ez_19 => ?_)
          obtain rfl : z_19 = w.2.2.2 := ez_19.trans rfl
          refine k_lc_le (tgt := 31) hx hb dX5_isGreater_23 dX5_isGreater_24 (by decide) (fun c_20 => ?_) (fun c_20 => ?_)
          · refine lv_iconst (v := 0) hx hb dX5_isGreater_31 (by decide) ?_
            exact k_zret () hx hb hr hlocks (by decide) (by simp [q_gt, bI, c_4, c_8, c_12, c_16, c_20]) hP hD trivial hS (Nat.le_of_ble_eq_true rfl) (Nat.le_of_ble_eq_true rfl) dX5_isGreater_32
          · refine lv_iconst (v := 1) hx hb dX5_isGreater_27 (by decide) ?_
            refine lv_goto (tgt := 32) hx hb dX5_isGreater_28 (by decide) ?_
            exact k_zret () hx hb hr hlocks (by decide) (by simp [q_gt, bI, c_4, c_8, c_12, c_16, c_20]) hP hD trivial hS (Nat.le_of_ble_eq_true rfl) (Nat.le_of_ble_eq_true rfl) dX5_isGreater_32
      · refine lv_aload_n hx hb dX5_isGreater_17 rfl (lv_at hl 1 rfl) ?_
        refine lv_iload_n hx hb dX5_isGreater_18 rfl (lv_at hl 0 rfl) ?_
        refine va_lald hx hb hK hP 0 2 rfl rfl (vin (by decide)) dX5_isGreater_19 ?_
        refine lv_topl (fun z_21 ez_21 => ?_)
        obtain rfl : z_21 = v.2.2.1 := ez_21.trans rfl
        refine lv_aload_n hx hb dX5_isGreater_20 rfl (lv_at hl 2 rfl) ?_
        refine lv_iload_n hx hb dX5_isGreater_21 rfl (lv_at hl 0 rfl) ?_
        refine va_lald hx hb hK hP 1 2 rfl rfl (vin (by decide)) dX5_isGreater_22 ?_
        refine lv_topl (fun z_22 ez_22 => ?_)
        obtain rfl : z_22 = w.2.2.1 := ez_22.trans rfl
        refine k_lc_le (tgt := 31) hx hb dX5_isGreater_23 dX5_isGreater_24 (by decide) (fun c_23 => ?_) (fun c_23 => ?_)
        · refine lv_iconst (v := 0) hx hb dX5_isGreater_31 (by decide) ?_
          exact k_zret () hx hb hr hlocks (by decide) (by simp [q_gt, bI, c_4, c_8, c_12, c_23]) hP hD trivial hS (Nat.le_of_ble_eq_true rfl) (Nat.le_of_ble_eq_true rfl) dX5_isGreater_32
        · refine lv_iconst (v := 1) hx hb dX5_isGreater_27 (by decide) ?_
          refine lv_goto (tgt := 32) hx hb dX5_isGreater_28 (by decide) ?_
          exact k_zret () hx hb hr hlocks (by decide) (by simp [q_gt, bI, c_4, c_8, c_12, c_23]) hP hD trivial hS (Nat.le_of_ble_eq_true rfl) (Nat.le_of_ble_eq_true rfl) dX5_isGreater_32
    · refine lv_aload_n hx hb dX5_isGreater_17 rfl (lv_at hl 1 rfl) ?_
      refine lv_iload_n hx hb dX5_isGreater_18 rfl (lv_at hl 0 rfl) ?_
      refine va_lald hx hb hK hP 0 2 rfl rfl (vin (by decide)) dX5_isGreater_19 ?_
      refine lv_topl (fun z_24 ez_24 => ?_)
      obtain rfl : z_24 = v.2.1 := ez_24.trans rfl
      refine lv_aload_n hx hb dX5_isGreater_20 rfl (lv_at hl 2 rfl) ?_
      refine lv_iload_n hx hb dX5_isGreater_21 rfl (lv_at hl 0 rfl) ?_
      refine va_lald hx hb hK hP 1 2 rfl rfl (vin (by decide)) dX5_isGreater_22 ?_
      refine lv_topl (fun z_25 ez_25 => ?_)
      obtain rfl : z_25 = w.2.1 := ez_25.trans rfl
      refine k_lc_le (tgt := 31) hx hb dX5_isGreater_23 dX5_isGreater_24 (by decide) (fun c_26 => ?_) (fun c_26 => ?_)
      · refine lv_iconst (v := 0) hx hb dX5_isGreater_31 (by decide) ?_
        exact k_zret () hx hb hr hlocks (by decide) (by simp [q_gt, bI, c_4, c_8, c_26]) hP hD trivial hS (Nat.le_of_ble_eq_true rfl) (Nat.le_of_ble_eq_true rfl) dX5_isGreater_32
      · refine lv_iconst (v := 1) hx hb dX5_isGreater_27 (by decide) ?_
        refine lv_goto (tgt := 32) hx hb dX5_isGreater_28 (by decide) ?_
        exact k_zret () hx hb hr hlocks (by decide) (by simp [q_gt, bI, c_4, c_8, c_26]) hP hD trivial hS (Nat.le_of_ble_eq_true rfl) (Nat.le_of_ble_eq_true rfl) dX5_isGreater_32
  · refine lv_aload_n hx hb dX5_isGreater_17 rfl (lv_at hl 1 rfl) ?_
    refine lv_iload_n hx hb dX5_isGreater_18 rfl (lv_at hl 0 rfl) ?_
    refine va_lald hx hb hK hP 0 2 rfl rfl (vin (by decide)) dX5_isGreater_19 ?_
    refine lv_topl (fun z_27 ez_27 => ?_)
    obtain rfl : z_27 = v.1 := ez_27.trans rfl
    refine lv_aload_n hx hb dX5_isGreater_20 rfl (lv_at hl 2 rfl) ?_
    refine lv_iload_n hx hb dX5_isGreater_21 rfl (lv_at hl 0 rfl) ?_
    refine va_lald hx hb hK hP 1 2 rfl rfl (vin (by decide)) dX5_isGreater_22 ?_
    refine lv_topl (fun z_28 ez_28 => ?_)
    obtain rfl : z_28 = w.1 := ez_28.trans rfl
    refine k_lc_le (tgt := 31) hx hb dX5_isGreater_23 dX5_isGreater_24 (by decide) (fun c_29 => ?_) (fun c_29 => ?_)
    · refine lv_iconst (v := 0) hx hb dX5_isGreater_31 (by decide) ?_
      exact k_zret () hx hb hr hlocks (by decide) (by simp [q_gt, bI, c_4, c_29]) hP hD trivial hS (Nat.le_of_ble_eq_true rfl) (Nat.le_of_ble_eq_true rfl) dX5_isGreater_32
    · refine lv_iconst (v := 1) hx hb dX5_isGreater_27 (by decide) ?_
      refine lv_goto (tgt := 32) hx hb dX5_isGreater_28 (by decide) ?_
      exact k_zret () hx hb hr hlocks (by decide) (by simp [q_gt, bI, c_4, c_29]) hP hD trivial hS (Nat.le_of_ble_eq_true rfl) (Nat.le_of_ble_eq_true rfl) dX5_isGreater_32
set_option maxHeartbeats 4000000 in
set_option maxRecDepth 100000 in
theorem ct_X5_isSame {KN : State → Prop} (hk : KNok KN) (l : Launch) (D : va_G) (ca : Nat → ClassId) (zH : Nat) (h0 h1 : Nat) (v w : Q4)  : Met l yX5_isSame (ws_ yX5_isSame cX5_isSame 2 (some .boolean)) ({ frames := 0, cells := 0, slots := 0, locals := 0 }) (va_Pc [.ref h0, .ref h1] (pr_ KN D ca [(h0, a4 ca v), (h1, a4 ca w)] zH (fun _ => True))) (qI D (fun (r : Int32) (u : Unit) => r = bI (q_same v w)) (fun u => [(h0, a4 ca v), (h1, a4 ca w)]) (fun u H => True) (va_A [(h0, a4 ca v), (h1, a4 ca w)] zH)) 0 0 (va_A [(h0, a4 ca v), (h1, a4 ca w)] zH) := by
  refine k_ofW (Qc := qI D (fun (r : Int32) (u : Unit) => r = bI (q_same v w)) (fun u => [(h0, a4 ca v), (h1, a4 ca w)]) (fun u H => True)) (by decide) (Nat.le_of_ble_eq_true rfl) ?_
  intro p e s m below meth c ls A H hH hx hb hr hts hown hlocks hnm hml hsz hP hD hK hN hA hAn hS hro hl
  have hl : lv_has ls 2 [(0, .ref h0), (1, .ref h1)] := hl
  refine lv_aload_n hx hb dX5_isSame_0 rfl (lv_at hl 0 rfl) ?_
  refine lv_iconst (v := 0) hx hb dX5_isSame_1 (by decide) ?_
  refine va_lald hx hb hK hP 0 2 rfl rfl (vin (by decide)) dX5_isSame_2 ?_
  refine lv_topl (fun z_1 ez_1 => ?_)
  obtain rfl : z_1 = v.1 := ez_1.trans rfl
  refine lv_aload_n hx hb dX5_isSame_3 rfl (lv_at hl 1 rfl) ?_
  refine lv_iconst (v := 0) hx hb dX5_isSame_4 (by decide) ?_
  refine va_lald hx hb hK hP 1 2 rfl rfl (vin (by decide)) dX5_isSame_5 ?_
  refine lv_topl (fun z_2 ez_2 => ?_)
  obtain rfl : z_2 = w.1 := ez_2.trans rfl
  refine k_lc_ne (tgt := 44) hx hb dX5_isSame_6 dX5_isSame_7 (by decide) (fun c_3 => ?_) (fun c_3 => ?_)
  · refine lv_iconst (v := 0) hx hb dX5_isSame_44 (by decide) ?_
    exact k_zret () hx hb hr hlocks (by decide) (by simp [q_same, bI, c_3]) hP hD trivial hS (Nat.le_of_ble_eq_true rfl) (Nat.le_of_ble_eq_true rfl) dX5_isSame_45
  · refine lv_aload_n hx hb dX5_isSame_10 rfl (lv_at hl 0 rfl) ?_
    refine lv_iconst (v := 1) hx hb dX5_isSame_11 (by decide) ?_
    refine va_lald hx hb hK hP 0 2 rfl rfl (vin (by decide)) dX5_isSame_12 ?_
    refine lv_topl (fun z_4 ez_4 => ?_)
    obtain rfl : z_4 = v.2.1 := ez_4.trans rfl
    refine lv_aload_n hx hb dX5_isSame_13 rfl (lv_at hl 1 rfl) ?_
    refine lv_iconst (v := 1) hx hb dX5_isSame_14 (by decide) ?_
    refine va_lald hx hb hK hP 1 2 rfl rfl (vin (by decide)) dX5_isSame_15 ?_
    refine lv_topl (fun z_5 ez_5 => ?_)
    obtain rfl : z_5 = w.2.1 := ez_5.trans rfl
    refine k_lc_ne (tgt := 44) hx hb dX5_isSame_16 dX5_isSame_17 (by decide) (fun c_6 => ?_) (fun c_6 => ?_)
    · refine lv_iconst (v := 0) hx hb dX5_isSame_44 (by decide) ?_
      exact k_zret () hx hb hr hlocks (by decide) (by simp [q_same, bI, c_3, c_6]) hP hD trivial hS (Nat.le_of_ble_eq_true rfl) (Nat.le_of_ble_eq_true rfl) dX5_isSame_45
    · refine lv_aload_n hx hb dX5_isSame_20 rfl (lv_at hl 0 rfl) ?_
      refine lv_iconst (v := 2) hx hb dX5_isSame_21 (by decide) ?_
      refine va_lald hx hb hK hP 0 2 rfl rfl (vin (by decide)) dX5_isSame_22 ?_
      refine lv_topl (fun z_7 ez_7 => ?_)
      obtain rfl : z_7 = v.2.2.1 := ez_7.trans rfl
      refine lv_aload_n hx hb dX5_isSame_23 rfl (lv_at hl 1 rfl) ?_
      refine lv_iconst (v := 2) hx hb dX5_isSame_24 (by decide) ?_
      refine va_lald hx hb hK hP 1 2 rfl rfl (vin (by decide)) dX5_isSame_25 ?_
      refine lv_topl (fun z_8 ez_8 => ?_)
      obtain rfl : z_8 = w.2.2.1 := ez_8.trans rfl
      refine k_lc_ne (tgt := 44) hx hb dX5_isSame_26 dX5_isSame_27 (by decide) (fun c_9 => ?_) (fun c_9 => ?_)
      · refine lv_iconst (v := 0) hx hb dX5_isSame_44 (by decide) ?_
        exact k_zret () hx hb hr hlocks (by decide) (by simp [q_same, bI, c_3, c_6, c_9]) hP hD trivial hS (Nat.le_of_ble_eq_true rfl) (Nat.le_of_ble_eq_true rfl) dX5_isSame_45
      · refine lv_aload_n hx hb dX5_isSame_30 rfl (lv_at hl 0 rfl) ?_
        refine lv_iconst (v := 3) hx hb dX5_isSame_31 (by decide) ?_
        refine va_lald hx hb hK hP 0 2 rfl rfl (vin (by decide)) dX5_isSame_32 ?_
        refine lv_topl (fun z_10 ez_10 => ?_)
        obtain rfl : z_10 = v.2.2.2 := ez_10.trans rfl
        refine lv_aload_n hx hb dX5_isSame_33 rfl (lv_at hl 1 rfl) ?_
        refine lv_iconst (v := 3) hx hb dX5_isSame_34 (by decide) ?_
        refine va_lald hx hb hK hP 1 2 rfl rfl (vin (by decide)) dX5_isSame_35 ?_
        refine lv_topl (fun z_11 ez_11 => ?_)
        obtain rfl : z_11 = w.2.2.2 := ez_11.trans rfl
        refine k_lc_ne (tgt := 44) hx hb dX5_isSame_36 dX5_isSame_37 (by decide) (fun c_12 => ?_) (fun c_12 => ?_)
        · refine lv_iconst (v := 0) hx hb dX5_isSame_44 (by decide) ?_
          exact k_zret () hx hb hr hlocks (by decide) (by simp [q_same, bI, c_3, c_6, c_9, c_12]) hP hD trivial hS (Nat.le_of_ble_eq_true rfl) (Nat.le_of_ble_eq_true rfl) dX5_isSame_45
        · refine lv_iconst (v := 1) hx hb dX5_isSame_40 (by decide) ?_
          refine lv_goto (tgt := 45) hx hb dX5_isSame_41 (by decide) ?_
          exact k_zret () hx hb hr hlocks (by decide) (by simp [q_same, bI, c_3, c_6, c_9, c_12]) hP hD trivial hS (Nat.le_of_ble_eq_true rfl) (Nat.le_of_ble_eq_true rfl) dX5_isSame_45
set_option maxHeartbeats 4000000 in
set_option maxRecDepth 100000 in
theorem ct_X5_floored {KN : State → Prop} (hk : KNok KN) (l : Launch) (D : va_G) (ca : Nat → ClassId) (zH : Nat) (a0 b0 : Int64) (hb0 : ¬ b0 = 0) : Met l yX5_floored (ws_ yX5_floored cX5_floored 6 (some .long)) ({ frames := 0, cells := 0, slots := 0, locals := 0 }) (va_Pc [.long a0, .long b0] (pr_ KN D ca [] zH (fun _ => True))) (qL D (fun (r : Int64) (u : Unit) => r = p_fl a0 b0) (fun u => []) (fun u H => True) (va_A [] zH)) 0 0 (va_A [] zH) := by
  refine k_ofW (Qc := qL D (fun (r : Int64) (u : Unit) => r = p_fl a0 b0) (fun u => []) (fun u H => True)) (by decide) (Nat.le_of_ble_eq_true rfl) ?_
  intro p e s m below meth c ls A H hH hx hb hr hts hown hlocks hnm hml hsz hP hD hK hN hA hAn hS hro hl
  have hl : lv_has ls 6 [(0, .long a0), (2, .long b0)] := hl
  refine lv_lload_n hx hb dX5_floored_0 rfl (lv_at hl 0 rfl) ?_
  refine lv_lload_n hx hb dX5_floored_1 rfl (lv_at hl 1 rfl) ?_
  refine lv_ldiv hx hb dX5_floored_2 hb0 ?_
  refine lv_lstore (lv' := [(4, .long (a0 / b0)), (0, .long a0), (2, .long b0)]) hx hb dX5_floored_3 hl (by decide) rfl (fun ls hl => ?_)
  refine lv_lload_n hx hb dX5_floored_5 rfl (lv_at hl 1 rfl) ?_
  refine lv_lload_n hx hb dX5_floored_6 rfl (lv_at hl 2 rfl) ?_
  refine lv_lrem hx hb dX5_floored_7 hb0 ?_
  refine lv_lconst (v := 0) hx hb dX5_floored_8 (by decide) ?_
  refine k_lc_eq (tgt := 26) hx hb dX5_floored_9 dX5_floored_10 (by decide) (fun c_1 => ?_) (fun c_1 => ?_)
  · refine lv_lload hx hb dX5_floored_26 (lv_at hl 0 rfl) ?_
    exact k_lret () hx hb hr hlocks (by simp [p_fl, c_1]) hP hD trivial hS (Nat.le_of_ble_eq_true rfl) (Nat.le_of_ble_eq_true rfl) dX5_floored_28
  · refine lv_lload_n hx hb dX5_floored_13 rfl (lv_at hl 1 rfl) ?_
    refine lv_lconst (v := 0) hx hb dX5_floored_14 (by decide) ?_
    refine k_lc_ge (tgt := 26) hx hb dX5_floored_15 dX5_floored_16 (by decide) (fun c_2 => ?_) (fun c_2 => ?_)
    · refine lv_lload hx hb dX5_floored_26 (lv_at hl 0 rfl) ?_
      exact k_lret () hx hb hr hlocks (by simp [p_fl, c_1, c_2]) hP hD trivial hS (Nat.le_of_ble_eq_true rfl) (Nat.le_of_ble_eq_true rfl) dX5_floored_28
    · refine lv_lload hx hb dX5_floored_19 (lv_at hl 0 rfl) ?_
      refine lv_lconst (v := 1) hx hb dX5_floored_21 (by decide) ?_
      refine lv_lsub hx hb dX5_floored_22 ?_
      refine lv_goto (tgt := 28) hx hb dX5_floored_23 (by decide) ?_
      exact k_lret () hx hb hr hlocks (by simp [p_fl, c_1, c_2]) hP hD trivial hS (Nat.le_of_ble_eq_true rfl) (Nat.le_of_ble_eq_true rfl) dX5_floored_28
set_option maxHeartbeats 4000000 in
set_option maxRecDepth 100000 in
theorem ct_J8_floorDiv {KN : State → Prop} (hk : KNok KN) (l : Launch) (D : va_G) (ca : Nat → ClassId) (zH : Nat) (a0 b0 : Int64) (hb0 : ¬ b0 = 0) : Met l yJ8_floorDiv (ws_ yJ8_floorDiv cJ8_floorDiv 6 (some .long)) ({ frames := 0, cells := 0, slots := 0, locals := 0 }) (va_Pc [.long a0, .long b0] (pr_ KN D ca [] zH (fun _ => True))) (qL D (fun (r : Int64) (u : Unit) => r = p_fd a0 b0) (fun u => []) (fun u H => True) (va_A [] zH)) 0 0 (va_A [] zH) := by
  refine k_ofW (Qc := qL D (fun (r : Int64) (u : Unit) => r = p_fd a0 b0) (fun u => []) (fun u H => True)) (by decide +kernel) (Nat.le_of_ble_eq_true rfl) ?_
  intro p e s m below meth c ls A H hH hx hb hr hts hown hlocks hnm hml hsz hP hD hK hN hA hAn hS hro hl
  have hl : lv_has ls 6 [(0, .long a0), (2, .long b0)] := hl
  refine lv_lload_n hx hb dJ8_floorDiv_0 rfl (lv_at hl 0 rfl) ?_
  refine lv_lload_n hx hb dJ8_floorDiv_1 rfl (lv_at hl 1 rfl) ?_
  refine lv_ldiv hx hb dJ8_floorDiv_2 hb0 ?_
  refine lv_lstore (lv' := [(4, .long (a0 / b0)), (0, .long a0), (2, .long b0)]) hx hb dJ8_floorDiv_3 hl (by decide) rfl (fun ls hl => ?_)
  refine lv_lload_n hx hb dJ8_floorDiv_5 rfl (lv_at hl 1 rfl) ?_
  refine lv_lload_n hx hb dJ8_floorDiv_6 rfl (lv_at hl 2 rfl) ?_
  refine lv_lxor hx hb dJ8_floorDiv_7 ?_
  refine lv_lconst (v := 0) hx hb dJ8_floorDiv_8 (by decide) ?_
  refine k_lc_ge (tgt := 27) hx hb dJ8_floorDiv_9 dJ8_floorDiv_10 (by decide) (fun c_1 => ?_) (fun c_1 => ?_)
  · refine lv_lload hx hb dJ8_floorDiv_27 (lv_at hl 0 rfl) ?_
    exact k_lret () hx hb hr hlocks (by simp [p_fd, c_1]) hP hD trivial hS (Nat.le_of_ble_eq_true rfl) (Nat.le_of_ble_eq_true rfl) dJ8_floorDiv_29
  · refine lv_lload hx hb dJ8_floorDiv_13 (lv_at hl 0 rfl) ?_
    refine lv_lload_n hx hb dJ8_floorDiv_15 rfl (lv_at hl 2 rfl) ?_
    refine lv_lmul hx hb dJ8_floorDiv_16 ?_
    refine lv_lload_n hx hb dJ8_floorDiv_17 rfl (lv_at hl 1 rfl) ?_
    refine k_lc_eq (tgt := 27) hx hb dJ8_floorDiv_18 dJ8_floorDiv_19 (by decide) (fun c_2 => ?_) (fun c_2 => ?_)
    · refine lv_lload hx hb dJ8_floorDiv_27 (lv_at hl 0 rfl) ?_
      exact k_lret () hx hb hr hlocks (by simp [p_fd, c_1, c_2]) hP hD trivial hS (Nat.le_of_ble_eq_true rfl) (Nat.le_of_ble_eq_true rfl) dJ8_floorDiv_29
    · refine lv_lload hx hb dJ8_floorDiv_22 (lv_at hl 0 rfl) ?_
      refine lv_lconst (v := 1) hx hb dJ8_floorDiv_24 (by decide) ?_
      refine lv_lsub hx hb dJ8_floorDiv_25 ?_
      exact k_lret () hx hb hr hlocks (by simp [p_fd, c_1, c_2]) hP hD trivial hS (Nat.le_of_ble_eq_true rfl) (Nat.le_of_ble_eq_true rfl) dJ8_floorDiv_26
set_option maxHeartbeats 4000000 in
set_option maxRecDepth 100000 in
theorem ct_X1_init {KN : State → Prop} (hk : KNok KN) (l : Launch) (D : va_G) (ca : Nat → ClassId) (zH : Nat) (h0 : Nat) (a0 b0 c0 d0 : Int64) (v : Q4)  : Met l yX1_init (ws_ yX1_init cX1_init 9 none) ({ frames := 1, cells := 0, slots := 0, locals := 20 }) (va_Pc [.ref h0, .long a0, .long b0, .long c0, .long d0] (pr_ KN D ca [(h0, f4 v)] zH (fun _ => True))) (qV D (fun (u : Unit) => True) (fun u => [(h0, f4 (a0, b0, c0, d0))]) (fun u H => True) (va_A [(h0, f4 v)] zH)) 0 0 (va_A [(h0, f4 v)] zH) := by
  refine k_ofW (Qc := qV D (fun (u : Unit) => True) (fun u => [(h0, f4 (a0, b0, c0, d0))]) (fun u H => True)) (by decide) (Nat.le_of_ble_eq_true rfl) ?_
  intro p e s m below meth c ls A H hH hx hb hr hts hown hlocks hnm hml hsz hP hD hK hN hA hAn hS hro hl
  have hl : lv_has ls 9 [(0, .ref h0), (1, .long a0), (3, .long b0), (5, .long c0), (7, .long d0)] := hl
  refine lv_aload_n hx hb dX1_init_0 rfl (lv_at hl 0 rfl) ?_
  refine W.objInit hx hb hown (hts _ q232) (hts _ q55) (hts _ q56) rfl (by rw [hml]; exact hl.1) rfl dX1_init_1 (Nat.le_of_ble_eq_true rfl) (Nat.le_of_ble_eq_true rfl) ?_
  refine W.eq (g2 := F0 m 4 ls []) rfl ?_
  refine lv_aload_n hx hb dX1_init_4 rfl (lv_at hl 0 rfl) ?_
  refine lv_lload_n hx hb dX1_init_5 rfl (lv_at hl 1 rfl) ?_
  refine va_putF (D := D) (ci := 1) (v := .long a0) (ty := .long) (C := RX1) (T := TX1) (N := 4) hx hb hts in_X1 tyX1 tyX1_ok nmX1 hown hK hP hD hS 0 rfl rfl 0 (by decide) (hts _ q233) (fun _ h9 => h9) rfl hnm rfl (by decide +kernel) rfl rfl (Nat.le_of_ble_eq_true rfl) dX1_init_6 (fun H locs hP hD hS => ?_)
  have hP : va_P D vwCl [(h0, .inr (1, [.long a0, .long v.2.1, .long v.2.2.1, .long v.2.2.2]))] H := hP
  have hD : va_D A [(h0, .inr (1, [.long a0, .long v.2.1, .long v.2.2.1, .long v.2.2.2]))] := hD
  refine lv_aload_n hx hb dX1_init_9 rfl (lv_at hl 0 rfl) ?_
  refine lv_lload_n hx hb dX1_init_10 rfl (lv_at hl 2 rfl) ?_
  refine va_putF (D := D) (ci := 1) (v := .long b0) (ty := .long) (C := RX1) (T := TX1) (N := 4) hx hb hts in_X1 tyX1 tyX1_ok nmX1 hown hK hP hD hS 0 rfl rfl 1 (by decide) (hts _ q235) (fun _ h9 => h9) rfl hnm rfl (by decide +kernel) rfl rfl (Nat.le_of_ble_eq_true rfl) dX1_init_11 (fun H locs hP hD hS => ?_)
  have hP : va_P D vwCl [(h0, .inr (1, [.long a0, .long b0, .long v.2.2.1, .long v.2.2.2]))] H := hP
  have hD : va_D A [(h0, .inr (1, [.long a0, .long b0, .long v.2.2.1, .long v.2.2.2]))] := hD
  refine lv_aload_n hx hb dX1_init_14 rfl (lv_at hl 0 rfl) ?_
  refine lv_lload hx hb dX1_init_15 (lv_at hl 3 rfl) ?_
  refine va_putF (D := D) (ci := 1) (v := .long c0) (ty := .long) (C := RX1) (T := TX1) (N := 4) hx hb hts in_X1 tyX1 tyX1_ok nmX1 hown hK hP hD hS 0 rfl rfl 2 (by decide) (hts _ q237) (fun _ h9 => h9) rfl hnm rfl (by decide +kernel) rfl rfl (Nat.le_of_ble_eq_true rfl) dX1_init_17 (fun H locs hP hD hS => ?_)
  have hP : va_P D vwCl [(h0, .inr (1, [.long a0, .long b0, .long c0, .long v.2.2.2]))] H := hP
  have hD : va_D A [(h0, .inr (1, [.long a0, .long b0, .long c0, .long v.2.2.2]))] := hD
  refine lv_aload_n hx hb dX1_init_20 rfl (lv_at hl 0 rfl) ?_
  refine lv_lload hx hb dX1_init_21 (lv_at hl 4 rfl) ?_
  refine va_putF (D := D) (ci := 1) (v := .long d0) (ty := .long) (C := RX1) (T := TX1) (N := 4) hx hb hts in_X1 tyX1 tyX1_ok nmX1 hown hK hP hD hS 0 rfl rfl 3 (by decide) (hts _ q239) (fun _ h9 => h9) rfl hnm rfl (by decide +kernel) rfl rfl (Nat.le_of_ble_eq_true rfl) dX1_init_23 (fun H locs hP hD hS => ?_)
  have hP : va_P D vwCl [(h0, .inr (1, [.long a0, .long b0, .long c0, .long d0]))] H := hP
  have hD : va_D A [(h0, .inr (1, [.long a0, .long b0, .long c0, .long d0]))] := hD
  exact k_vret () hx hb hr hlocks (trivial) hP hD trivial hS (Nat.le_of_ble_eq_true rfl) (Nat.le_of_ble_eq_true rfl) dX1_init_26
set_option maxHeartbeats 4000000 in
set_option maxRecDepth 100000 in
theorem ct_X1_part {KN : State → Prop} (hk : KNok KN) (l : Launch) (D : va_G) (ca : Nat → ClassId) (zH : Nat) (h0 : Nat) (k : Int32) (v : Q4)  : Met l yX1_part (ws_ yX1_part cX1_part 2 (some .long)) ({ frames := 0, cells := 0, slots := 0, locals := 0 }) (va_Pc [.ref h0, .int k] (pr_ KN D ca [] zH (fun H => Fo D H h0 v))) (qL D (fun (r : Int64) (u : Unit) => r = q_part v k) (fun u => []) (fun u H => True) (va_A [] zH)) 0 0 (va_A [] zH) := by
  refine k_ofW (Qc := qL D (fun (r : Int64) (u : Unit) => r = q_part v k) (fun u => []) (fun u H => True)) (by decide) (Nat.le_of_ble_eq_true rfl) ?_
  intro p e s m below meth c ls A H hH hx hb hr hts hown hlocks hnm hml hsz hP hD hK hN hA hAn hS hro hl
  have hl : lv_has ls 2 [(0, .ref h0), (1, .int k)] := hl
  have hF0 := hro
  have nF0 := k_new hAn hF0.lt
  refine lv_iload_n hx hb dX1_part_0 rfl (lv_at hl 1 rfl) ?_
  refine lv_if_ne (tgt := 11) hx hb dX1_part_1 (by decide) (fun c_1 => ?_) (fun c_1 => ?_)
  · refine lv_iload_n hx hb dX1_part_11 rfl (lv_at hl 1 rfl) ?_
    refine lv_iconst (v := 1) hx hb dX1_part_12 (by decide) ?_
    refine lv_icmp_ne (tgt := 23) hx hb dX1_part_13 (by decide) (fun c_2 => ?_) (fun c_2 => ?_)
    · refine lv_iload_n hx hb dX1_part_23 rfl (lv_at hl 1 rfl) ?_
      refine lv_iconst (v := 2) hx hb dX1_part_24 (by decide) ?_
      refine lv_icmp_ne (tgt := 35) hx hb dX1_part_25 (by decide) (fun c_3 => ?_) (fun c_3 => ?_)
      · refine lv_aload_n hx hb dX1_part_35 rfl (lv_at hl 0 rfl) ?_
        refine va_get (D := D) (ci := 1) (v := .long v.2.2.2) (C := RX1) (T := TX1) (N := 4) hx hb hts in_X1 hown hK (hF0.keep hS nF0) 0 rfl rfl 3 (by decide) (hts _ q239) (fun _ h9 => h9) rfl dX1_part_36 ?_
        exact k_lret () hx hb hr hlocks (by simp [q_part, c_1, c_2, c_3]) hP hD trivial hS (Nat.le_of_ble_eq_true rfl) (Nat.le_of_ble_eq_true rfl) dX1_part_39
      · refine lv_aload_n hx hb dX1_part_28 rfl (lv_at hl 0 rfl) ?_
        refine va_get (D := D) (ci := 1) (v := .long v.2.2.1) (C := RX1) (T := TX1) (N := 4) hx hb hts in_X1 hown hK (hF0.keep hS nF0) 0 rfl rfl 2 (by decide) (hts _ q237) (fun _ h9 => h9) rfl dX1_part_29 ?_
        refine lv_goto (tgt := 39) hx hb dX1_part_32 (by decide) ?_
        exact k_lret () hx hb hr hlocks (by simp [q_part, c_1, c_2, c_3]) hP hD trivial hS (Nat.le_of_ble_eq_true rfl) (Nat.le_of_ble_eq_true rfl) dX1_part_39
    · refine lv_aload_n hx hb dX1_part_16 rfl (lv_at hl 0 rfl) ?_
      refine va_get (D := D) (ci := 1) (v := .long v.2.1) (C := RX1) (T := TX1) (N := 4) hx hb hts in_X1 hown hK (hF0.keep hS nF0) 0 rfl rfl 1 (by decide) (hts _ q235) (fun _ h9 => h9) rfl dX1_part_17 ?_
      refine lv_goto (tgt := 39) hx hb dX1_part_20 (by decide) ?_
      exact k_lret () hx hb hr hlocks (by simp [q_part, c_1, c_2]) hP hD trivial hS (Nat.le_of_ble_eq_true rfl) (Nat.le_of_ble_eq_true rfl) dX1_part_39
  · refine lv_aload_n hx hb dX1_part_4 rfl (lv_at hl 0 rfl) ?_
    refine va_get (D := D) (ci := 1) (v := .long v.1) (C := RX1) (T := TX1) (N := 4) hx hb hts in_X1 hown hK (hF0.keep hS nF0) 0 rfl rfl 0 (by decide) (hts _ q233) (fun _ h9 => h9) rfl dX1_part_5 ?_
    refine lv_goto (tgt := 39) hx hb dX1_part_8 (by decide) ?_
    exact k_lret () hx hb hr hlocks (by simp [q_part, c_1]) hP hD trivial hS (Nat.le_of_ble_eq_true rfl) (Nat.le_of_ble_eq_true rfl) dX1_part_39
set_option maxHeartbeats 4000000 in
set_option maxRecDepth 100000 in
theorem ct_X1_mirror {KN : State → Prop} (hk : KNok KN) (l : Launch) (D : va_G) (ca : Nat → ClassId) (zH : Nat) (h0 : Nat) (v : Q4)  : Met l yX1_mirror (ws_ yX1_mirror cX1_mirror 1 (some (.object "FourParts$Four"))) ({ frames := 2, cells := 1, slots := 4, locals := 48 }) (va_Pc [.ref h0] (pr_ KN D ca [] zH (fun H => Fo D H h0 v))) (qR D (fun (u : Unit) => True) (fun u a => [(a, f4 (q_mirror v))]) (fun u a H => True) (va_A [] zH)) 1 4 (va_A [] zH) := by
  refine k_ofW (Qc := qR D (fun (u : Unit) => True) (fun u a => [(a, f4 (q_mirror v))]) (fun u a H => True)) (by decide) (Nat.le_of_ble_eq_true rfl) ?_
  intro p e s m below meth c ls A H hH hx hb hr hts hown hlocks hnm hml hsz hP hD hK hN hA hAn hS hro hl
  have hl : lv_has ls 1 [(0, .ref h0)] := hl
  have hF0 := hro
  have nF0 := k_new hAn hF0.lt
  refine va_new (ci := 1) (fs := [.long 0, .long 0, .long 0, .long 0]) (C := RX1) (T := TX1) (N := 4) hx hb hts in_X1 tyX1 tyX1_ok hown (hts _ q389) (hts _ q228) (hts _ q20) hK hP hD hS hA rfl (fun j hj => by rcases (show j = 0 ∨ j = 1 ∨ j = 2 ∨ j = 3 by omega) with rfl | rfl | rfl | rfl <;> rfl) (Nat.le_of_ble_eq_true rfl) (Nat.le_of_ble_eq_true rfl) dX1_mirror_0 (fun q_1 H hP hD hS => ?_)
  have hP : va_P D vwCl [(q_1, .inr (1, [.long 0, .long 0, .long 0, .long 0]))] H := hP
  have hD : va_D A [(q_1, .inr (1, [.long 0, .long 0, .long 0, .long 0]))] := hD
  refine lv_dup hx hb dX1_mirror_3 rfl ?_
  refine lv_aload_n hx hb dX1_mirror_4 rfl (lv_at hl 0 rfl) ?_
  refine va_get (D := D) (ci := 1) (v := .long v.1) (C := RX1) (T := TX1) (N := 4) hx hb hts in_X1 hown hK (hF0.keep hS nF0) 0 rfl rfl 0 (by decide) (hts _ q233) (fun _ h9 => h9) rfl dX1_mirror_5 ?_
  refine lv_aload_n hx hb dX1_mirror_8 rfl (lv_at hl 0 rfl) ?_
  refine va_get (D := D) (ci := 1) (v := .long v.2.1) (C := RX1) (T := TX1) (N := 4) hx hb hts in_X1 hown hK (hF0.keep hS nF0) 0 rfl rfl 1 (by decide) (hts _ q235) (fun _ h9 => h9) rfl dX1_mirror_9 ?_
  refine lv_lneg hx hb dX1_mirror_12 ?_
  refine lv_aload_n hx hb dX1_mirror_13 rfl (lv_at hl 0 rfl) ?_
  refine va_get (D := D) (ci := 1) (v := .long v.2.2.1) (C := RX1) (T := TX1) (N := 4) hx hb hts in_X1 hown hK (hF0.keep hS nF0) 0 rfl rfl 2 (by decide) (hts _ q237) (fun _ h9 => h9) rfl dX1_mirror_14 ?_
  refine lv_lneg hx hb dX1_mirror_17 ?_
  refine lv_aload_n hx hb dX1_mirror_18 rfl (lv_at hl 0 rfl) ?_
  refine va_get (D := D) (ci := 1) (v := .long v.2.2.2) (C := RX1) (T := TX1) (N := 4) hx hb hts in_X1 hown hK (hF0.keep hS nF0) 0 rfl rfl 3 (by decide) (hts _ q239) (fun _ h9 => h9) rfl dX1_mirror_19 ?_
  refine lv_lneg hx hb dX1_mirror_22 ?_
  refine k_callv (wr := []) (va_runI (As := [.long v.1, .long (-v.2.1), .long (-v.2.2.1), .long (-v.2.2.2)]) (rest := [.ref q_1]) ⟨hx, hb, hml, hown, hts⟩ (ct_X1_init hk l D ca H.size q_1 v.1 (-v.2.1) (-v.2.2.1) (-v.2.2.2) (0, 0, 0, 0)) (cwI 4 hts (lw_meth q231) rfl rfl rfl (hts _ q20) (hts _ q390) (hts _ q230) rfl (by decide +kernel) ⟨Nat.le_of_ble_eq_true rfl, Nat.le_of_ble_eq_true rfl⟩) (k_pre hk hK hN hP hD [0] (by decide) rfl trivial) rfl rfl hl.1 rfl (lv_room (Nat.le_of_ble_eq_true rfl)) dX1_mirror_23 ⟨Nat.le_of_ble_eq_true rfl, Nat.le_of_ble_eq_true rfl⟩) hP hD hS hA [0] [] rfl rfl (by decide) (by decide) (fun u_3 H locs w_4 hP hD hxw_4 hzw_4 hqw_4 hS => ?_)
  have hP : va_P D vwCl [(q_1, f4 (v.1, -v.2.1, -v.2.2.1, -v.2.2.2))] H := hP
  have hD : va_D A [(q_1, f4 (v.1, -v.2.1, -v.2.2.1, -v.2.2.2))] := hD
  exact k_aret () hx hb hr (Or.inl ⟨_, rfl⟩) hlocks (trivial) hP hD trivial hS (Nat.le_of_ble_eq_true rfl) (Nat.le_of_ble_eq_true rfl) dX1_mirror_26
set_option maxHeartbeats 4000000 in
set_option maxRecDepth 100000 in
theorem ct_X1_times {KN : State → Prop} (hk : KNok KN) (l : Launch) (D : va_G) (ca : Nat → ClassId) (zH : Nat) (h0 h1 : Nat) (v w : Q4)  : Met l yX1_times (ws_ yX1_times cX1_times 2 (some (.object "FourParts$Four"))) ({ frames := 2, cells := 1, slots := 4, locals := 48 }) (va_Pc [.ref h0, .ref h1] (pr_ KN D ca [] zH (fun H => Fo D H h0 v ∧ Fo D H h1 w))) (qR D (fun (u : Unit) => True) (fun u a => [(a, f4 (q_times v w))]) (fun u a H => True) (va_A [] zH)) 1 4 (va_A [] zH) := by
  refine k_ofW (Qc := qR D (fun (u : Unit) => True) (fun u a => [(a, f4 (q_times v w))]) (fun u a H => True)) (by decide) (Nat.le_of_ble_eq_true rfl) ?_
  intro p e s m below meth c ls A H hH hx hb hr hts hown hlocks hnm hml hsz hP hD hK hN hA hAn hS hro hl
  have hl : lv_has ls 2 [(0, .ref h0), (1, .ref h1)] := hl
  obtain ⟨hF0, hF1⟩ := hro
  have nF0 := k_new hAn hF0.lt
  have nF1 := k_new hAn hF1.lt
  refine va_new (ci := 1) (fs := [.long 0, .long 0, .long 0, .long 0]) (C := RX1) (T := TX1) (N := 4) hx hb hts in_X1 tyX1 tyX1_ok hown (hts _ q389) (hts _ q228) (hts _ q20) hK hP hD hS hA rfl (fun j hj => by rcases (show j = 0 ∨ j = 1 ∨ j = 2 ∨ j = 3 by omega) with rfl | rfl | rfl | rfl <;> rfl) (Nat.le_of_ble_eq_true rfl) (Nat.le_of_ble_eq_true rfl) dX1_times_0 (fun q_1 H hP hD hS => ?_)
  have hP : va_P D vwCl [(q_1, .inr (1, [.long 0, .long 0, .long 0, .long 0]))] H := hP
  have hD : va_D A [(q_1, .inr (1, [.long 0, .long 0, .long 0, .long 0]))] := hD
  refine lv_dup hx hb dX1_times_3 rfl ?_
  refine lv_aload_n hx hb dX1_times_4 rfl (lv_at hl 0 rfl) ?_
  refine va_get (D := D) (ci := 1) (v := .long v.1) (C := RX1) (T := TX1) (N := 4) hx hb hts in_X1 hown hK (hF0.keep hS nF0) 0 rfl rfl 0 (by decide) (hts _ q233) (fun _ h9 => h9) rfl dX1_times_5 ?_
  refine lv_aload_n hx hb dX1_times_8 rfl (lv_at hl 1 rfl) ?_
  refine va_get (D := D) (ci := 1) (v := .long w.1) (C := RX1) (T := TX1) (N := 4) hx hb hts in_X1 hown hK (hF1.keep hS nF1) 0 rfl rfl 0 (by decide) (hts _ q233) (fun _ h9 => h9) rfl dX1_times_9 ?_
  refine lv_lmul hx hb dX1_times_12 ?_
  refine lv_aload_n hx hb dX1_times_13 rfl (lv_at hl 0 rfl) ?_
  refine va_get (D := D) (ci := 1) (v := .long v.2.1) (C := RX1) (T := TX1) (N := 4) hx hb hts in_X1 hown hK (hF0.keep hS nF0) 0 rfl rfl 1 (by decide) (hts _ q235) (fun _ h9 => h9) rfl dX1_times_14 ?_
  refine lv_aload_n hx hb dX1_times_17 rfl (lv_at hl 1 rfl) ?_
  refine va_get (D := D) (ci := 1) (v := .long w.2.1) (C := RX1) (T := TX1) (N := 4) hx hb hts in_X1 hown hK (hF1.keep hS nF1) 0 rfl rfl 1 (by decide) (hts _ q235) (fun _ h9 => h9) rfl dX1_times_18 ?_
  refine lv_lmul hx hb dX1_times_21 ?_
  refine lv_lsub hx hb dX1_times_22 ?_
  refine lv_aload_n hx hb dX1_times_23 rfl (lv_at hl 0 rfl) ?_
  refine va_get (D := D) (ci := 1) (v := .long v.2.2.1) (C := RX1) (T := TX1) (N := 4) hx hb hts in_X1 hown hK (hF0.keep hS nF0) 0 rfl rfl 2 (by decide) (hts _ q237) (fun _ h9 => h9) rfl dX1_times_24 ?_
  refine lv_aload_n hx hb dX1_times_27 rfl (lv_at hl 1 rfl) ?_
  refine va_get (D := D) (ci := 1) (v := .long w.2.2.1) (C := RX1) (T := TX1) (N := 4) hx hb hts in_X1 hown hK (hF1.keep hS nF1) 0 rfl rfl 2 (by decide) (hts _ q237) (fun _ h9 => h9) rfl dX1_times_28 ?_
  refine lv_lmul hx hb dX1_times_31 ?_
  refine lv_lsub hx hb dX1_times_32 ?_
  refine lv_aload_n hx hb dX1_times_33 rfl (lv_at hl 0 rfl) ?_
  refine va_get (D := D) (ci := 1) (v := .long v.2.2.2) (C := RX1) (T := TX1) (N := 4) hx hb hts in_X1 hown hK (hF0.keep hS nF0) 0 rfl rfl 3 (by decide) (hts _ q239) (fun _ h9 => h9) rfl dX1_times_34 ?_
  refine lv_aload_n hx hb dX1_times_37 rfl (lv_at hl 1 rfl) ?_
  refine va_get (D := D) (ci := 1) (v := .long w.2.2.2) (C := RX1) (T := TX1) (N := 4) hx hb hts in_X1 hown hK (hF1.keep hS nF1) 0 rfl rfl 3 (by decide) (hts _ q239) (fun _ h9 => h9) rfl dX1_times_38 ?_
  refine lv_lmul hx hb dX1_times_41 ?_
  refine lv_lsub hx hb dX1_times_42 ?_
  refine lv_ldc2 hx hb hown (hts _ q371) dX1_times_43 ?_
  refine lv_ldiv hx hb dX1_times_46 (by decide) ?_
  refine lv_aload_n hx hb dX1_times_47 rfl (lv_at hl 0 rfl) ?_
  refine va_get (D := D) (ci := 1) (v := .long v.1) (C := RX1) (T := TX1) (N := 4) hx hb hts in_X1 hown hK (hF0.keep hS nF0) 0 rfl rfl 0 (by decide) (hts _ q233) (fun _ h9 => h9) rfl dX1_times_48 ?_
  refine lv_aload_n hx hb dX1_times_51 rfl (lv_at hl 1 rfl) ?_
  refine va_get (D := D) (ci := 1) (v := .long w.2.1) (C := RX1) (T := TX1) (N := 4) hx hb hts in_X1 hown hK (hF1.keep hS nF1) 0 rfl rfl 1 (by decide) (hts _ q235) (fun _ h9 => h9) rfl dX1_times_52 ?_
  refine lv_lmul hx hb dX1_times_55 ?_
  refine lv_aload_n hx hb dX1_times_56 rfl (lv_at hl 0 rfl) ?_
  refine va_get (D := D) (ci := 1) (v := .long v.2.1) (C := RX1) (T := TX1) (N := 4) hx hb hts in_X1 hown hK (hF0.keep hS nF0) 0 rfl rfl 1 (by decide) (hts _ q235) (fun _ h9 => h9) rfl dX1_times_57 ?_
  refine lv_aload_n hx hb dX1_times_60 rfl (lv_at hl 1 rfl) ?_
  refine va_get (D := D) (ci := 1) (v := .long w.1) (C := RX1) (T := TX1) (N := 4) hx hb hts in_X1 hown hK (hF1.keep hS nF1) 0 rfl rfl 0 (by decide) (hts _ q233) (fun _ h9 => h9) rfl dX1_times_61 ?_
  refine lv_lmul hx hb dX1_times_64 ?_
  refine lv_ladd hx hb dX1_times_65 ?_
  refine lv_aload_n hx hb dX1_times_66 rfl (lv_at hl 0 rfl) ?_
  refine va_get (D := D) (ci := 1) (v := .long v.2.2.1) (C := RX1) (T := TX1) (N := 4) hx hb hts in_X1 hown hK (hF0.keep hS nF0) 0 rfl rfl 2 (by decide) (hts _ q237) (fun _ h9 => h9) rfl dX1_times_67 ?_
  refine lv_aload_n hx hb dX1_times_70 rfl (lv_at hl 1 rfl) ?_
  refine va_get (D := D) (ci := 1) (v := .long w.2.2.2) (C := RX1) (T := TX1) (N := 4) hx hb hts in_X1 hown hK (hF1.keep hS nF1) 0 rfl rfl 3 (by decide) (hts _ q239) (fun _ h9 => h9) rfl dX1_times_71 ?_
  refine lv_lmul hx hb dX1_times_74 ?_
  refine lv_ladd hx hb dX1_times_75 ?_
  refine lv_aload_n hx hb dX1_times_76 rfl (lv_at hl 0 rfl) ?_
  refine va_get (D := D) (ci := 1) (v := .long v.2.2.2) (C := RX1) (T := TX1) (N := 4) hx hb hts in_X1 hown hK (hF0.keep hS nF0) 0 rfl rfl 3 (by decide) (hts _ q239) (fun _ h9 => h9) rfl dX1_times_77 ?_
  refine lv_aload_n hx hb dX1_times_80 rfl (lv_at hl 1 rfl) ?_
  refine va_get (D := D) (ci := 1) (v := .long w.2.2.1) (C := RX1) (T := TX1) (N := 4) hx hb hts in_X1 hown hK (hF1.keep hS nF1) 0 rfl rfl 2 (by decide) (hts _ q237) (fun _ h9 => h9) rfl dX1_times_81 ?_
  refine lv_lmul hx hb dX1_times_84 ?_
  refine lv_lsub hx hb dX1_times_85 ?_
  refine lv_ldc2 hx hb hown (hts _ q371) dX1_times_86 ?_
  refine lv_ldiv hx hb dX1_times_89 (by decide) ?_
  refine lv_aload_n hx hb dX1_times_90 rfl (lv_at hl 0 rfl) ?_
  refine va_get (D := D) (ci := 1) (v := .long v.1) (C := RX1) (T := TX1) (N := 4) hx hb hts in_X1 hown hK (hF0.keep hS nF0) 0 rfl rfl 0 (by decide) (hts _ q233) (fun _ h9 => h9) rfl dX1_times_91 ?_
  refine lv_aload_n hx hb dX1_times_94 rfl (lv_at hl 1 rfl) ?_
  refine va_get (D := D) (ci := 1) (v := .long w.2.2.1) (C := RX1) (T := TX1) (N := 4) hx hb hts in_X1 hown hK (hF1.keep hS nF1) 0 rfl rfl 2 (by decide) (hts _ q237) (fun _ h9 => h9) rfl dX1_times_95 ?_
  refine lv_lmul hx hb dX1_times_98 ?_
  refine lv_aload_n hx hb dX1_times_99 rfl (lv_at hl 0 rfl) ?_
  refine va_get (D := D) (ci := 1) (v := .long v.2.1) (C := RX1) (T := TX1) (N := 4) hx hb hts in_X1 hown hK (hF0.keep hS nF0) 0 rfl rfl 1 (by decide) (hts _ q235) (fun _ h9 => h9) rfl dX1_times_100 ?_
  refine lv_aload_n hx hb dX1_times_103 rfl (lv_at hl 1 rfl) ?_
  refine va_get (D := D) (ci := 1) (v := .long w.2.2.2) (C := RX1) (T := TX1) (N := 4) hx hb hts in_X1 hown hK (hF1.keep hS nF1) 0 rfl rfl 3 (by decide) (hts _ q239) (fun _ h9 => h9) rfl dX1_times_104 ?_
  refine lv_lmul hx hb dX1_times_107 ?_
  refine lv_lsub hx hb dX1_times_108 ?_
  refine lv_aload_n hx hb dX1_times_109 rfl (lv_at hl 0 rfl) ?_
  refine va_get (D := D) (ci := 1) (v := .long v.2.2.1) (C := RX1) (T := TX1) (N := 4) hx hb hts in_X1 hown hK (hF0.keep hS nF0) 0 rfl rfl 2 (by decide) (hts _ q237) (fun _ h9 => h9) rfl dX1_times_110 ?_
  refine lv_aload_n hx hb dX1_times_113 rfl (lv_at hl 1 rfl) ?_
  refine va_get (D := D) (ci := 1) (v := .long w.1) (C := RX1) (T := TX1) (N := 4) hx hb hts in_X1 hown hK (hF1.keep hS nF1) 0 rfl rfl 0 (by decide) (hts _ q233) (fun _ h9 => h9) rfl dX1_times_114 ?_
  refine lv_lmul hx hb dX1_times_117 ?_
  refine lv_ladd hx hb dX1_times_118 ?_
  refine lv_aload_n hx hb dX1_times_119 rfl (lv_at hl 0 rfl) ?_
  refine va_get (D := D) (ci := 1) (v := .long v.2.2.2) (C := RX1) (T := TX1) (N := 4) hx hb hts in_X1 hown hK (hF0.keep hS nF0) 0 rfl rfl 3 (by decide) (hts _ q239) (fun _ h9 => h9) rfl dX1_times_120 ?_
  refine lv_aload_n hx hb dX1_times_123 rfl (lv_at hl 1 rfl) ?_
  refine va_get (D := D) (ci := 1) (v := .long w.2.1) (C := RX1) (T := TX1) (N := 4) hx hb hts in_X1 hown hK (hF1.keep hS nF1) 0 rfl rfl 1 (by decide) (hts _ q235) (fun _ h9 => h9) rfl dX1_times_124 ?_
  refine lv_lmul hx hb dX1_times_127 ?_
  refine lv_ladd hx hb dX1_times_128 ?_
  refine lv_ldc2 hx hb hown (hts _ q371) dX1_times_129 ?_
  refine lv_ldiv hx hb dX1_times_132 (by decide) ?_
  refine lv_aload_n hx hb dX1_times_133 rfl (lv_at hl 0 rfl) ?_
  refine va_get (D := D) (ci := 1) (v := .long v.1) (C := RX1) (T := TX1) (N := 4) hx hb hts in_X1 hown hK (hF0.keep hS nF0) 0 rfl rfl 0 (by decide) (hts _ q233) (fun _ h9 => h9) rfl dX1_times_134 ?_
  refine lv_aload_n hx hb dX1_times_137 rfl (lv_at hl 1 rfl) ?_
  refine va_get (D := D) (ci := 1) (v := .long w.2.2.2) (C := RX1) (T := TX1) (N := 4) hx hb hts in_X1 hown hK (hF1.keep hS nF1) 0 rfl rfl 3 (by decide) (hts _ q239) (fun _ h9 => h9) rfl dX1_times_138 ?_
  refine lv_lmul hx hb dX1_times_141 ?_
  refine lv_aload_n hx hb dX1_times_142 rfl (lv_at hl 0 rfl) ?_
  refine va_get (D := D) (ci := 1) (v := .long v.2.1) (C := RX1) (T := TX1) (N := 4) hx hb hts in_X1 hown hK (hF0.keep hS nF0) 0 rfl rfl 1 (by decide) (hts _ q235) (fun _ h9 => h9) rfl dX1_times_143 ?_
  refine lv_aload_n hx hb dX1_times_146 rfl (lv_at hl 1 rfl) ?_
  refine va_get (D := D) (ci := 1) (v := .long w.2.2.1) (C := RX1) (T := TX1) (N := 4) hx hb hts in_X1 hown hK (hF1.keep hS nF1) 0 rfl rfl 2 (by decide) (hts _ q237) (fun _ h9 => h9) rfl dX1_times_147 ?_
  refine lv_lmul hx hb dX1_times_150 ?_
  refine lv_ladd hx hb dX1_times_151 ?_
  refine lv_aload_n hx hb dX1_times_152 rfl (lv_at hl 0 rfl) ?_
  refine va_get (D := D) (ci := 1) (v := .long v.2.2.1) (C := RX1) (T := TX1) (N := 4) hx hb hts in_X1 hown hK (hF0.keep hS nF0) 0 rfl rfl 2 (by decide) (hts _ q237) (fun _ h9 => h9) rfl dX1_times_153 ?_
  refine lv_aload_n hx hb dX1_times_156 rfl (lv_at hl 1 rfl) ?_
  refine va_get (D := D) (ci := 1) (v := .long w.2.1) (C := RX1) (T := TX1) (N := 4) hx hb hts in_X1 hown hK (hF1.keep hS nF1) 0 rfl rfl 1 (by decide) (hts _ q235) (fun _ h9 => h9) rfl dX1_times_157 ?_
  refine lv_lmul hx hb dX1_times_160 ?_
  refine lv_lsub hx hb dX1_times_161 ?_
  refine lv_aload_n hx hb dX1_times_162 rfl (lv_at hl 0 rfl) ?_
  refine va_get (D := D) (ci := 1) (v := .long v.2.2.2) (C := RX1) (T := TX1) (N := 4) hx hb hts in_X1 hown hK (hF0.keep hS nF0) 0 rfl rfl 3 (by decide) (hts _ q239) (fun _ h9 => h9) rfl dX1_times_163 ?_
  refine lv_aload_n hx hb dX1_times_166 rfl (lv_at hl 1 rfl) ?_
  refine va_get (D := D) (ci := 1) (v := .long w.1) (C := RX1) (T := TX1) (N := 4) hx hb hts in_X1 hown hK (hF1.keep hS nF1) 0 rfl rfl 0 (by decide) (hts _ q233) (fun _ h9 => h9) rfl dX1_times_167 ?_
  refine lv_lmul hx hb dX1_times_170 ?_
  refine lv_ladd hx hb dX1_times_171 ?_
  refine lv_ldc2 hx hb hown (hts _ q371) dX1_times_172 ?_
  refine lv_ldiv hx hb dX1_times_175 (by decide) ?_
  refine k_callv (wr := []) (va_runI (As := [.long (((((v.1 * w.1) - (v.2.1 * w.2.1)) - (v.2.2.1 * w.2.2.1)) - (v.2.2.2 * w.2.2.2)) / 2), .long (((((v.1 * w.2.1) + (v.2.1 * w.1)) + (v.2.2.1 * w.2.2.2)) - (v.2.2.2 * w.2.2.1)) / 2), .long (((((v.1 * w.2.2.1) - (v.2.1 * w.2.2.2)) + (v.2.2.1 * w.1)) + (v.2.2.2 * w.2.1)) / 2), .long (((((v.1 * w.2.2.2) + (v.2.1 * w.2.2.1)) - (v.2.2.1 * w.2.1)) + (v.2.2.2 * w.1)) / 2)]) (rest := [.ref q_1]) ⟨hx, hb, hml, hown, hts⟩ (ct_X1_init hk l D ca H.size q_1 (((((v.1 * w.1) - (v.2.1 * w.2.1)) - (v.2.2.1 * w.2.2.1)) - (v.2.2.2 * w.2.2.2)) / 2) (((((v.1 * w.2.1) + (v.2.1 * w.1)) + (v.2.2.1 * w.2.2.2)) - (v.2.2.2 * w.2.2.1)) / 2) (((((v.1 * w.2.2.1) - (v.2.1 * w.2.2.2)) + (v.2.2.1 * w.1)) + (v.2.2.2 * w.2.1)) / 2) (((((v.1 * w.2.2.2) + (v.2.1 * w.2.2.1)) - (v.2.2.1 * w.2.1)) + (v.2.2.2 * w.1)) / 2) (0, 0, 0, 0)) (cwI 4 hts (lw_meth q231) rfl rfl rfl (hts _ q20) (hts _ q390) (hts _ q230) rfl (by decide +kernel) ⟨Nat.le_of_ble_eq_true rfl, Nat.le_of_ble_eq_true rfl⟩) (k_pre hk hK hN hP hD [0] (by decide) rfl trivial) rfl rfl hl.1 rfl (lv_room (Nat.le_of_ble_eq_true rfl)) dX1_times_176 ⟨Nat.le_of_ble_eq_true rfl, Nat.le_of_ble_eq_true rfl⟩) hP hD hS hA [0] [] rfl rfl (by decide) (by decide) (fun u_3 H locs w_4 hP hD hxw_4 hzw_4 hqw_4 hS => ?_)
  have hP : va_P D vwCl [(q_1, f4 (((((v.1 * w.1) - (v.2.1 * w.2.1)) - (v.2.2.1 * w.2.2.1)) - (v.2.2.2 * w.2.2.2)) / 2, ((((v.1 * w.2.1) + (v.2.1 * w.1)) + (v.2.2.1 * w.2.2.2)) - (v.2.2.2 * w.2.2.1)) / 2, ((((v.1 * w.2.2.1) - (v.2.1 * w.2.2.2)) + (v.2.2.1 * w.1)) + (v.2.2.2 * w.2.1)) / 2, ((((v.1 * w.2.2.2) + (v.2.1 * w.2.2.1)) - (v.2.2.1 * w.2.1)) + (v.2.2.2 * w.1)) / 2))] H := hP
  have hD : va_D A [(q_1, f4 (((((v.1 * w.1) - (v.2.1 * w.2.1)) - (v.2.2.1 * w.2.2.1)) - (v.2.2.2 * w.2.2.2)) / 2, ((((v.1 * w.2.1) + (v.2.1 * w.1)) + (v.2.2.1 * w.2.2.2)) - (v.2.2.2 * w.2.2.1)) / 2, ((((v.1 * w.2.2.1) - (v.2.1 * w.2.2.2)) + (v.2.2.1 * w.1)) + (v.2.2.2 * w.2.1)) / 2, ((((v.1 * w.2.2.2) + (v.2.1 * w.2.2.1)) - (v.2.2.1 * w.2.1)) + (v.2.2.2 * w.1)) / 2))] := hD
  exact k_aret () hx hb hr (Or.inl ⟨_, rfl⟩) hlocks (trivial) hP hD trivial hS (Nat.le_of_ble_eq_true rfl) (Nat.le_of_ble_eq_true rfl) dX1_times_179
set_option maxHeartbeats 4000000 in
set_option maxRecDepth 100000 in
theorem ct_X1_plus {KN : State → Prop} (hk : KNok KN) (l : Launch) (D : va_G) (ca : Nat → ClassId) (zH : Nat) (h0 h1 : Nat) (t0 : Int64) (v w : Q4)  : Met l yX1_plus (ws_ yX1_plus cX1_plus 4 (some (.object "FourParts$Four"))) ({ frames := 2, cells := 1, slots := 4, locals := 48 }) (va_Pc [.ref h0, .ref h1, .long t0] (pr_ KN D ca [] zH (fun H => Fo D H h0 v ∧ Fo D H h1 w))) (qR D (fun (u : Unit) => True) (fun u a => [(a, f4 (q_plus v w t0))]) (fun u a H => True) (va_A [] zH)) 1 4 (va_A [] zH) := by
  refine k_ofW (Qc := qR D (fun (u : Unit) => True) (fun u a => [(a, f4 (q_plus v w t0))]) (fun u a H => True)) (by decide) (Nat.le_of_ble_eq_true rfl) ?_
  intro p e s m below meth c ls A H hH hx hb hr hts hown hlocks hnm hml hsz hP hD hK hN hA hAn hS hro hl
  have hl : lv_has ls 4 [(0, .ref h0), (1, .ref h1), (2, .long t0)] := hl
  obtain ⟨hF0, hF1⟩ := hro
  have nF0 := k_new hAn hF0.lt
  have nF1 := k_new hAn hF1.lt
  refine va_new (ci := 1) (fs := [.long 0, .long 0, .long 0, .long 0]) (C := RX1) (T := TX1) (N := 4) hx hb hts in_X1 tyX1 tyX1_ok hown (hts _ q389) (hts _ q228) (hts _ q20) hK hP hD hS hA rfl (fun j hj => by rcases (show j = 0 ∨ j = 1 ∨ j = 2 ∨ j = 3 by omega) with rfl | rfl | rfl | rfl <;> rfl) (Nat.le_of_ble_eq_true rfl) (Nat.le_of_ble_eq_true rfl) dX1_plus_0 (fun q_1 H hP hD hS => ?_)
  have hP : va_P D vwCl [(q_1, .inr (1, [.long 0, .long 0, .long 0, .long 0]))] H := hP
  have hD : va_D A [(q_1, .inr (1, [.long 0, .long 0, .long 0, .long 0]))] := hD
  refine lv_dup hx hb dX1_plus_3 rfl ?_
  refine lv_aload_n hx hb dX1_plus_4 rfl (lv_at hl 0 rfl) ?_
  refine va_get (D := D) (ci := 1) (v := .long v.1) (C := RX1) (T := TX1) (N := 4) hx hb hts in_X1 hown hK (hF0.keep hS nF0) 0 rfl rfl 0 (by decide) (hts _ q233) (fun _ h9 => h9) rfl dX1_plus_5 ?_
  refine lv_lload_n hx hb dX1_plus_8 rfl (lv_at hl 2 rfl) ?_
  refine lv_aload_n hx hb dX1_plus_9 rfl (lv_at hl 1 rfl) ?_
  refine va_get (D := D) (ci := 1) (v := .long w.1) (C := RX1) (T := TX1) (N := 4) hx hb hts in_X1 hown hK (hF1.keep hS nF1) 0 rfl rfl 0 (by decide) (hts _ q233) (fun _ h9 => h9) rfl dX1_plus_10 ?_
  refine lv_lmul hx hb dX1_plus_13 ?_
  refine lv_ladd hx hb dX1_plus_14 ?_
  refine lv_aload_n hx hb dX1_plus_15 rfl (lv_at hl 0 rfl) ?_
  refine va_get (D := D) (ci := 1) (v := .long v.2.1) (C := RX1) (T := TX1) (N := 4) hx hb hts in_X1 hown hK (hF0.keep hS nF0) 0 rfl rfl 1 (by decide) (hts _ q235) (fun _ h9 => h9) rfl dX1_plus_16 ?_
  refine lv_lload_n hx hb dX1_plus_19 rfl (lv_at hl 2 rfl) ?_
  refine lv_aload_n hx hb dX1_plus_20 rfl (lv_at hl 1 rfl) ?_
  refine va_get (D := D) (ci := 1) (v := .long w.2.1) (C := RX1) (T := TX1) (N := 4) hx hb hts in_X1 hown hK (hF1.keep hS nF1) 0 rfl rfl 1 (by decide) (hts _ q235) (fun _ h9 => h9) rfl dX1_plus_21 ?_
  refine lv_lmul hx hb dX1_plus_24 ?_
  refine lv_ladd hx hb dX1_plus_25 ?_
  refine lv_aload_n hx hb dX1_plus_26 rfl (lv_at hl 0 rfl) ?_
  refine va_get (D := D) (ci := 1) (v := .long v.2.2.1) (C := RX1) (T := TX1) (N := 4) hx hb hts in_X1 hown hK (hF0.keep hS nF0) 0 rfl rfl 2 (by decide) (hts _ q237) (fun _ h9 => h9) rfl dX1_plus_27 ?_
  refine lv_lload_n hx hb dX1_plus_30 rfl (lv_at hl 2 rfl) ?_
  refine lv_aload_n hx hb dX1_plus_31 rfl (lv_at hl 1 rfl) ?_
  refine va_get (D := D) (ci := 1) (v := .long w.2.2.1) (C := RX1) (T := TX1) (N := 4) hx hb hts in_X1 hown hK (hF1.keep hS nF1) 0 rfl rfl 2 (by decide) (hts _ q237) (fun _ h9 => h9) rfl dX1_plus_32 ?_
  refine lv_lmul hx hb dX1_plus_35 ?_
  refine lv_ladd hx hb dX1_plus_36 ?_
  refine lv_aload_n hx hb dX1_plus_37 rfl (lv_at hl 0 rfl) ?_
  refine va_get (D := D) (ci := 1) (v := .long v.2.2.2) (C := RX1) (T := TX1) (N := 4) hx hb hts in_X1 hown hK (hF0.keep hS nF0) 0 rfl rfl 3 (by decide) (hts _ q239) (fun _ h9 => h9) rfl dX1_plus_38 ?_
  refine lv_lload_n hx hb dX1_plus_41 rfl (lv_at hl 2 rfl) ?_
  refine lv_aload_n hx hb dX1_plus_42 rfl (lv_at hl 1 rfl) ?_
  refine va_get (D := D) (ci := 1) (v := .long w.2.2.2) (C := RX1) (T := TX1) (N := 4) hx hb hts in_X1 hown hK (hF1.keep hS nF1) 0 rfl rfl 3 (by decide) (hts _ q239) (fun _ h9 => h9) rfl dX1_plus_43 ?_
  refine lv_lmul hx hb dX1_plus_46 ?_
  refine lv_ladd hx hb dX1_plus_47 ?_
  refine k_callv (wr := []) (va_runI (As := [.long (v.1 + (t0 * w.1)), .long (v.2.1 + (t0 * w.2.1)), .long (v.2.2.1 + (t0 * w.2.2.1)), .long (v.2.2.2 + (t0 * w.2.2.2))]) (rest := [.ref q_1]) ⟨hx, hb, hml, hown, hts⟩ (ct_X1_init hk l D ca H.size q_1 (v.1 + (t0 * w.1)) (v.2.1 + (t0 * w.2.1)) (v.2.2.1 + (t0 * w.2.2.1)) (v.2.2.2 + (t0 * w.2.2.2)) (0, 0, 0, 0)) (cwI 4 hts (lw_meth q231) rfl rfl rfl (hts _ q20) (hts _ q390) (hts _ q230) rfl (by decide +kernel) ⟨Nat.le_of_ble_eq_true rfl, Nat.le_of_ble_eq_true rfl⟩) (k_pre hk hK hN hP hD [0] (by decide) rfl trivial) rfl rfl hl.1 rfl (lv_room (Nat.le_of_ble_eq_true rfl)) dX1_plus_48 ⟨Nat.le_of_ble_eq_true rfl, Nat.le_of_ble_eq_true rfl⟩) hP hD hS hA [0] [] rfl rfl (by decide) (by decide) (fun u_3 H locs w_4 hP hD hxw_4 hzw_4 hqw_4 hS => ?_)
  have hP : va_P D vwCl [(q_1, f4 (v.1 + (t0 * w.1), v.2.1 + (t0 * w.2.1), v.2.2.1 + (t0 * w.2.2.1), v.2.2.2 + (t0 * w.2.2.2)))] H := hP
  have hD : va_D A [(q_1, f4 (v.1 + (t0 * w.1), v.2.1 + (t0 * w.2.1), v.2.2.1 + (t0 * w.2.2.1), v.2.2.2 + (t0 * w.2.2.2)))] := hD
  exact k_aret () hx hb hr (Or.inl ⟨_, rfl⟩) hlocks (trivial) hP hD trivial hS (Nat.le_of_ble_eq_true rfl) (Nat.le_of_ble_eq_true rfl) dX1_plus_51
set_option maxHeartbeats 4000000 in
set_option maxRecDepth 100000 in
theorem ct_X1_isOne {KN : State → Prop} (hk : KNok KN) (l : Launch) (D : va_G) (ca : Nat → ClassId) (zH : Nat) (h0 h1 : Nat) (v w : Q4)  : Met l yX1_isOne (ws_ yX1_isOne cX1_isOne 2 (some .boolean)) ({ frames := 0, cells := 0, slots := 0, locals := 0 }) (va_Pc [.ref h0, .ref h1] (pr_ KN D ca [] zH (fun H => Fo D H h0 v ∧ Fo D H h1 w))) (qI D (fun (r : Int32) (u : Unit) => r = bI (q_same v w)) (fun u => []) (fun u H => True) (va_A [] zH)) 0 0 (va_A [] zH) := by
  refine k_ofW (Qc := qI D (fun (r : Int32) (u : Unit) => r = bI (q_same v w)) (fun u => []) (fun u H => True)) (by decide) (Nat.le_of_ble_eq_true rfl) ?_
  intro p e s m below meth c ls A H hH hx hb hr hts hown hlocks hnm hml hsz hP hD hK hN hA hAn hS hro hl
  have hl : lv_has ls 2 [(0, .ref h0), (1, .ref h1)] := hl
  obtain ⟨hF0, hF1⟩ := hro
  have nF0 := k_new hAn hF0.lt
  have nF1 := k_new hAn hF1.lt
  refine lv_aload_n hx hb dX1_isOne_0 rfl (lv_at hl 0 rfl) ?_
  refine va_get (D := D) (ci := 1) (v := .long v.1) (C := RX1) (T := TX1) (N := 4) hx hb hts in_X1 hown hK (hF0.keep hS nF0) 0 rfl rfl 0 (by decide) (hts _ q233) (fun _ h9 => h9) rfl dX1_isOne_1 ?_
  refine lv_aload_n hx hb dX1_isOne_4 rfl (lv_at hl 1 rfl) ?_
  refine va_get (D := D) (ci := 1) (v := .long w.1) (C := RX1) (T := TX1) (N := 4) hx hb hts in_X1 hown hK (hF1.keep hS nF1) 0 rfl rfl 0 (by decide) (hts _ q233) (fun _ h9 => h9) rfl dX1_isOne_5 ?_
  refine k_lc_ne (tgt := 52) hx hb dX1_isOne_8 dX1_isOne_9 (by decide) (fun c_1 => ?_) (fun c_1 => ?_)
  · refine lv_iconst (v := 0) hx hb dX1_isOne_52 (by decide) ?_
    exact k_zret () hx hb hr hlocks (by decide) (by simp [q_same, bI, c_1]) hP hD trivial hS (Nat.le_of_ble_eq_true rfl) (Nat.le_of_ble_eq_true rfl) dX1_isOne_53
  · refine lv_aload_n hx hb dX1_isOne_12 rfl (lv_at hl 0 rfl) ?_
    refine va_get (D := D) (ci := 1) (v := .long v.2.1) (C := RX1) (T := TX1) (N := 4) hx hb hts in_X1 hown hK (hF0.keep hS nF0) 0 rfl rfl 1 (by decide) (hts _ q235) (fun _ h9 => h9) rfl dX1_isOne_13 ?_
    refine lv_aload_n hx hb dX1_isOne_16 rfl (lv_at hl 1 rfl) ?_
    refine va_get (D := D) (ci := 1) (v := .long w.2.1) (C := RX1) (T := TX1) (N := 4) hx hb hts in_X1 hown hK (hF1.keep hS nF1) 0 rfl rfl 1 (by decide) (hts _ q235) (fun _ h9 => h9) rfl dX1_isOne_17 ?_
    refine k_lc_ne (tgt := 52) hx hb dX1_isOne_20 dX1_isOne_21 (by decide) (fun c_2 => ?_) (fun c_2 => ?_)
    · refine lv_iconst (v := 0) hx hb dX1_isOne_52 (by decide) ?_
      exact k_zret () hx hb hr hlocks (by decide) (by simp [q_same, bI, c_1, c_2]) hP hD trivial hS (Nat.le_of_ble_eq_true rfl) (Nat.le_of_ble_eq_true rfl) dX1_isOne_53
    · refine lv_aload_n hx hb dX1_isOne_24 rfl (lv_at hl 0 rfl) ?_
      refine va_get (D := D) (ci := 1) (v := .long v.2.2.1) (C := RX1) (T := TX1) (N := 4) hx hb hts in_X1 hown hK (hF0.keep hS nF0) 0 rfl rfl 2 (by decide) (hts _ q237) (fun _ h9 => h9) rfl dX1_isOne_25 ?_
      refine lv_aload_n hx hb dX1_isOne_28 rfl (lv_at hl 1 rfl) ?_
      refine va_get (D := D) (ci := 1) (v := .long w.2.2.1) (C := RX1) (T := TX1) (N := 4) hx hb hts in_X1 hown hK (hF1.keep hS nF1) 0 rfl rfl 2 (by decide) (hts _ q237) (fun _ h9 => h9) rfl dX1_isOne_29 ?_
      refine k_lc_ne (tgt := 52) hx hb dX1_isOne_32 dX1_isOne_33 (by decide) (fun c_3 => ?_) (fun c_3 => ?_)
      · refine lv_iconst (v := 0) hx hb dX1_isOne_52 (by decide) ?_
        exact k_zret () hx hb hr hlocks (by decide) (by simp [q_same, bI, c_1, c_2, c_3]) hP hD trivial hS (Nat.le_of_ble_eq_true rfl) (Nat.le_of_ble_eq_true rfl) dX1_isOne_53
      · refine lv_aload_n hx hb dX1_isOne_36 rfl (lv_at hl 0 rfl) ?_
        refine va_get (D := D) (ci := 1) (v := .long v.2.2.2) (C := RX1) (T := TX1) (N := 4) hx hb hts in_X1 hown hK (hF0.keep hS nF0) 0 rfl rfl 3 (by decide) (hts _ q239) (fun _ h9 => h9) rfl dX1_isOne_37 ?_
        refine lv_aload_n hx hb dX1_isOne_40 rfl (lv_at hl 1 rfl) ?_
        refine va_get (D := D) (ci := 1) (v := .long w.2.2.2) (C := RX1) (T := TX1) (N := 4) hx hb hts in_X1 hown hK (hF1.keep hS nF1) 0 rfl rfl 3 (by decide) (hts _ q239) (fun _ h9 => h9) rfl dX1_isOne_41 ?_
        refine k_lc_ne (tgt := 52) hx hb dX1_isOne_44 dX1_isOne_45 (by decide) (fun c_4 => ?_) (fun c_4 => ?_)
        · refine lv_iconst (v := 0) hx hb dX1_isOne_52 (by decide) ?_
          exact k_zret () hx hb hr hlocks (by decide) (by simp [q_same, bI, c_1, c_2, c_3, c_4]) hP hD trivial hS (Nat.le_of_ble_eq_true rfl) (Nat.le_of_ble_eq_true rfl) dX1_isOne_53
        · refine lv_iconst (v := 1) hx hb dX1_isOne_48 (by decide) ?_
          refine lv_goto (tgt := 53) hx hb dX1_isOne_49 (by decide) ?_
          exact k_zret () hx hb hr hlocks (by decide) (by simp [q_same, bI, c_1, c_2, c_3, c_4]) hP hD trivial hS (Nat.le_of_ble_eq_true rfl) (Nat.le_of_ble_eq_true rfl) dX1_isOne_53
set_option maxHeartbeats 4000000 in
set_option maxRecDepth 100000 in
theorem ct_X1_isGreater {KN : State → Prop} (hk : KNok KN) (l : Launch) (D : va_G) (ca : Nat → ClassId) (zH : Nat) (h0 h1 : Nat) (v w : Q4)  : Met l yX1_isGreater (ws_ yX1_isGreater cX1_isGreater 2 (some .boolean)) ({ frames := 0, cells := 0, slots := 0, locals := 0 }) (va_Pc [.ref h0, .ref h1] (pr_ KN D ca [] zH (fun H => Fo D H h0 v ∧ Fo D H h1 w))) (qI D (fun (r : Int32) (u : Unit) => r = bI (q_gt v w)) (fun u => []) (fun u H => True) (va_A [] zH)) 0 0 (va_A [] zH) := by
  refine k_ofW (Qc := qI D (fun (r : Int32) (u : Unit) => r = bI (q_gt v w)) (fun u => []) (fun u H => True)) (by decide) (Nat.le_of_ble_eq_true rfl) ?_
  intro p e s m below meth c ls A H hH hx hb hr hts hown hlocks hnm hml hsz hP hD hK hN hA hAn hS hro hl
  have hl : lv_has ls 2 [(0, .ref h0), (1, .ref h1)] := hl
  obtain ⟨hF0, hF1⟩ := hro
  have nF0 := k_new hAn hF0.lt
  have nF1 := k_new hAn hF1.lt
  refine lv_aload_n hx hb dX1_isGreater_0 rfl (lv_at hl 0 rfl) ?_
  refine va_get (D := D) (ci := 1) (v := .long v.1) (C := RX1) (T := TX1) (N := 4) hx hb hts in_X1 hown hK (hF0.keep hS nF0) 0 rfl rfl 0 (by decide) (hts _ q233) (fun _ h9 => h9) rfl dX1_isGreater_1 ?_
  refine lv_aload_n hx hb dX1_isGreater_4 rfl (lv_at hl 1 rfl) ?_
  refine va_get (D := D) (ci := 1) (v := .long w.1) (C := RX1) (T := TX1) (N := 4) hx hb hts in_X1 hown hK (hF1.keep hS nF1) 0 rfl rfl 0 (by decide) (hts _ q233) (fun _ h9 => h9) rfl dX1_isGreater_5 ?_
  refine k_lc_eq (tgt := 32) hx hb dX1_isGreater_8 dX1_isGreater_9 (by decide) (fun c_1 => ?_) (fun c_1 => ?_)
  · refine lv_aload_n hx hb dX1_isGreater_32 rfl (lv_at hl 0 rfl) ?_
    refine va_get (D := D) (ci := 1) (v := .long v.2.1) (C := RX1) (T := TX1) (N := 4) hx hb hts in_X1 hown hK (hF0.keep hS nF0) 0 rfl rfl 1 (by decide) (hts _ q235) (fun _ h9 => h9) rfl dX1_isGreater_33 ?_
    refine lv_aload_n hx hb dX1_isGreater_36 rfl (lv_at hl 1 rfl) ?_
    refine va_get (D := D) (ci := 1) (v := .long w.2.1) (C := RX1) (T := TX1) (N := 4) hx hb hts in_X1 hown hK (hF1.keep hS nF1) 0 rfl rfl 1 (by decide) (hts _ q235) (fun _ h9 => h9) rfl dX1_isGreater_37 ?_
    refine k_lc_eq (tgt := 64) hx hb dX1_isGreater_40 dX1_isGreater_41 (by decide) (fun c_2 => ?_) (fun c_2 => ?_)
    · refine lv_aload_n hx hb dX1_isGreater_64 rfl (lv_at hl 0 rfl) ?_
      refine va_get (D := D) (ci := 1) (v := .long v.2.2.1) (C := RX1) (T := TX1) (N := 4) hx hb hts in_X1 hown hK (hF0.keep hS nF0) 0 rfl rfl 2 (by decide) (hts _ q237) (fun _ h9 => h9) rfl dX1_isGreater_65 ?_
      refine lv_aload_n hx hb dX1_isGreater_68 rfl (lv_at hl 1 rfl) ?_
      refine va_get (D := D) (ci := 1) (v := .long w.2.2.1) (C := RX1) (T := TX1) (N := 4) hx hb hts in_X1 hown hK (hF1.keep hS nF1) 0 rfl rfl 2 (by decide) (hts _ q237) (fun _ h9 => h9) rfl dX1_isGreater_69 ?_
      refine k_lc_eq (tgt := 96) hx hb dX1_isGreater_72 dX1_isGreater_73 (by decide) (fun c_3 => ?_) (fun c_3 => ?_)
      · refine lv_aload_n hx hb dX1_isGreater_96 rfl (lv_at hl 0 rfl) ?_
        refine va_get (D := D) (ci := 1) (v := .long v.2.2.2) (C := RX1) (T := TX1) (N := 4) hx hb hts in_X1 hown hK (hF0.keep hS nF0) 0 rfl rfl 3 (by decide) (hts _ q239) (fun _ h9 => h9) rfl dX1_isGreater_97 ?_
        refine lv_aload_n hx hb dX1_isGreater_100 rfl (lv_at hl 1 rfl) ?_
        refine va_get (D := D) (ci := 1) (v := .long w.2.2.2) (C := RX1) (T := TX1) (N := 4) hx hb hts in_X1 hown hK (hF1.keep hS nF1) 0 rfl rfl 3 (by decide) (hts _ q239) (fun _ h9 => h9) rfl dX1_isGreater_101 ?_
        refine k_lc_le (tgt := 112) hx hb dX1_isGreater_104 dX1_isGreater_105 (by decide) (fun c_4 => ?_) (fun c_4 => ?_)
        · refine lv_iconst (v := 0) hx hb dX1_isGreater_112 (by decide) ?_
          exact k_zret () hx hb hr hlocks (by decide) (by simp [q_gt, bI, c_1, c_2, c_3, c_4]) hP hD trivial hS (Nat.le_of_ble_eq_true rfl) (Nat.le_of_ble_eq_true rfl) dX1_isGreater_113
        · refine lv_iconst (v := 1) hx hb dX1_isGreater_108 (by decide) ?_
          refine lv_goto (tgt := 113) hx hb dX1_isGreater_109 (by decide) ?_
          exact k_zret () hx hb hr hlocks (by decide) (by simp [q_gt, bI, c_1, c_2, c_3, c_4]) hP hD trivial hS (Nat.le_of_ble_eq_true rfl) (Nat.le_of_ble_eq_true rfl) dX1_isGreater_113
      · refine lv_aload_n hx hb dX1_isGreater_76 rfl (lv_at hl 0 rfl) ?_
        refine va_get (D := D) (ci := 1) (v := .long v.2.2.1) (C := RX1) (T := TX1) (N := 4) hx hb hts in_X1 hown hK (hF0.keep hS nF0) 0 rfl rfl 2 (by decide) (hts _ q237) (fun _ h9 => h9) rfl dX1_isGreater_77 ?_
        refine lv_aload_n hx hb dX1_isGreater_80 rfl (lv_at hl 1 rfl) ?_
        refine va_get (D := D) (ci := 1) (v := .long w.2.2.1) (C := RX1) (T := TX1) (N := 4) hx hb hts in_X1 hown hK (hF1.keep hS nF1) 0 rfl rfl 2 (by decide) (hts _ q237) (fun _ h9 => h9) rfl dX1_isGreater_81 ?_
        refine k_lc_le (tgt := 92) hx hb dX1_isGreater_84 dX1_isGreater_85 (by decide) (fun c_5 => ?_) (fun c_5 => ?_)
        · refine lv_iconst (v := 0) hx hb dX1_isGreater_92 (by decide) ?_
          refine lv_goto (tgt := 113) hx hb dX1_isGreater_93 (by decide) ?_
          exact k_zret () hx hb hr hlocks (by decide) (by simp [q_gt, bI, c_1, c_2, c_3, c_5]) hP hD trivial hS (Nat.le_of_ble_eq_true rfl) (Nat.le_of_ble_eq_true rfl) dX1_isGreater_113
        · refine lv_iconst (v := 1) hx hb dX1_isGreater_88 (by decide) ?_
          refine lv_goto (tgt := 113) hx hb dX1_isGreater_89 (by decide) ?_
          exact k_zret () hx hb hr hlocks (by decide) (by simp [q_gt, bI, c_1, c_2, c_3, c_5]) hP hD trivial hS (Nat.le_of_ble_eq_true rfl) (Nat.le_of_ble_eq_true rfl) dX1_isGreater_113
    · refine lv_aload_n hx hb dX1_isGreater_44 rfl (lv_at hl 0 rfl) ?_
      refine va_get (D := D) (ci := 1) (v := .long v.2.1) (C := RX1) (T := TX1) (N := 4) hx hb hts in_X1 hown hK (hF0.keep hS nF0) 0 rfl rfl 1 (by decide) (hts _ q235) (fun _ h9 => h9) rfl dX1_isGreater_45 ?_
      refine lv_aload_n hx hb dX1_isGreater_48 rfl (lv_at hl 1 rfl) ?_
      refine va_get (D := D) (ci := 1) (v := .long w.2.1) (C := RX1) (T := TX1) (N := 4) hx hb hts in_X1 hown hK (hF1.keep hS nF1) 0 rfl rfl 1 (by decide) (hts _ q235) (fun _ h9 => h9) rfl dX1_isGreater_49 ?_
      refine k_lc_le (tgt := 60) hx hb dX1_isGreater_52 dX1_isGreater_53 (by decide) (fun c_6 => ?_) (fun c_6 => ?_)
      · refine lv_iconst (v := 0) hx hb dX1_isGreater_60 (by decide) ?_
        refine lv_goto (tgt := 113) hx hb dX1_isGreater_61 (by decide) ?_
        exact k_zret () hx hb hr hlocks (by decide) (by simp [q_gt, bI, c_1, c_2, c_6]) hP hD trivial hS (Nat.le_of_ble_eq_true rfl) (Nat.le_of_ble_eq_true rfl) dX1_isGreater_113
      · refine lv_iconst (v := 1) hx hb dX1_isGreater_56 (by decide) ?_
        refine lv_goto (tgt := 113) hx hb dX1_isGreater_57 (by decide) ?_
        exact k_zret () hx hb hr hlocks (by decide) (by simp [q_gt, bI, c_1, c_2, c_6]) hP hD trivial hS (Nat.le_of_ble_eq_true rfl) (Nat.le_of_ble_eq_true rfl) dX1_isGreater_113
  · refine lv_aload_n hx hb dX1_isGreater_12 rfl (lv_at hl 0 rfl) ?_
    refine va_get (D := D) (ci := 1) (v := .long v.1) (C := RX1) (T := TX1) (N := 4) hx hb hts in_X1 hown hK (hF0.keep hS nF0) 0 rfl rfl 0 (by decide) (hts _ q233) (fun _ h9 => h9) rfl dX1_isGreater_13 ?_
    refine lv_aload_n hx hb dX1_isGreater_16 rfl (lv_at hl 1 rfl) ?_
    refine va_get (D := D) (ci := 1) (v := .long w.1) (C := RX1) (T := TX1) (N := 4) hx hb hts in_X1 hown hK (hF1.keep hS nF1) 0 rfl rfl 0 (by decide) (hts _ q233) (fun _ h9 => h9) rfl dX1_isGreater_17 ?_
    refine k_lc_le (tgt := 28) hx hb dX1_isGreater_20 dX1_isGreater_21 (by decide) (fun c_7 => ?_) (fun c_7 => ?_)
    · refine lv_iconst (v := 0) hx hb dX1_isGreater_28 (by decide) ?_
      refine lv_goto (tgt := 113) hx hb dX1_isGreater_29 (by decide) ?_
      exact k_zret () hx hb hr hlocks (by decide) (by simp [q_gt, bI, c_1, c_7]) hP hD trivial hS (Nat.le_of_ble_eq_true rfl) (Nat.le_of_ble_eq_true rfl) dX1_isGreater_113
    · refine lv_iconst (v := 1) hx hb dX1_isGreater_24 (by decide) ?_
      refine lv_goto (tgt := 113) hx hb dX1_isGreater_25 (by decide) ?_
      exact k_zret () hx hb hr hlocks (by decide) (by simp [q_gt, bI, c_1, c_7]) hP hD trivial hS (Nat.le_of_ble_eq_true rfl) (Nat.le_of_ble_eq_true rfl) dX1_isGreater_113
set_option maxHeartbeats 4000000 in
set_option maxRecDepth 100000 in
theorem ct_X1_squared {KN : State → Prop} (hk : KNok KN) (l : Launch) (D : va_G) (ca : Nat → ClassId) (zH : Nat) (v : Int64)  : Met l yX1_squared (ws_ yX1_squared cX1_squared 2 (some .long)) ({ frames := 0, cells := 0, slots := 0, locals := 0 }) (va_Pc [.long v] (pr_ KN D ca [] zH (fun _ => True))) (qL D (fun (r : Int64) (u : Unit) => r = v * v) (fun u => []) (fun u H => True) (va_A [] zH)) 0 0 (va_A [] zH) := by
  refine k_ofW (Qc := qL D (fun (r : Int64) (u : Unit) => r = v * v) (fun u => []) (fun u H => True)) (by decide) (Nat.le_of_ble_eq_true rfl) ?_
  intro p e s m below meth c ls A H hH hx hb hr hts hown hlocks hnm hml hsz hP hD hK hN hA hAn hS hro hl
  have hl : lv_has ls 2 [(0, .long v)] := hl
  refine lv_lload_n hx hb dX1_squared_0 rfl (lv_at hl 0 rfl) ?_
  refine lv_lload_n hx hb dX1_squared_1 rfl (lv_at hl 0 rfl) ?_
  refine lv_lmul hx hb dX1_squared_2 ?_
  exact k_lret () hx hb hr hlocks (rfl) hP hD trivial hS (Nat.le_of_ble_eq_true rfl) (Nat.le_of_ble_eq_true rfl) dX1_squared_3
set_option maxHeartbeats 4000000 in
set_option maxRecDepth 100000 in
theorem ct_X1_even {KN : State → Prop} (hk : KNok KN) (l : Launch) (D : va_G) (ca : Nat → ClassId) (zH : Nat) (v n : Int64) (hn : ¬ 2 * n = 0) : Met l yX1_even (ws_ yX1_even cX1_even 4 (some .long)) ({ frames := 1, cells := 0, slots := 0, locals := 25 }) (va_Pc [.long v, .long n] (pr_ KN D ca [] zH (fun _ => True))) (qL D (fun (r : Int64) (u : Unit) => r = p_even v n) (fun u => []) (fun u H => True) (va_A [] zH)) 0 0 (va_A [] zH) := by
  refine k_ofW (Qc := qL D (fun (r : Int64) (u : Unit) => r = p_even v n) (fun u => []) (fun u H => True)) (by decide) (Nat.le_of_ble_eq_true rfl) ?_
  intro p e s m below meth c ls A H hH hx hb hr hts hown hlocks hnm hml hsz hP hD hK hN hA hAn hS hro hl
  have hl : lv_has ls 4 [(0, .long v), (2, .long n)] := hl
  refine lv_ldc2 hx hb hown (hts _ q371) dX1_even_0 ?_
  refine lv_lload_n hx hb dX1_even_3 rfl (lv_at hl 0 rfl) ?_
  refine lv_lload_n hx hb dX1_even_4 rfl (lv_at hl 1 rfl) ?_
  refine lv_ladd hx hb dX1_even_5 ?_
  refine lv_ldc2 hx hb hown (hts _ q371) dX1_even_6 ?_
  refine lv_lload_n hx hb dX1_even_9 rfl (lv_at hl 1 rfl) ?_
  refine lv_lmul hx hb dX1_even_10 ?_
  refine k_calll (wr := []) (va_runS (As := [.long (v + n), .long (2 * n)]) (rest := [.long 2]) ⟨hx, hb, hml, hown, hts⟩ (ct_J8_floorDiv hk l D ca H.size (v + n) (2 * n) hn) (va_cwS 2 hts (lw_S q438 q439 q35 q440) rfl rfl rfl (by decide +kernel) ⟨Nat.le_of_ble_eq_true rfl, Nat.le_of_ble_eq_true rfl⟩) (k_pre hk hK hN hP hD [] (by decide) rfl trivial) rfl rfl hl.1 rfl (lv_room (Nat.le_of_ble_eq_true rfl)) dX1_even_11 ⟨Nat.le_of_ble_eq_true rfl, Nat.le_of_ble_eq_true rfl⟩) hP hD hS hA [] [] rfl rfl (by decide) (by decide) (fun r_1 u_2 H locs w_3 hP hD hxw_3 hzw_3 hqw_3 hS => ?_)
  obtain rfl : r_1 = p_fd (v + n) (2 * n) := w_3
  refine lv_lmul hx hb dX1_even_14 ?_
  exact k_lret () hx hb hr hlocks (rfl) hP hD trivial hS (Nat.le_of_ble_eq_true rfl) (Nat.le_of_ble_eq_true rfl) dX1_even_15
set_option maxHeartbeats 4000000 in
set_option maxRecDepth 100000 in
theorem ct_X1_odd {KN : State → Prop} (hk : KNok KN) (l : Launch) (D : va_G) (ca : Nat → ClassId) (zH : Nat) (v n : Int64) (hn : ¬ 2 * n = 0) : Met l yX1_odd (ws_ yX1_odd cX1_odd 4 (some .long)) ({ frames := 1, cells := 0, slots := 0, locals := 25 }) (va_Pc [.long v, .long n] (pr_ KN D ca [] zH (fun _ => True))) (qL D (fun (r : Int64) (u : Unit) => r = p_odd v n) (fun u => []) (fun u H => True) (va_A [] zH)) 0 0 (va_A [] zH) := by
  refine k_ofW (Qc := qL D (fun (r : Int64) (u : Unit) => r = p_odd v n) (fun u => []) (fun u H => True)) (by decide) (Nat.le_of_ble_eq_true rfl) ?_
  intro p e s m below meth c ls A H hH hx hb hr hts hown hlocks hnm hml hsz hP hD hK hN hA hAn hS hro hl
  have hl : lv_has ls 4 [(0, .long v), (2, .long n)] := hl
  refine lv_ldc2 hx hb hown (hts _ q371) dX1_odd_0 ?_
  refine lv_lload_n hx hb dX1_odd_3 rfl (lv_at hl 0 rfl) ?_
  refine lv_ldc2 hx hb hown (hts _ q371) dX1_odd_4 ?_
  refine lv_lload_n hx hb dX1_odd_7 rfl (lv_at hl 1 rfl) ?_
  refine lv_lmul hx hb dX1_odd_8 ?_
  refine k_calll (wr := []) (va_runS (As := [.long v, .long (2 * n)]) (rest := [.long 2]) ⟨hx, hb, hml, hown, hts⟩ (ct_J8_floorDiv hk l D ca H.size v (2 * n) hn) (va_cwS 2 hts (lw_S q438 q439 q35 q440) rfl rfl rfl (by decide +kernel) ⟨Nat.le_of_ble_eq_true rfl, Nat.le_of_ble_eq_true rfl⟩) (k_pre hk hK hN hP hD [] (by decide) rfl trivial) rfl rfl hl.1 rfl (lv_room (Nat.le_of_ble_eq_true rfl)) dX1_odd_9 ⟨Nat.le_of_ble_eq_true rfl, Nat.le_of_ble_eq_true rfl⟩) hP hD hS hA [] [] rfl rfl (by decide) (by decide) (fun r_1 u_2 H locs w_3 hP hD hxw_3 hzw_3 hqw_3 hS => ?_)
  obtain rfl : r_1 = p_fd v (2 * n) := w_3
  refine lv_lmul hx hb dX1_odd_12 ?_
  refine lv_lconst (v := 1) hx hb dX1_odd_13 (by decide) ?_
  refine lv_ladd hx hb dX1_odd_14 ?_
  exact k_lret () hx hb hr hlocks (rfl) hP hD trivial hS (Nat.le_of_ble_eq_true rfl) (Nat.le_of_ble_eq_true rfl) dX1_odd_15
