section KTHR
variable {p : Program} {l : Launch} {e : Env} {R : Room} {s : State} {m : MethodId} {args : Array Value} {below : List Frame} {meth : Method} {c : Code} {H : Heap} {locs : List Loc} {cells slots : Nat} {Q : State → Prop}
variable {mc ms : Nat} {free : Addr → Prop} {A0 : Nat → Prop} {H0 : Heap} {pc : Nat} {ls : Array Slot} {st0 rest : List Value}
/-- a callee that always throws -/
theorem k_thr {Qa : State → Outcome → State → Prop} {SX : Type} {px : SX → Prop} {BX : String → SX → State → Prop} {AX : Nat → Prop} (hr : vx_Run p l e R s m args below meth c H locs cells slots mc ms (F0 m pc ls st0) rest Qa (vx_X px BX AX) free) (hno : ∀ (st : State) (v : Option Value) (t : State), ¬ Qa st (.returned v) t) (hS : va_S A0 H0 H locs) (hf : ∀ q, free q → A0 q) (hAX : ∀ q, q < H.size → AX q → A0 q)
    (kx : ∀ (E : String) (ce : Cell) (q9 : Addr) (u : SX) (t : State) (H1 : Heap) (locs1 : List Loc), t.heap = H1 → s.vm.Alike t.vm → px u → BX E u t → H.size ≤ H1.size → (∀ q : Nat, q < H.size → ¬ AX q → H1[q]? = H[q]?) → va_S A0 H0 H1 locs1 → H1[q9]? = some ce → ce.vm = .none → s.vm.findClass E = some ce.cls → vx_W p l e R s m args below meth c H1 locs1 (cells + mc) (slots + ms) Q (F0 m pc ls rest) q9) : W p l e R s m args below meth c H locs cells slots Q (F0 m pc ls st0) := by
  intro T hT X
  rcases hr T hT X with ⟨v, st₀, t, T', L, h0, X', hL, e1, e2, hq, st⟩ | ⟨q, st₀, t, T', L, E, ce, h0, X', hL, e1, e2, ⟨u, hp, hb, hF⟩, hce, hcv, hcl, st⟩
  · exact absurd hq (hno _ _ _)
  · obtain ⟨k1, k2, k3⟩ := vx_keep h0 e1 hS hAX hf hL hF
    obtain ⟨t2, a1, b1⟩ := kx E ce q u t T'.heap (locs ++ L) e1.symm (by rw [← e2]; exact X'.warmed.alike) hp hb k1 k2 k3 (by rw [e1]; exact hce) hcv hcl T' rfl X'
    exact ⟨t2, st.trans a1, b1⟩
end KTHR
set_option maxHeartbeats 4000000 in
set_option maxRecDepth 100000 in
theorem ct_X0_sheet_1 (l : Launch) (hl0 : l.stackTraces = false) (D : va_G) (ca : Nat → ClassId) (zH : Nat) (xo : Nat) (r0 k0 n0 : Int32) (h1 : p_in r0.toInt64 0 5 = false) : vx_Met l yX0_sheet (wsH_ yX0_sheet cX0_sheet 5 (some .int) [((33 : Nat), (53 : Nat), (54 : Nat), (25 : Nat))]) ({ frames := 2, cells := 0, slots := 0, locals := 45 }) (va_Pc [.ref xo, .int r0, .int k0, .int n0] (prX NW D ca [] zH (fun _ => True))) (qI D (fun (r : Int32) (u : Unit) => r = -1) (fun u => []) (fun u H => True) (va_A [] zH)) noX 0 0 (va_A [] zH) := by
  have hk := NW_ok
  refine k_ofH (Qc := qI D (fun (r : Int32) (u : Unit) => r = -1) (fun u => []) (fun u H => True)) (by decide) (Nat.le_of_ble_eq_true rfl) ?_
  intro p e s m below meth c ls A H hH hx hb hr hts hown hlocks hnm hml hsz hP hD hK hN hA hAn hS hro hl hX hZ htb
  have hl : lv_has ls 5 [(0, .ref xo), (1, .int r0), (2, .int k0), (3, .int n0)] := hl
  refine lv_iload_n hx hb dX0_sheet_0 rfl (lv_at hl 1 rfl) ?_
  refine k_calli (wr := []) (va_runS (As := [.int r0]) (rest := []) ⟨hx, hb, hml, hown, hts⟩ (ct_X0_isSheet hk l D ca H.size r0) (va_cwS 1 hts (lw_S q127 q128 q19 q129) rfl rfl rfl (by decide +kernel) ⟨Nat.le_of_ble_eq_true rfl, Nat.le_of_ble_eq_true rfl⟩) (k_pre hk hK hN hP hD [] (by decide) rfl trivial) rfl rfl hl.1 rfl (lv_room (Nat.le_of_ble_eq_true rfl)) dX0_sheet_1 ⟨Nat.le_of_ble_eq_true rfl, Nat.le_of_ble_eq_true rfl⟩) hP hD hS hA [] [] rfl rfl (by decide) (by decide) (fun r_1 u_2 H locs w_3 hP hD hxw_3 hzw_3 hqw_3 hS => ?_)
  obtain rfl : r_1 = bI (p_in r0.toInt64 0 5) := w_3
  refine lv_if_eq (tgt := 31) hx hb dX0_sheet_4 (by decide) (fun c_4 => ?_) (fun c_4 => absurd (by rw [h1]; rfl) c_4)
  refine lv_iconst (v := (-1)) hx hb dX0_sheet_31 (by decide) ?_
  refine vx_ret ?_
  exact k_iret () hx hb hr hlocks (rfl) hP hD trivial hS (Nat.le_of_ble_eq_true rfl) (Nat.le_of_ble_eq_true rfl) dX0_sheet_32
set_option maxHeartbeats 4000000 in
set_option maxRecDepth 100000 in
theorem ct_X0_sheet_2 (l : Launch) (hl0 : l.stackTraces = false) (D : va_G) (ca : Nat → ClassId) (zH : Nat) (xo j : Nat) (k0 n0 : Int32) (hj : j < 6) (h2 : p_in k0.toInt64 (-1) 2 = false) : vx_Met l yX0_sheet (wsH_ yX0_sheet cX0_sheet 5 (some .int) [((33 : Nat), (53 : Nat), (54 : Nat), (25 : Nat))]) ({ frames := 2, cells := 0, slots := 0, locals := 45 }) (va_Pc [.ref xo, .int (nI j), .int k0, .int n0] (prX NW D ca [] zH (fun _ => True))) (qI D (fun (r : Int32) (u : Unit) => r = -1) (fun u => []) (fun u H => True) (va_A [] zH)) noX 0 0 (va_A [] zH) := by
  have hk := NW_ok
  refine k_ofH (Qc := qI D (fun (r : Int32) (u : Unit) => r = -1) (fun u => []) (fun u H => True)) (by decide) (Nat.le_of_ble_eq_true rfl) ?_
  intro p e s m below meth c ls A H hH hx hb hr hts hown hlocks hnm hml hsz hP hD hK hN hA hAn hS hro hl hX hZ htb
  have hl : lv_has ls 5 [(0, .ref xo), (1, .int (nI j)), (2, .int k0), (3, .int n0)] := hl
  refine lv_iload_n hx hb dX0_sheet_0 rfl (lv_at hl 1 rfl) ?_
  refine k_calli (wr := []) (va_runS (As := [.int (nI j)]) (rest := []) ⟨hx, hb, hml, hown, hts⟩ (ct_X0_isSheet hk l D ca H.size (nI j)) (va_cwS 1 hts (lw_S q127 q128 q19 q129) rfl rfl rfl (by decide +kernel) ⟨Nat.le_of_ble_eq_true rfl, Nat.le_of_ble_eq_true rfl⟩) (k_pre hk hK hN hP hD [] (by decide) rfl trivial) rfl rfl hl.1 rfl (lv_room (Nat.le_of_ble_eq_true rfl)) dX0_sheet_1 ⟨Nat.le_of_ble_eq_true rfl, Nat.le_of_ble_eq_true rfl⟩) hP hD hS hA [] [] rfl rfl (by decide) (by decide) (fun r_1 u_2 H locs w_3 hP hD hxw_3 hzw_3 hqw_3 hS => ?_)
  obtain rfl : r_1 = bI (p_in (nI j).toInt64 0 5) := w_3
  refine lv_if_eq (tgt := 31) hx hb dX0_sheet_4 (by decide) (fun c_4 => absurd c_4 (by rw [in_5 hj]; decide)) (fun c_4 => ?_)
  refine lv_iload_n hx hb dX0_sheet_7 rfl (lv_at hl 2 rfl) ?_
  refine lv_i2l (v := k0.toInt64) hx hb dX0_sheet_8 rfl ?_
  refine lv_ldc2 hx hb hown (hts _ q134) dX0_sheet_9 ?_
  refine lv_ldc2 hx hb hown (hts _ q135) dX0_sheet_12 ?_
  refine k_calli (wr := []) (va_runS (As := [.long k0.toInt64, .long (-1), .long 2]) (rest := []) ⟨hx, hb, hml, hown, hts⟩ (ct_X0_isIn hk l D ca H.size k0.toInt64 (-1) 2) (va_cwS 3 hts (lw_S q131 q132 q19 q133) rfl rfl rfl (by decide +kernel) ⟨Nat.le_of_ble_eq_true rfl, Nat.le_of_ble_eq_true rfl⟩) (k_pre hk hK hN hP hD [] (by decide) rfl trivial) rfl rfl hl.1 rfl (lv_room (Nat.le_of_ble_eq_true rfl)) dX0_sheet_15 ⟨Nat.le_of_ble_eq_true rfl, Nat.le_of_ble_eq_true rfl⟩) hP hD hS hA [] [] rfl rfl (by decide) (by decide) (fun r_5 u_6 H locs w_7 hP hD hxw_7 hzw_7 hqw_7 hS => ?_)
  obtain rfl : r_5 = bI (p_in k0.toInt64 (-1) 2) := w_7
  refine lv_if_eq (tgt := 31) hx hb dX0_sheet_18 (by decide) (fun c_8 => ?_) (fun c_8 => absurd (by rw [h2]; rfl) c_8)
  refine lv_iconst (v := (-1)) hx hb dX0_sheet_31 (by decide) ?_
  refine vx_ret ?_
  exact k_iret () hx hb hr hlocks (rfl) hP hD trivial hS (Nat.le_of_ble_eq_true rfl) (Nat.le_of_ble_eq_true rfl) dX0_sheet_32
set_option maxHeartbeats 4000000 in
set_option maxRecDepth 100000 in
theorem ct_X0_sheet_3 (l : Launch) (hl0 : l.stackTraces = false) (D : va_G) (ca : Nat → ClassId) (zH : Nat) (xo xs xu xd xr xf : Nat) (sa : Nat → Option Nat) (j : Nat) (k0 n0 : Int32) (hj : j < 6) (h2 : p_in k0.toInt64 (-1) 2 = true) (h3 : k0 < 0) : vx_Met l yX0_sheet (wsH_ yX0_sheet cX0_sheet 5 (some .int) [((33 : Nat), (53 : Nat), (54 : Nat), (25 : Nat))]) ({ frames := 2, cells := 0, slots := 0, locals := 45 }) (va_Pc [.ref xo, .int (nI j), .int k0, .int n0] (prX NW D ca [(xo, oX xs xu xd xr xf), (xs, rA ca 3 6 sa)] zH (fun _ => True))) (qI D (fun (r : Int32) (u : Unit) => r = 0) (fun u => [(xo, oX xs xu xd xr xf), (xs, rA ca 3 6 (va_up sa j none))]) (fun u H => True) (va_A [(xo, oX xs xu xd xr xf), (xs, rA ca 3 6 sa)] zH)) noX 0 0 (va_A [(xo, oX xs xu xd xr xf), (xs, rA ca 3 6 sa)] zH) := by
  have hk := NW_ok
  refine k_ofH (Qc := qI D (fun (r : Int32) (u : Unit) => r = 0) (fun u => [(xo, oX xs xu xd xr xf), (xs, rA ca 3 6 (va_up sa j none))]) (fun u H => True)) (by decide) (Nat.le_of_ble_eq_true rfl) ?_
  intro p e s m below meth c ls A H hH hx hb hr hts hown hlocks hnm hml hsz hP hD hK hN hA hAn hS hro hl hX hZ htb
  have hl : lv_has ls 5 [(0, .ref xo), (1, .int (nI j)), (2, .int k0), (3, .int n0)] := hl
  refine lv_iload_n hx hb dX0_sheet_0 rfl (lv_at hl 1 rfl) ?_
  refine k_calli (wr := [(xo, oX xs xu xd xr xf), (xs, rA ca 3 6 sa)]) (va_runS (As := [.int (nI j)]) (rest := []) ⟨hx, hb, hml, hown, hts⟩ (ct_X0_isSheet hk l D ca H.size (nI j)) (va_cwS 1 hts (lw_S q127 q128 q19 q129) rfl rfl rfl (by decide +kernel) ⟨Nat.le_of_ble_eq_true rfl, Nat.le_of_ble_eq_true rfl⟩) (k_pre hk hK hN hP hD [] (by decide) rfl trivial) rfl rfl hl.1 rfl (lv_room (Nat.le_of_ble_eq_true rfl)) dX0_sheet_1 ⟨Nat.le_of_ble_eq_true rfl, Nat.le_of_ble_eq_true rfl⟩) hP hD hS hA [] [0, 1] rfl rfl (by decide) (by decide) (fun r_1 u_2 H locs w_3 hP hD hxw_3 hzw_3 hqw_3 hS => ?_)
  obtain rfl : r_1 = bI (p_in (nI j).toInt64 0 5) := w_3
  refine lv_if_eq (tgt := 31) hx hb dX0_sheet_4 (by decide) (fun c_4 => absurd c_4 (by rw [in_5 hj]; decide)) (fun c_4 => ?_)
  refine lv_iload_n hx hb dX0_sheet_7 rfl (lv_at hl 2 rfl) ?_
  refine lv_i2l (v := k0.toInt64) hx hb dX0_sheet_8 rfl ?_
  refine lv_ldc2 hx hb hown (hts _ q134) dX0_sheet_9 ?_
  refine lv_ldc2 hx hb hown (hts _ q135) dX0_sheet_12 ?_
  refine k_calli (wr := [(xo, oX xs xu xd xr xf), (xs, rA ca 3 6 sa)]) (va_runS (As := [.long k0.toInt64, .long (-1), .long 2]) (rest := []) ⟨hx, hb, hml, hown, hts⟩ (ct_X0_isIn hk l D ca H.size k0.toInt64 (-1) 2) (va_cwS 3 hts (lw_S q131 q132 q19 q133) rfl rfl rfl (by decide +kernel) ⟨Nat.le_of_ble_eq_true rfl, Nat.le_of_ble_eq_true rfl⟩) (k_pre hk hK hN hP hD [] (by decide) rfl trivial) rfl rfl hl.1 rfl (lv_room (Nat.le_of_ble_eq_true rfl)) dX0_sheet_15 ⟨Nat.le_of_ble_eq_true rfl, Nat.le_of_ble_eq_true rfl⟩) hP hD hS hA [] [0, 1] rfl rfl (by decide) (by decide) (fun r_5 u_6 H locs w_7 hP hD hxw_7 hzw_7 hqw_7 hS => ?_)
  obtain rfl : r_5 = bI (p_in k0.toInt64 (-1) 2) := w_7
  refine lv_if_eq (tgt := 31) hx hb dX0_sheet_18 (by decide) (fun c_8 => absurd c_8 (by rw [h2]; decide)) (fun c_8 => ?_)
  refine lv_iload_n hx hb dX0_sheet_21 rfl (lv_at hl 2 rfl) ?_
  refine lv_if_lt (tgt := 33) hx hb dX0_sheet_22 (by decide) (fun c_9 => ?_) (fun c_9 => absurd h3 c_9)
  refine lv_aload_n hx hb dX0_sheet_33 rfl (lv_at hl 0 rfl) ?_
  refine va_get (D := D) (ci := 0) (v := .ref xs) (C := RX0) (T := TX0) (N := 5) hx hb hts in_X0 hown hK hP 0 rfl rfl 0 (by decide) (hts _ q293) (fun _ h9 => h9) rfl dX0_sheet_34 ?_
  refine lv_iload_n hx hb dX0_sheet_37 rfl (lv_at hl 1 rfl) ?_
  refine lv_iload_n hx hb dX0_sheet_38 rfl (lv_at hl 2 rfl) ?_
  refine lv_if_ge (tgt := 46) hx hb dX0_sheet_39 (by decide) (fun c_10 => absurd c_10 (Int32.not_le.mpr h3)) (fun c_10 => ?_)
  refine lv_null hx hb dX0_sheet_42 ?_
  refine lv_goto (tgt := 51) hx hb dX0_sheet_43 (by decide) ?_
  refine va_astqN hx hb hK hP hD hS 1 3 rfl rfl (vin_nI (a := j) rfl (by omega) (by decide)) dX0_sheet_51 (fun H locs hP hD hS => ?_)
  rw [nI_clamp (show j < 2 ^ 31 by omega)] at hP hD
  have hP : va_P D vwCl [(xo, oX xs xu xd xr xf), (xs, rA ca 3 6 (va_up sa j none))] H := hP
  have hD : va_D A [(xo, oX xs xu xd xr xf), (xs, rA ca 3 6 (va_up sa j none))] := hD
  refine lv_iconst (v := 0) hx hb dX0_sheet_52 (by decide) ?_
  refine vx_ret ?_
  exact k_iret () hx hb hr hlocks (rfl) hP hD trivial hS (Nat.le_of_ble_eq_true rfl) (Nat.le_of_ble_eq_true rfl) dX0_sheet_53
set_option maxHeartbeats 4000000 in
set_option maxRecDepth 100000 in
theorem ct_X0_sheet_40 (l : Launch) (hl0 : l.stackTraces = false) (D : va_G) (ca : Nat → ClassId) (zH : Nat) (xo j : Nat) (n0 : Int32) (hj : j < 6) (h4 : ¬ n0 ≤ 16) : vx_Met l yX0_sheet (wsH_ yX0_sheet cX0_sheet 5 (some .int) [((33 : Nat), (53 : Nat), (54 : Nat), (25 : Nat))]) ({ frames := 2, cells := 0, slots := 0, locals := 45 }) (va_Pc [.ref xo, .int (nI j), .int (nI 0), .int n0] (prX NW D ca [] zH (fun _ => True))) (qI D (fun (r : Int32) (u : Unit) => r = -1) (fun u => []) (fun u H => True) (va_A [] zH)) noX 0 0 (va_A [] zH) := by
  have hk := NW_ok
  refine k_ofH (Qc := qI D (fun (r : Int32) (u : Unit) => r = -1) (fun u => []) (fun u H => True)) (by decide) (Nat.le_of_ble_eq_true rfl) ?_
  intro p e s m below meth c ls A H hH hx hb hr hts hown hlocks hnm hml hsz hP hD hK hN hA hAn hS hro hl hX hZ htb
  have hl : lv_has ls 5 [(0, .ref xo), (1, .int (nI j)), (2, .int (nI 0)), (3, .int n0)] := hl
  refine lv_iload_n hx hb dX0_sheet_0 rfl (lv_at hl 1 rfl) ?_
  refine k_calli (wr := []) (va_runS (As := [.int (nI j)]) (rest := []) ⟨hx, hb, hml, hown, hts⟩ (ct_X0_isSheet hk l D ca H.size (nI j)) (va_cwS 1 hts (lw_S q127 q128 q19 q129) rfl rfl rfl (by decide +kernel) ⟨Nat.le_of_ble_eq_true rfl, Nat.le_of_ble_eq_true rfl⟩) (k_pre hk hK hN hP hD [] (by decide) rfl trivial) rfl rfl hl.1 rfl (lv_room (Nat.le_of_ble_eq_true rfl)) dX0_sheet_1 ⟨Nat.le_of_ble_eq_true rfl, Nat.le_of_ble_eq_true rfl⟩) hP hD hS hA [] [] rfl rfl (by decide) (by decide) (fun r_1 u_2 H locs w_3 hP hD hxw_3 hzw_3 hqw_3 hS => ?_)
  obtain rfl : r_1 = bI (p_in (nI j).toInt64 0 5) := w_3
  refine lv_if_eq (tgt := 31) hx hb dX0_sheet_4 (by decide) (fun c_4 => absurd c_4 (by rw [in_5 hj]; decide)) (fun c_4 => ?_)
  refine lv_iload_n hx hb dX0_sheet_7 rfl (lv_at hl 2 rfl) ?_
  refine lv_i2l (v := (nI 0).toInt64) hx hb dX0_sheet_8 rfl ?_
  refine lv_ldc2 hx hb hown (hts _ q134) dX0_sheet_9 ?_
  refine lv_ldc2 hx hb hown (hts _ q135) dX0_sheet_12 ?_
  refine k_calli (wr := []) (va_runS (As := [.long ((nI 0).toInt64), .long (-1), .long 2]) (rest := []) ⟨hx, hb, hml, hown, hts⟩ (ct_X0_isIn hk l D ca H.size ((nI 0).toInt64) (-1) 2) (va_cwS 3 hts (lw_S q131 q132 q19 q133) rfl rfl rfl (by decide +kernel) ⟨Nat.le_of_ble_eq_true rfl, Nat.le_of_ble_eq_true rfl⟩) (k_pre hk hK hN hP hD [] (by decide) rfl trivial) rfl rfl hl.1 rfl (lv_room (Nat.le_of_ble_eq_true rfl)) dX0_sheet_15 ⟨Nat.le_of_ble_eq_true rfl, Nat.le_of_ble_eq_true rfl⟩) hP hD hS hA [] [] rfl rfl (by decide) (by decide) (fun r_5 u_6 H locs w_7 hP hD hxw_7 hzw_7 hqw_7 hS => ?_)
  obtain rfl : r_5 = bI (p_in ((nI 0).toInt64) (-1) 2) := w_7
  refine lv_if_eq (tgt := 31) hx hb dX0_sheet_18 (by decide) (fun c_8 => absurd c_8 (by decide)) (fun c_8 => ?_)
  refine lv_iload_n hx hb dX0_sheet_21 rfl (lv_at hl 2 rfl) ?_
  refine lv_if_lt (tgt := 33) hx hb dX0_sheet_22 (by decide) (fun c_9 => absurd c_9 (by decide)) (fun c_9 => ?_)
  refine lv_iload_n hx hb dX0_sheet_25 rfl (lv_at hl 3 rfl) ?_
  refine lv_bipush (v := 16) hx hb dX0_sheet_26 (by decide) ?_
  refine lv_icmp_le (tgt := 33) hx hb dX0_sheet_28 (by decide) (fun c_10 => absurd c_10 h4) (fun c_10 => ?_)
  refine lv_iconst (v := (-1)) hx hb dX0_sheet_31 (by decide) ?_
  refine vx_ret ?_
  exact k_iret () hx hb hr hlocks (rfl) hP hD trivial hS (Nat.le_of_ble_eq_true rfl) (Nat.le_of_ble_eq_true rfl) dX0_sheet_32
set_option maxHeartbeats 4000000 in
set_option maxRecDepth 100000 in
theorem ct_X0_sheet_50 (l : Launch) (hl0 : l.stackTraces = false) (D : va_G) (ca : Nat → ClassId) (zH : Nat) (xo xs xu xd xr xf : Nat) (sa : Nat → Option Nat) (j : Nat) (n0 : Int32) (hj : j < 6) (h4 : n0 ≤ 16) (h5 : n0 < 0) : vx_Met l yX0_sheet (wsH_ yX0_sheet cX0_sheet 5 (some .int) [((33 : Nat), (53 : Nat), (54 : Nat), (25 : Nat))]) ({ frames := 13, cells := 3, slots := 54, locals := 10421 }) (va_Pc [.ref xo, .int (nI j), .int (nI 0), .int n0] (prX NW D ca [(xo, oX xs xu xd xr xf), (xs, rA ca 3 6 sa)] zH (fun _ => True))) (qI D (fun (r : Int32) (u : Unit) => r = -13) (fun u => [(xo, oX xs xu xd xr xf), (xs, rA ca 3 6 sa)]) (fun u H => True) (va_A [(xo, oX xs xu xd xr xf), (xs, rA ca 3 6 sa)] zH)) noX 3 54 (va_A [(xo, oX xs xu xd xr xf), (xs, rA ca 3 6 sa)] zH) := by
  have hk := NW_ok
  refine k_ofH (Qc := qI D (fun (r : Int32) (u : Unit) => r = -13) (fun u => [(xo, oX xs xu xd xr xf), (xs, rA ca 3 6 sa)]) (fun u H => True)) (by decide) (Nat.le_of_ble_eq_true rfl) ?_
  intro p e s m below meth c ls A H hH hx hb hr hts hown hlocks hnm hml hsz hP hD hK hN hA hAn hS hro hl hX hZ htb
  have hl : lv_has ls 5 [(0, .ref xo), (1, .int (nI j)), (2, .int (nI 0)), (3, .int n0)] := hl
  refine lv_iload_n hx hb dX0_sheet_0 rfl (lv_at hl 1 rfl) ?_
  refine k_calli (wr := [(xo, oX xs xu xd xr xf), (xs, rA ca 3 6 sa)]) (va_runS (As := [.int (nI j)]) (rest := []) ⟨hx, hb, hml, hown, hts⟩ (ct_X0_isSheet hk l D ca H.size (nI j)) (va_cwS 1 hts (lw_S q127 q128 q19 q129) rfl rfl rfl (by decide +kernel) ⟨Nat.le_of_ble_eq_true rfl, Nat.le_of_ble_eq_true rfl⟩) (k_pre hk hK hN hP hD [] (by decide) rfl trivial) rfl rfl hl.1 rfl (lv_room (Nat.le_of_ble_eq_true rfl)) dX0_sheet_1 ⟨Nat.le_of_ble_eq_true rfl, Nat.le_of_ble_eq_true rfl⟩) hP hD hS hA [] [0, 1] rfl rfl (by decide) (by decide) (fun r_1 u_2 H locs w_3 hP hD hxw_3 hzw_3 hqw_3 hS => ?_)
  obtain rfl : r_1 = bI (p_in (nI j).toInt64 0 5) := w_3
  refine lv_if_eq (tgt := 31) hx hb dX0_sheet_4 (by decide) (fun c_4 => absurd c_4 (by rw [in_5 hj]; decide)) (fun c_4 => ?_)
  refine lv_iload_n hx hb dX0_sheet_7 rfl (lv_at hl 2 rfl) ?_
  refine lv_i2l (v := (nI 0).toInt64) hx hb dX0_sheet_8 rfl ?_
  refine lv_ldc2 hx hb hown (hts _ q134) dX0_sheet_9 ?_
  refine lv_ldc2 hx hb hown (hts _ q135) dX0_sheet_12 ?_
  refine k_calli (wr := [(xo, oX xs xu xd xr xf), (xs, rA ca 3 6 sa)]) (va_runS (As := [.long ((nI 0).toInt64), .long (-1), .long 2]) (rest := []) ⟨hx, hb, hml, hown, hts⟩ (ct_X0_isIn hk l D ca H.size ((nI 0).toInt64) (-1) 2) (va_cwS 3 hts (lw_S q131 q132 q19 q133) rfl rfl rfl (by decide +kernel) ⟨Nat.le_of_ble_eq_true rfl, Nat.le_of_ble_eq_true rfl⟩) (k_pre hk hK hN hP hD [] (by decide) rfl trivial) rfl rfl hl.1 rfl (lv_room (Nat.le_of_ble_eq_true rfl)) dX0_sheet_15 ⟨Nat.le_of_ble_eq_true rfl, Nat.le_of_ble_eq_true rfl⟩) hP hD hS hA [] [0, 1] rfl rfl (by decide) (by decide) (fun r_5 u_6 H locs w_7 hP hD hxw_7 hzw_7 hqw_7 hS => ?_)
  obtain rfl : r_5 = bI (p_in ((nI 0).toInt64) (-1) 2) := w_7
  refine lv_if_eq (tgt := 31) hx hb dX0_sheet_18 (by decide) (fun c_8 => absurd c_8 (by decide)) (fun c_8 => ?_)
  refine lv_iload_n hx hb dX0_sheet_21 rfl (lv_at hl 2 rfl) ?_
  refine lv_if_lt (tgt := 33) hx hb dX0_sheet_22 (by decide) (fun c_9 => absurd c_9 (by decide)) (fun c_9 => ?_)
  refine lv_iload_n hx hb dX0_sheet_25 rfl (lv_at hl 3 rfl) ?_
  refine lv_bipush (v := 16) hx hb dX0_sheet_26 (by decide) ?_
  refine lv_icmp_le (tgt := 33) hx hb dX0_sheet_28 (by decide) (fun c_10 => ?_) (fun c_10 => absurd h4 c_10)
  refine lv_aload_n hx hb dX0_sheet_33 rfl (lv_at hl 0 rfl) ?_
  refine va_get (D := D) (ci := 0) (v := .ref xs) (C := RX0) (T := TX0) (N := 5) hx hb hts in_X0 hown hK hP 0 rfl rfl 0 (by decide) (hts _ q293) (fun _ h9 => h9) rfl dX0_sheet_34 ?_
  refine lv_iload_n hx hb dX0_sheet_37 rfl (lv_at hl 1 rfl) ?_
  refine lv_iload_n hx hb dX0_sheet_38 rfl (lv_at hl 2 rfl) ?_
  refine lv_if_ge (tgt := 46) hx hb dX0_sheet_39 (by decide) (fun c_11 => ?_) (fun c_11 => absurd (by decide) c_11)
  refine lv_iload_n hx hb dX0_sheet_46 rfl (lv_at hl 2 rfl) ?_
  refine lv_iload_n hx hb dX0_sheet_47 rfl (lv_at hl 3 rfl) ?_
  have hFc := va_free (wc := []) hD hS hA [] rfl
  refine k_thr (vx_runS (As := [.int (nI 0), .int n0]) (rest := [.int (nI j), .ref xs]) ⟨hx, hb, hml, hown, hts⟩ (ct_X0_rowOf_S0 l hl0 D ca H.size n0 h5) (va_cwS 2 hts (lw_S q136 q137 q19 q138) rfl rfl rfl (by decide +kernel) ⟨Nat.le_of_ble_eq_true rfl, Nat.le_of_ble_eq_true rfl⟩) (k_preX hk hK hN hP hD [] (by decide) rfl trivial hX (hZ.kept hS.2.1)) rfl rfl hl.1 rfl (lv_room (Nat.le_of_ble_eq_true rfl)) dX0_sheet_48 ⟨Nat.le_of_ble_eq_true rfl, Nat.le_of_ble_eq_true rfl⟩) (fun st9 v9 t9 hq9 => hq9.1.elim (fun u hq9 => hq9.elim (fun a9 hq9 => hq9.2.1))) hS hFc (fun q h1 h2 => absurd h1 (Nat.not_lt.mpr h2)) (fun E ce q9 u t H9 locs ht hal hp9 hE hz h9 hS hce hcv hcl => ?_)
  have hE : E = "java/lang/NegativeArraySizeException" := hE
  subst hE
  have hPz := vp_same hP (fun q hq => h9 q hq (Nat.not_le.mpr hq))
  clear hP
  have hP := hPz
  clear hPz
  obtain ⟨H, rfl⟩ : ∃ z, z = H9 := ⟨_, rfl⟩
  have hP : va_P D vwCl [(xo, oX xs xu xd xr xf), (xs, rA ca 3 6 sa)] H := hP
  have hD : va_D A [(xo, oX xs xu xd xr xf), (xs, rA ca 3 6 sa)] := hD
  refine vx_catch (E := "java/lang/NegativeArraySizeException") (name := "java/lang/NegativeArraySizeException") hown [] (⟨33, 53, 54, 25⟩ : ExceptionTableEntry) [] (by rw [htb]; rfl) (fun z hz => absurd hz List.not_mem_nil) (by decide) (by decide) (hts _ q41) (va_Nw.use rfl (hN.2.2.2.1 _ (List.mem_of_getElem? (i := 5) rfl))) hce hcv hcl ?_
  refine lv_astore (lv' := [(4, .ref q9), (0, .ref xo), (1, .int (nI j)), (2, .int (nI 0)), (3, .int n0)]) hx hb dX0_sheet_54 hl (by decide) rfl (fun ls hl => ?_)
  refine lv_bipush (v := (-13)) hx hb dX0_sheet_56 (by decide) ?_
  refine vx_ret ?_
  exact k_iret () hx hb hr hlocks (rfl) hP hD trivial hS (Nat.le_of_ble_eq_true rfl) (Nat.le_of_ble_eq_true rfl) dX0_sheet_58
set_option maxHeartbeats 4000000 in
set_option maxRecDepth 100000 in
theorem ct_X0_sheet_60 (l : Launch) (hl0 : l.stackTraces = false) (D : va_G) (ca : Nat → ClassId) (zH : Nat) (xo xs xu xd xr xf : Nat) (sa : Nat → Option Nat) (j nn : Nat) (hj : j < 6) (hnn : nn ≤ 16) : vx_Met l yX0_sheet (wsH_ yX0_sheet cX0_sheet 5 (some .int) [((33 : Nat), (53 : Nat), (54 : Nat), (25 : Nat))]) ({ frames := 2, cells := 1, slots := 16, locals := 45 }) (va_Pc [.ref xo, .int (nI j), .int (nI 0), .int (nI nn)] (prX NW D ca [(xo, oX xs xu xd xr xf), (xs, rA ca 3 6 sa)] zH (fun _ => True))) (qI D (fun (r : Int32) (u : Nat) => r = 0) (fun u => [(xo, oX xs xu xd xr xf), (xs, rA ca 3 6 (va_up sa j (some u))), (u, rwE ca 0 nn (fun _ => 0))]) (fun u H => True) (va_A [(xo, oX xs xu xd xr xf), (xs, rA ca 3 6 sa)] zH)) noX 1 16 (va_A [(xo, oX xs xu xd xr xf), (xs, rA ca 3 6 sa)] zH) := by
  have hk := NW_ok
  refine k_ofH (Qc := qI D (fun (r : Int32) (u : Nat) => r = 0) (fun u => [(xo, oX xs xu xd xr xf), (xs, rA ca 3 6 (va_up sa j (some u))), (u, rwE ca 0 nn (fun _ => 0))]) (fun u H => True)) (by decide) (Nat.le_of_ble_eq_true rfl) ?_
  intro p e s m below meth c ls A H hH hx hb hr hts hown hlocks hnm hml hsz hP hD hK hN hA hAn hS hro hl hX hZ htb
  have hl : lv_has ls 5 [(0, .ref xo), (1, .int (nI j)), (2, .int (nI 0)), (3, .int (nI nn))] := hl
  refine lv_iload_n hx hb dX0_sheet_0 rfl (lv_at hl 1 rfl) ?_
  refine k_calli (wr := [(xo, oX xs xu xd xr xf), (xs, rA ca 3 6 sa)]) (va_runS (As := [.int (nI j)]) (rest := []) ⟨hx, hb, hml, hown, hts⟩ (ct_X0_isSheet hk l D ca H.size (nI j)) (va_cwS 1 hts (lw_S q127 q128 q19 q129) rfl rfl rfl (by decide +kernel) ⟨Nat.le_of_ble_eq_true rfl, Nat.le_of_ble_eq_true rfl⟩) (k_pre hk hK hN hP hD [] (by decide) rfl trivial) rfl rfl hl.1 rfl (lv_room (Nat.le_of_ble_eq_true rfl)) dX0_sheet_1 ⟨Nat.le_of_ble_eq_true rfl, Nat.le_of_ble_eq_true rfl⟩) hP hD hS hA [] [0, 1] rfl rfl (by decide) (by decide) (fun r_1 u_2 H locs w_3 hP hD hxw_3 hzw_3 hqw_3 hS => ?_)
  obtain rfl : r_1 = bI (p_in (nI j).toInt64 0 5) := w_3
  refine lv_if_eq (tgt := 31) hx hb dX0_sheet_4 (by decide) (fun c_4 => absurd c_4 (by rw [in_5 hj]; decide)) (fun c_4 => ?_)
  refine lv_iload_n hx hb dX0_sheet_7 rfl (lv_at hl 2 rfl) ?_
  refine lv_i2l (v := (nI 0).toInt64) hx hb dX0_sheet_8 rfl ?_
  refine lv_ldc2 hx hb hown (hts _ q134) dX0_sheet_9 ?_
  refine lv_ldc2 hx hb hown (hts _ q135) dX0_sheet_12 ?_
  refine k_calli (wr := [(xo, oX xs xu xd xr xf), (xs, rA ca 3 6 sa)]) (va_runS (As := [.long ((nI 0).toInt64), .long (-1), .long 2]) (rest := []) ⟨hx, hb, hml, hown, hts⟩ (ct_X0_isIn hk l D ca H.size ((nI 0).toInt64) (-1) 2) (va_cwS 3 hts (lw_S q131 q132 q19 q133) rfl rfl rfl (by decide +kernel) ⟨Nat.le_of_ble_eq_true rfl, Nat.le_of_ble_eq_true rfl⟩) (k_pre hk hK hN hP hD [] (by decide) rfl trivial) rfl rfl hl.1 rfl (lv_room (Nat.le_of_ble_eq_true rfl)) dX0_sheet_15 ⟨Nat.le_of_ble_eq_true rfl, Nat.le_of_ble_eq_true rfl⟩) hP hD hS hA [] [0, 1] rfl rfl (by decide) (by decide) (fun r_5 u_6 H locs w_7 hP hD hxw_7 hzw_7 hqw_7 hS => ?_)
  obtain rfl : r_5 = bI (p_in ((nI 0).toInt64) (-1) 2) := w_7
  refine lv_if_eq (tgt := 31) hx hb dX0_sheet_18 (by decide) (fun c_8 => absurd c_8 (by decide)) (fun c_8 => ?_)
  refine lv_iload_n hx hb dX0_sheet_21 rfl (lv_at hl 2 rfl) ?_
  refine lv_if_lt (tgt := 33) hx hb dX0_sheet_22 (by decide) (fun c_9 => absurd c_9 (by decide)) (fun c_9 => ?_)
  refine lv_iload_n hx hb dX0_sheet_25 rfl (lv_at hl 3 rfl) ?_
  refine lv_bipush (v := 16) hx hb dX0_sheet_26 (by decide) ?_
  refine lv_icmp_le (tgt := 33) hx hb dX0_sheet_28 (by decide) (fun c_10 => ?_) (fun c_10 => absurd ((le_n (a := nn) (b := 16) rfl rfl (by omega) (by decide)).mpr hnn) c_10)
  refine lv_aload_n hx hb dX0_sheet_33 rfl (lv_at hl 0 rfl) ?_
  refine va_get (D := D) (ci := 0) (v := .ref xs) (C := RX0) (T := TX0) (N := 5) hx hb hts in_X0 hown hK hP 0 rfl rfl 0 (by decide) (hts _ q293) (fun _ h9 => h9) rfl dX0_sheet_34 ?_
  refine lv_iload_n hx hb dX0_sheet_37 rfl (lv_at hl 1 rfl) ?_
  refine lv_iload_n hx hb dX0_sheet_38 rfl (lv_at hl 2 rfl) ?_
  refine lv_if_ge (tgt := 46) hx hb dX0_sheet_39 (by decide) (fun c_11 => ?_) (fun c_11 => absurd (by decide) c_11)
  refine lv_iload_n hx hb dX0_sheet_46 rfl (lv_at hl 2 rfl) ?_
  refine lv_iload_n hx hb dX0_sheet_47 rfl (lv_at hl 3 rfl) ?_
  refine k_callr (wr := [(xo, oX xs xu xd xr xf), (xs, rA ca 3 6 sa)]) (va_runS (As := [.int (nI 0), .int (nI nn)]) (rest := [.int (nI j), .ref xs]) ⟨hx, hb, hml, hown, hts⟩ (ct_X0_rowOf_0 l D ca H.size nn hnn) (va_cwS 2 hts (lw_S q136 q137 q19 q138) rfl rfl rfl (by decide +kernel) ⟨Nat.le_of_ble_eq_true rfl, Nat.le_of_ble_eq_true rfl⟩) (k_pre hk hK hN hP hD [] (by decide) rfl trivial) rfl rfl hl.1 rfl (lv_room (Nat.le_of_ble_eq_true rfl)) dX0_sheet_48 ⟨Nat.le_of_ble_eq_true rfl, Nat.le_of_ble_eq_true rfl⟩) hP hD hS hA [] [0, 1] rfl rfl (by decide) (by decide) (fun u_13 r_12 H locs w_14 hP hD hxw_14 hzw_14 hqw_14 hS => ?_)
  have hP : va_P D vwCl [(xo, oX xs xu xd xr xf), (xs, rA ca 3 6 sa), (r_12, rwE ca 0 nn (fun _ => 0))] H := hP
  have hD : va_D A [(xo, oX xs xu xd xr xf), (xs, rA ca 3 6 sa), (r_12, rwE ca 0 nn (fun _ => 0))] := hD
  refine va_astqM hx hb hK hP hD hS 1 3 rfl rfl (any_row hK hN hP 2 (by decide) rfl) (vin_nI (a := j) rfl (by omega) (by decide)) dX0_sheet_51 (fun H locs hP hD hS => ?_)
  rw [nI_clamp (show j < 2 ^ 31 by omega)] at hP hD
  have hP : va_P D vwCl [(xo, oX xs xu xd xr xf), (xs, rA ca 3 6 (va_up sa j (some r_12))), (r_12, rwE ca 0 nn (fun _ => 0))] H := hP
  have hD : va_D A [(xo, oX xs xu xd xr xf), (xs, rA ca 3 6 (va_up sa j (some r_12))), (r_12, rwE ca 0 nn (fun _ => 0))] := hD
  refine lv_iconst (v := 0) hx hb dX0_sheet_52 (by decide) ?_
  refine vx_ret ?_
  exact k_iret r_12 hx hb hr hlocks (rfl) hP hD trivial hS (Nat.le_of_ble_eq_true rfl) (Nat.le_of_ble_eq_true rfl) dX0_sheet_53
set_option maxHeartbeats 4000000 in
set_option maxRecDepth 100000 in
theorem ct_X0_sheet_41 (l : Launch) (hl0 : l.stackTraces = false) (D : va_G) (ca : Nat → ClassId) (zH : Nat) (xo j : Nat) (n0 : Int32) (hj : j < 6) (h4 : ¬ n0 ≤ 16) : vx_Met l yX0_sheet (wsH_ yX0_sheet cX0_sheet 5 (some .int) [((33 : Nat), (53 : Nat), (54 : Nat), (25 : Nat))]) ({ frames := 2, cells := 0, slots := 0, locals := 45 }) (va_Pc [.ref xo, .int (nI j), .int (nI 1), .int n0] (prX NW D ca [] zH (fun _ => True))) (qI D (fun (r : Int32) (u : Unit) => r = -1) (fun u => []) (fun u H => True) (va_A [] zH)) noX 0 0 (va_A [] zH) := by
  have hk := NW_ok
  refine k_ofH (Qc := qI D (fun (r : Int32) (u : Unit) => r = -1) (fun u => []) (fun u H => True)) (by decide) (Nat.le_of_ble_eq_true rfl) ?_
  intro p e s m below meth c ls A H hH hx hb hr hts hown hlocks hnm hml hsz hP hD hK hN hA hAn hS hro hl hX hZ htb
  have hl : lv_has ls 5 [(0, .ref xo), (1, .int (nI j)), (2, .int (nI 1)), (3, .int n0)] := hl
  refine lv_iload_n hx hb dX0_sheet_0 rfl (lv_at hl 1 rfl) ?_
  refine k_calli (wr := []) (va_runS (As := [.int (nI j)]) (rest := []) ⟨hx, hb, hml, hown, hts⟩ (ct_X0_isSheet hk l D ca H.size (nI j)) (va_cwS 1 hts (lw_S q127 q128 q19 q129) rfl rfl rfl (by decide +kernel) ⟨Nat.le_of_ble_eq_true rfl, Nat.le_of_ble_eq_true rfl⟩) (k_pre hk hK hN hP hD [] (by decide) rfl trivial) rfl rfl hl.1 rfl (lv_room (Nat.le_of_ble_eq_true rfl)) dX0_sheet_1 ⟨Nat.le_of_ble_eq_true rfl, Nat.le_of_ble_eq_true rfl⟩) hP hD hS hA [] [] rfl rfl (by decide) (by decide) (fun r_1 u_2 H locs w_3 hP hD hxw_3 hzw_3 hqw_3 hS => ?_)
  obtain rfl : r_1 = bI (p_in (nI j).toInt64 0 5) := w_3
  refine lv_if_eq (tgt := 31) hx hb dX0_sheet_4 (by decide) (fun c_4 => absurd c_4 (by rw [in_5 hj]; decide)) (fun c_4 => ?_)
  refine lv_iload_n hx hb dX0_sheet_7 rfl (lv_at hl 2 rfl) ?_
  refine lv_i2l (v := (nI 1).toInt64) hx hb dX0_sheet_8 rfl ?_
  refine lv_ldc2 hx hb hown (hts _ q134) dX0_sheet_9 ?_
  refine lv_ldc2 hx hb hown (hts _ q135) dX0_sheet_12 ?_
  refine k_calli (wr := []) (va_runS (As := [.long ((nI 1).toInt64), .long (-1), .long 2]) (rest := []) ⟨hx, hb, hml, hown, hts⟩ (ct_X0_isIn hk l D ca H.size ((nI 1).toInt64) (-1) 2) (va_cwS 3 hts (lw_S q131 q132 q19 q133) rfl rfl rfl (by decide +kernel) ⟨Nat.le_of_ble_eq_true rfl, Nat.le_of_ble_eq_true rfl⟩) (k_pre hk hK hN hP hD [] (by decide) rfl trivial) rfl rfl hl.1 rfl (lv_room (Nat.le_of_ble_eq_true rfl)) dX0_sheet_15 ⟨Nat.le_of_ble_eq_true rfl, Nat.le_of_ble_eq_true rfl⟩) hP hD hS hA [] [] rfl rfl (by decide) (by decide) (fun r_5 u_6 H locs w_7 hP hD hxw_7 hzw_7 hqw_7 hS => ?_)
  obtain rfl : r_5 = bI (p_in ((nI 1).toInt64) (-1) 2) := w_7
  refine lv_if_eq (tgt := 31) hx hb dX0_sheet_18 (by decide) (fun c_8 => absurd c_8 (by decide)) (fun c_8 => ?_)
  refine lv_iload_n hx hb dX0_sheet_21 rfl (lv_at hl 2 rfl) ?_
  refine lv_if_lt (tgt := 33) hx hb dX0_sheet_22 (by decide) (fun c_9 => absurd c_9 (by decide)) (fun c_9 => ?_)
  refine lv_iload_n hx hb dX0_sheet_25 rfl (lv_at hl 3 rfl) ?_
  refine lv_bipush (v := 16) hx hb dX0_sheet_26 (by decide) ?_
  refine lv_icmp_le (tgt := 33) hx hb dX0_sheet_28 (by decide) (fun c_10 => absurd c_10 h4) (fun c_10 => ?_)
  refine lv_iconst (v := (-1)) hx hb dX0_sheet_31 (by decide) ?_
  refine vx_ret ?_
  exact k_iret () hx hb hr hlocks (rfl) hP hD trivial hS (Nat.le_of_ble_eq_true rfl) (Nat.le_of_ble_eq_true rfl) dX0_sheet_32
set_option maxHeartbeats 4000000 in
set_option maxRecDepth 100000 in
theorem ct_X0_sheet_51 (l : Launch) (hl0 : l.stackTraces = false) (D : va_G) (ca : Nat → ClassId) (zH : Nat) (xo xs xu xd xr xf : Nat) (sa : Nat → Option Nat) (j : Nat) (n0 : Int32) (hj : j < 6) (h4 : n0 ≤ 16) (h5 : n0 < 0) : vx_Met l yX0_sheet (wsH_ yX0_sheet cX0_sheet 5 (some .int) [((33 : Nat), (53 : Nat), (54 : Nat), (25 : Nat))]) ({ frames := 13, cells := 3, slots := 54, locals := 10421 }) (va_Pc [.ref xo, .int (nI j), .int (nI 1), .int n0] (prX NW D ca [(xo, oX xs xu xd xr xf), (xs, rA ca 3 6 sa)] zH (fun _ => True))) (qI D (fun (r : Int32) (u : Unit) => r = -13) (fun u => [(xo, oX xs xu xd xr xf), (xs, rA ca 3 6 sa)]) (fun u H => True) (va_A [(xo, oX xs xu xd xr xf), (xs, rA ca 3 6 sa)] zH)) noX 3 54 (va_A [(xo, oX xs xu xd xr xf), (xs, rA ca 3 6 sa)] zH) := by
  have hk := NW_ok
  refine k_ofH (Qc := qI D (fun (r : Int32) (u : Unit) => r = -13) (fun u => [(xo, oX xs xu xd xr xf), (xs, rA ca 3 6 sa)]) (fun u H => True)) (by decide) (Nat.le_of_ble_eq_true rfl) ?_
  intro p e s m below meth c ls A H hH hx hb hr hts hown hlocks hnm hml hsz hP hD hK hN hA hAn hS hro hl hX hZ htb
  have hl : lv_has ls 5 [(0, .ref xo), (1, .int (nI j)), (2, .int (nI 1)), (3, .int n0)] := hl
  refine lv_iload_n hx hb dX0_sheet_0 rfl (lv_at hl 1 rfl) ?_
  refine k_calli (wr := [(xo, oX xs xu xd xr xf), (xs, rA ca 3 6 sa)]) (va_runS (As := [.int (nI j)]) (rest := []) ⟨hx, hb, hml, hown, hts⟩ (ct_X0_isSheet hk l D ca H.size (nI j)) (va_cwS 1 hts (lw_S q127 q128 q19 q129) rfl rfl rfl (by decide +kernel) ⟨Nat.le_of_ble_eq_true rfl, Nat.le_of_ble_eq_true rfl⟩) (k_pre hk hK hN hP hD [] (by decide) rfl trivial) rfl rfl hl.1 rfl (lv_room (Nat.le_of_ble_eq_true rfl)) dX0_sheet_1 ⟨Nat.le_of_ble_eq_true rfl, Nat.le_of_ble_eq_true rfl⟩) hP hD hS hA [] [0, 1] rfl rfl (by decide) (by decide) (fun r_1 u_2 H locs w_3 hP hD hxw_3 hzw_3 hqw_3 hS => ?_)
  obtain rfl : r_1 = bI (p_in (nI j).toInt64 0 5) := w_3
  refine lv_if_eq (tgt := 31) hx hb dX0_sheet_4 (by decide) (fun c_4 => absurd c_4 (by rw [in_5 hj]; decide)) (fun c_4 => ?_)
  refine lv_iload_n hx hb dX0_sheet_7 rfl (lv_at hl 2 rfl) ?_
  refine lv_i2l (v := (nI 1).toInt64) hx hb dX0_sheet_8 rfl ?_
  refine lv_ldc2 hx hb hown (hts _ q134) dX0_sheet_9 ?_
  refine lv_ldc2 hx hb hown (hts _ q135) dX0_sheet_12 ?_
  refine k_calli (wr := [(xo, oX xs xu xd xr xf), (xs, rA ca 3 6 sa)]) (va_runS (As := [.long ((nI 1).toInt64), .long (-1), .long 2]) (rest := []) ⟨hx, hb, hml, hown, hts⟩ (ct_X0_isIn hk l D ca H.size ((nI 1).toInt64) (-1) 2) (va_cwS 3 hts (lw_S q131 q132 q19 q133) rfl rfl rfl (by decide +kernel) ⟨Nat.le_of_ble_eq_true rfl, Nat.le_of_ble_eq_true rfl⟩) (k_pre hk hK hN hP hD [] (by decide) rfl trivial) rfl rfl hl.1 rfl (lv_room (Nat.le_of_ble_eq_true rfl)) dX0_sheet_15 ⟨Nat.le_of_ble_eq_true rfl, Nat.le_of_ble_eq_true rfl⟩) hP hD hS hA [] [0, 1] rfl rfl (by decide) (by decide) (fun r_5 u_6 H locs w_7 hP hD hxw_7 hzw_7 hqw_7 hS => ?_)
  obtain rfl : r_5 = bI (p_in ((nI 1).toInt64) (-1) 2) := w_7
  refine lv_if_eq (tgt := 31) hx hb dX0_sheet_18 (by decide) (fun c_8 => absurd c_8 (by decide)) (fun c_8 => ?_)
  refine lv_iload_n hx hb dX0_sheet_21 rfl (lv_at hl 2 rfl) ?_
  refine lv_if_lt (tgt := 33) hx hb dX0_sheet_22 (by decide) (fun c_9 => absurd c_9 (by decide)) (fun c_9 => ?_)
  refine lv_iload_n hx hb dX0_sheet_25 rfl (lv_at hl 3 rfl) ?_
  refine lv_bipush (v := 16) hx hb dX0_sheet_26 (by decide) ?_
  refine lv_icmp_le (tgt := 33) hx hb dX0_sheet_28 (by decide) (fun c_10 => ?_) (fun c_10 => absurd h4 c_10)
  refine lv_aload_n hx hb dX0_sheet_33 rfl (lv_at hl 0 rfl) ?_
  refine va_get (D := D) (ci := 0) (v := .ref xs) (C := RX0) (T := TX0) (N := 5) hx hb hts in_X0 hown hK hP 0 rfl rfl 0 (by decide) (hts _ q293) (fun _ h9 => h9) rfl dX0_sheet_34 ?_
  refine lv_iload_n hx hb dX0_sheet_37 rfl (lv_at hl 1 rfl) ?_
  refine lv_iload_n hx hb dX0_sheet_38 rfl (lv_at hl 2 rfl) ?_
  refine lv_if_ge (tgt := 46) hx hb dX0_sheet_39 (by decide) (fun c_11 => ?_) (fun c_11 => absurd (by decide) c_11)
  refine lv_iload_n hx hb dX0_sheet_46 rfl (lv_at hl 2 rfl) ?_
  refine lv_iload_n hx hb dX0_sheet_47 rfl (lv_at hl 3 rfl) ?_
  have hFc := va_free (wc := []) hD hS hA [] rfl
  refine k_thr (vx_runS (As := [.int (nI 1), .int n0]) (rest := [.int (nI j), .ref xs]) ⟨hx, hb, hml, hown, hts⟩ (ct_X0_rowOf_S1 l hl0 D ca H.size n0 h5) (va_cwS 2 hts (lw_S q136 q137 q19 q138) rfl rfl rfl (by decide +kernel) ⟨Nat.le_of_ble_eq_true rfl, Nat.le_of_ble_eq_true rfl⟩) (k_preX hk hK hN hP hD [] (by decide) rfl trivial hX (hZ.kept hS.2.1)) rfl rfl hl.1 rfl (lv_room (Nat.le_of_ble_eq_true rfl)) dX0_sheet_48 ⟨Nat.le_of_ble_eq_true rfl, Nat.le_of_ble_eq_true rfl⟩) (fun st9 v9 t9 hq9 => hq9.1.elim (fun u hq9 => hq9.elim (fun a9 hq9 => hq9.2.1))) hS hFc (fun q h1 h2 => absurd h1 (Nat.not_lt.mpr h2)) (fun E ce q9 u t H9 locs ht hal hp9 hE hz h9 hS hce hcv hcl => ?_)
  have hE : E = "java/lang/NegativeArraySizeException" := hE
  subst hE
  have hPz := vp_same hP (fun q hq => h9 q hq (Nat.not_le.mpr hq))
  clear hP
  have hP := hPz
  clear hPz
  obtain ⟨H, rfl⟩ : ∃ z, z = H9 := ⟨_, rfl⟩
  have hP : va_P D vwCl [(xo, oX xs xu xd xr xf), (xs, rA ca 3 6 sa)] H := hP
  have hD : va_D A [(xo, oX xs xu xd xr xf), (xs, rA ca 3 6 sa)] := hD
  refine vx_catch (E := "java/lang/NegativeArraySizeException") (name := "java/lang/NegativeArraySizeException") hown [] (⟨33, 53, 54, 25⟩ : ExceptionTableEntry) [] (by rw [htb]; rfl) (fun z hz => absurd hz List.not_mem_nil) (by decide) (by decide) (hts _ q41) (va_Nw.use rfl (hN.2.2.2.1 _ (List.mem_of_getElem? (i := 5) rfl))) hce hcv hcl ?_
  refine lv_astore (lv' := [(4, .ref q9), (0, .ref xo), (1, .int (nI j)), (2, .int (nI 1)), (3, .int n0)]) hx hb dX0_sheet_54 hl (by decide) rfl (fun ls hl => ?_)
  refine lv_bipush (v := (-13)) hx hb dX0_sheet_56 (by decide) ?_
  refine vx_ret ?_
  exact k_iret () hx hb hr hlocks (rfl) hP hD trivial hS (Nat.le_of_ble_eq_true rfl) (Nat.le_of_ble_eq_true rfl) dX0_sheet_58
set_option maxHeartbeats 4000000 in
set_option maxRecDepth 100000 in
theorem ct_X0_sheet_61 (l : Launch) (hl0 : l.stackTraces = false) (D : va_G) (ca : Nat → ClassId) (zH : Nat) (xo xs xu xd xr xf : Nat) (sa : Nat → Option Nat) (j nn : Nat) (hj : j < 6) (hnn : nn ≤ 16) : vx_Met l yX0_sheet (wsH_ yX0_sheet cX0_sheet 5 (some .int) [((33 : Nat), (53 : Nat), (54 : Nat), (25 : Nat))]) ({ frames := 2, cells := 1, slots := 16, locals := 45 }) (va_Pc [.ref xo, .int (nI j), .int (nI 1), .int (nI nn)] (prX NW D ca [(xo, oX xs xu xd xr xf), (xs, rA ca 3 6 sa)] zH (fun _ => True))) (qI D (fun (r : Int32) (u : Nat) => r = 0) (fun u => [(xo, oX xs xu xd xr xf), (xs, rA ca 3 6 (va_up sa j (some u))), (u, rwE ca 1 nn (fun _ => 0))]) (fun u H => True) (va_A [(xo, oX xs xu xd xr xf), (xs, rA ca 3 6 sa)] zH)) noX 1 16 (va_A [(xo, oX xs xu xd xr xf), (xs, rA ca 3 6 sa)] zH) := by
  have hk := NW_ok
  refine k_ofH (Qc := qI D (fun (r : Int32) (u : Nat) => r = 0) (fun u => [(xo, oX xs xu xd xr xf), (xs, rA ca 3 6 (va_up sa j (some u))), (u, rwE ca 1 nn (fun _ => 0))]) (fun u H => True)) (by decide) (Nat.le_of_ble_eq_true rfl) ?_
  intro p e s m below meth c ls A H hH hx hb hr hts hown hlocks hnm hml hsz hP hD hK hN hA hAn hS hro hl hX hZ htb
  have hl : lv_has ls 5 [(0, .ref xo), (1, .int (nI j)), (2, .int (nI 1)), (3, .int (nI nn))] := hl
  refine lv_iload_n hx hb dX0_sheet_0 rfl (lv_at hl 1 rfl) ?_
  refine k_calli (wr := [(xo, oX xs xu xd xr xf), (xs, rA ca 3 6 sa)]) (va_runS (As := [.int (nI j)]) (rest := []) ⟨hx, hb, hml, hown, hts⟩ (ct_X0_isSheet hk l D ca H.size (nI j)) (va_cwS 1 hts (lw_S q127 q128 q19 q129) rfl rfl rfl (by decide +kernel) ⟨Nat.le_of_ble_eq_true rfl, Nat.le_of_ble_eq_true rfl⟩) (k_pre hk hK hN hP hD [] (by decide) rfl trivial) rfl rfl hl.1 rfl (lv_room (Nat.le_of_ble_eq_true rfl)) dX0_sheet_1 ⟨Nat.le_of_ble_eq_true rfl, Nat.le_of_ble_eq_true rfl⟩) hP hD hS hA [] [0, 1] rfl rfl (by decide) (by decide) (fun r_1 u_2 H locs w_3 hP hD hxw_3 hzw_3 hqw_3 hS => ?_)
  obtain rfl : r_1 = bI (p_in (nI j).toInt64 0 5) := w_3
  refine lv_if_eq (tgt := 31) hx hb dX0_sheet_4 (by decide) (fun c_4 => absurd c_4 (by rw [in_5 hj]; decide)) (fun c_4 => ?_)
  refine lv_iload_n hx hb dX0_sheet_7 rfl (lv_at hl 2 rfl) ?_
  refine lv_i2l (v := (nI 1).toInt64) hx hb dX0_sheet_8 rfl ?_
  refine lv_ldc2 hx hb hown (hts _ q134) dX0_sheet_9 ?_
  refine lv_ldc2 hx hb hown (hts _ q135) dX0_sheet_12 ?_
  refine k_calli (wr := [(xo, oX xs xu xd xr xf), (xs, rA ca 3 6 sa)]) (va_runS (As := [.long ((nI 1).toInt64), .long (-1), .long 2]) (rest := []) ⟨hx, hb, hml, hown, hts⟩ (ct_X0_isIn hk l D ca H.size ((nI 1).toInt64) (-1) 2) (va_cwS 3 hts (lw_S q131 q132 q19 q133) rfl rfl rfl (by decide +kernel) ⟨Nat.le_of_ble_eq_true rfl, Nat.le_of_ble_eq_true rfl⟩) (k_pre hk hK hN hP hD [] (by decide) rfl trivial) rfl rfl hl.1 rfl (lv_room (Nat.le_of_ble_eq_true rfl)) dX0_sheet_15 ⟨Nat.le_of_ble_eq_true rfl, Nat.le_of_ble_eq_true rfl⟩) hP hD hS hA [] [0, 1] rfl rfl (by decide) (by decide) (fun r_5 u_6 H locs w_7 hP hD hxw_7 hzw_7 hqw_7 hS => ?_)
  obtain rfl : r_5 = bI (p_in ((nI 1).toInt64) (-1) 2) := w_7
  refine lv_if_eq (tgt := 31) hx hb dX0_sheet_18 (by decide) (fun c_8 => absurd c_8 (by decide)) (fun c_8 => ?_)
  refine lv_iload_n hx hb dX0_sheet_21 rfl (lv_at hl 2 rfl) ?_
  refine lv_if_lt (tgt := 33) hx hb dX0_sheet_22 (by decide) (fun c_9 => absurd c_9 (by decide)) (fun c_9 => ?_)
  refine lv_iload_n hx hb dX0_sheet_25 rfl (lv_at hl 3 rfl) ?_
  refine lv_bipush (v := 16) hx hb dX0_sheet_26 (by decide) ?_
  refine lv_icmp_le (tgt := 33) hx hb dX0_sheet_28 (by decide) (fun c_10 => ?_) (fun c_10 => absurd ((le_n (a := nn) (b := 16) rfl rfl (by omega) (by decide)).mpr hnn) c_10)
  refine lv_aload_n hx hb dX0_sheet_33 rfl (lv_at hl 0 rfl) ?_
  refine va_get (D := D) (ci := 0) (v := .ref xs) (C := RX0) (T := TX0) (N := 5) hx hb hts in_X0 hown hK hP 0 rfl rfl 0 (by decide) (hts _ q293) (fun _ h9 => h9) rfl dX0_sheet_34 ?_
  refine lv_iload_n hx hb dX0_sheet_37 rfl (lv_at hl 1 rfl) ?_
  refine lv_iload_n hx hb dX0_sheet_38 rfl (lv_at hl 2 rfl) ?_
  refine lv_if_ge (tgt := 46) hx hb dX0_sheet_39 (by decide) (fun c_11 => ?_) (fun c_11 => absurd (by decide) c_11)
  refine lv_iload_n hx hb dX0_sheet_46 rfl (lv_at hl 2 rfl) ?_
  refine lv_iload_n hx hb dX0_sheet_47 rfl (lv_at hl 3 rfl) ?_
  refine k_callr (wr := [(xo, oX xs xu xd xr xf), (xs, rA ca 3 6 sa)]) (va_runS (As := [.int (nI 1), .int (nI nn)]) (rest := [.int (nI j), .ref xs]) ⟨hx, hb, hml, hown, hts⟩ (ct_X0_rowOf_1 l D ca H.size nn hnn) (va_cwS 2 hts (lw_S q136 q137 q19 q138) rfl rfl rfl (by decide +kernel) ⟨Nat.le_of_ble_eq_true rfl, Nat.le_of_ble_eq_true rfl⟩) (k_pre hk hK hN hP hD [] (by decide) rfl trivial) rfl rfl hl.1 rfl (lv_room (Nat.le_of_ble_eq_true rfl)) dX0_sheet_48 ⟨Nat.le_of_ble_eq_true rfl, Nat.le_of_ble_eq_true rfl⟩) hP hD hS hA [] [0, 1] rfl rfl (by decide) (by decide) (fun u_13 r_12 H locs w_14 hP hD hxw_14 hzw_14 hqw_14 hS => ?_)
  have hP : va_P D vwCl [(xo, oX xs xu xd xr xf), (xs, rA ca 3 6 sa), (r_12, rwE ca 1 nn (fun _ => 0))] H := hP
  have hD : va_D A [(xo, oX xs xu xd xr xf), (xs, rA ca 3 6 sa), (r_12, rwE ca 1 nn (fun _ => 0))] := hD
  refine va_astqM hx hb hK hP hD hS 1 3 rfl rfl (any_row hK hN hP 2 (by decide) rfl) (vin_nI (a := j) rfl (by omega) (by decide)) dX0_sheet_51 (fun H locs hP hD hS => ?_)
  rw [nI_clamp (show j < 2 ^ 31 by omega)] at hP hD
  have hP : va_P D vwCl [(xo, oX xs xu xd xr xf), (xs, rA ca 3 6 (va_up sa j (some r_12))), (r_12, rwE ca 1 nn (fun _ => 0))] H := hP
  have hD : va_D A [(xo, oX xs xu xd xr xf), (xs, rA ca 3 6 (va_up sa j (some r_12))), (r_12, rwE ca 1 nn (fun _ => 0))] := hD
  refine lv_iconst (v := 0) hx hb dX0_sheet_52 (by decide) ?_
  refine vx_ret ?_
  exact k_iret r_12 hx hb hr hlocks (rfl) hP hD trivial hS (Nat.le_of_ble_eq_true rfl) (Nat.le_of_ble_eq_true rfl) dX0_sheet_53
set_option maxHeartbeats 4000000 in
set_option maxRecDepth 100000 in
theorem ct_X0_sheet_42 (l : Launch) (hl0 : l.stackTraces = false) (D : va_G) (ca : Nat → ClassId) (zH : Nat) (xo j : Nat) (n0 : Int32) (hj : j < 6) (h4 : ¬ n0 ≤ 16) : vx_Met l yX0_sheet (wsH_ yX0_sheet cX0_sheet 5 (some .int) [((33 : Nat), (53 : Nat), (54 : Nat), (25 : Nat))]) ({ frames := 2, cells := 0, slots := 0, locals := 45 }) (va_Pc [.ref xo, .int (nI j), .int (nI 2), .int n0] (prX NW D ca [] zH (fun _ => True))) (qI D (fun (r : Int32) (u : Unit) => r = -1) (fun u => []) (fun u H => True) (va_A [] zH)) noX 0 0 (va_A [] zH) := by
  have hk := NW_ok
  refine k_ofH (Qc := qI D (fun (r : Int32) (u : Unit) => r = -1) (fun u => []) (fun u H => True)) (by decide) (Nat.le_of_ble_eq_true rfl) ?_
  intro p e s m below meth c ls A H hH hx hb hr hts hown hlocks hnm hml hsz hP hD hK hN hA hAn hS hro hl hX hZ htb
  have hl : lv_has ls 5 [(0, .ref xo), (1, .int (nI j)), (2, .int (nI 2)), (3, .int n0)] := hl
  refine lv_iload_n hx hb dX0_sheet_0 rfl (lv_at hl 1 rfl) ?_
  refine k_calli (wr := []) (va_runS (As := [.int (nI j)]) (rest := []) ⟨hx, hb, hml, hown, hts⟩ (ct_X0_isSheet hk l D ca H.size (nI j)) (va_cwS 1 hts (lw_S q127 q128 q19 q129) rfl rfl rfl (by decide +kernel) ⟨Nat.le_of_ble_eq_true rfl, Nat.le_of_ble_eq_true rfl⟩) (k_pre hk hK hN hP hD [] (by decide) rfl trivial) rfl rfl hl.1 rfl (lv_room (Nat.le_of_ble_eq_true rfl)) dX0_sheet_1 ⟨Nat.le_of_ble_eq_true rfl, Nat.le_of_ble_eq_true rfl⟩) hP hD hS hA [] [] rfl rfl (by decide) (by decide) (fun r_1 u_2 H locs w_3 hP hD hxw_3 hzw_3 hqw_3 hS => ?_)
  obtain rfl : r_1 = bI (p_in (nI j).toInt64 0 5) := w_3
  refine lv_if_eq (tgt := 31) hx hb dX0_sheet_4 (by decide) (fun c_4 => absurd c_4 (by rw [in_5 hj]; decide)) (fun c_4 => ?_)
  refine lv_iload_n hx hb dX0_sheet_7 rfl (lv_at hl 2 rfl) ?_
  refine lv_i2l (v := (nI 2).toInt64) hx hb dX0_sheet_8 rfl ?_
  refine lv_ldc2 hx hb hown (hts _ q134) dX0_sheet_9 ?_
  refine lv_ldc2 hx hb hown (hts _ q135) dX0_sheet_12 ?_
  refine k_calli (wr := []) (va_runS (As := [.long ((nI 2).toInt64), .long (-1), .long 2]) (rest := []) ⟨hx, hb, hml, hown, hts⟩ (ct_X0_isIn hk l D ca H.size ((nI 2).toInt64) (-1) 2) (va_cwS 3 hts (lw_S q131 q132 q19 q133) rfl rfl rfl (by decide +kernel) ⟨Nat.le_of_ble_eq_true rfl, Nat.le_of_ble_eq_true rfl⟩) (k_pre hk hK hN hP hD [] (by decide) rfl trivial) rfl rfl hl.1 rfl (lv_room (Nat.le_of_ble_eq_true rfl)) dX0_sheet_15 ⟨Nat.le_of_ble_eq_true rfl, Nat.le_of_ble_eq_true rfl⟩) hP hD hS hA [] [] rfl rfl (by decide) (by decide) (fun r_5 u_6 H locs w_7 hP hD hxw_7 hzw_7 hqw_7 hS => ?_)
  obtain rfl : r_5 = bI (p_in ((nI 2).toInt64) (-1) 2) := w_7
  refine lv_if_eq (tgt := 31) hx hb dX0_sheet_18 (by decide) (fun c_8 => absurd c_8 (by decide)) (fun c_8 => ?_)
  refine lv_iload_n hx hb dX0_sheet_21 rfl (lv_at hl 2 rfl) ?_
  refine lv_if_lt (tgt := 33) hx hb dX0_sheet_22 (by decide) (fun c_9 => absurd c_9 (by decide)) (fun c_9 => ?_)
  refine lv_iload_n hx hb dX0_sheet_25 rfl (lv_at hl 3 rfl) ?_
  refine lv_bipush (v := 16) hx hb dX0_sheet_26 (by decide) ?_
  refine lv_icmp_le (tgt := 33) hx hb dX0_sheet_28 (by decide) (fun c_10 => absurd c_10 h4) (fun c_10 => ?_)
  refine lv_iconst (v := (-1)) hx hb dX0_sheet_31 (by decide) ?_
  refine vx_ret ?_
  exact k_iret () hx hb hr hlocks (rfl) hP hD trivial hS (Nat.le_of_ble_eq_true rfl) (Nat.le_of_ble_eq_true rfl) dX0_sheet_32
set_option maxHeartbeats 4000000 in
set_option maxRecDepth 100000 in
theorem ct_X0_sheet_52 (l : Launch) (hl0 : l.stackTraces = false) (D : va_G) (ca : Nat → ClassId) (zH : Nat) (xo xs xu xd xr xf : Nat) (sa : Nat → Option Nat) (j : Nat) (n0 : Int32) (hj : j < 6) (h4 : n0 ≤ 16) (h5 : n0 < 0) : vx_Met l yX0_sheet (wsH_ yX0_sheet cX0_sheet 5 (some .int) [((33 : Nat), (53 : Nat), (54 : Nat), (25 : Nat))]) ({ frames := 13, cells := 3, slots := 54, locals := 10421 }) (va_Pc [.ref xo, .int (nI j), .int (nI 2), .int n0] (prX NW D ca [(xo, oX xs xu xd xr xf), (xs, rA ca 3 6 sa)] zH (fun _ => True))) (qI D (fun (r : Int32) (u : Unit) => r = -13) (fun u => [(xo, oX xs xu xd xr xf), (xs, rA ca 3 6 sa)]) (fun u H => True) (va_A [(xo, oX xs xu xd xr xf), (xs, rA ca 3 6 sa)] zH)) noX 3 54 (va_A [(xo, oX xs xu xd xr xf), (xs, rA ca 3 6 sa)] zH) := by
  have hk := NW_ok
  refine k_ofH (Qc := qI D (fun (r : Int32) (u : Unit) => r = -13) (fun u => [(xo, oX xs xu xd xr xf), (xs, rA ca 3 6 sa)]) (fun u H => True)) (by decide) (Nat.le_of_ble_eq_true rfl) ?_
  intro p e s m below meth c ls A H hH hx hb hr hts hown hlocks hnm hml hsz hP hD hK hN hA hAn hS hro hl hX hZ htb
  have hl : lv_has ls 5 [(0, .ref xo), (1, .int (nI j)), (2, .int (nI 2)), (3, .int n0)] := hl
  refine lv_iload_n hx hb dX0_sheet_0 rfl (lv_at hl 1 rfl) ?_
  refine k_calli (wr := [(xo, oX xs xu xd xr xf), (xs, rA ca 3 6 sa)]) (va_runS (As := [.int (nI j)]) (rest := []) ⟨hx, hb, hml, hown, hts⟩ (ct_X0_isSheet hk l D ca H.size (nI j)) (va_cwS 1 hts (lw_S q127 q128 q19 q129) rfl rfl rfl (by decide +kernel) ⟨Nat.le_of_ble_eq_true rfl, Nat.le_of_ble_eq_true rfl⟩) (k_pre hk hK hN hP hD [] (by decide) rfl trivial) rfl rfl hl.1 rfl (lv_room (Nat.le_of_ble_eq_true rfl)) dX0_sheet_1 ⟨Nat.le_of_ble_eq_true rfl, Nat.le_of_ble_eq_true rfl⟩) hP hD hS hA [] [0, 1] rfl rfl (by decide) (by decide) (fun r_1 u_2 H locs w_3 hP hD hxw_3 hzw_3 hqw_3 hS => ?_)
  obtain rfl : r_1 = bI (p_in (nI j).toInt64 0 5) := w_3
  refine lv_if_eq (tgt := 31) hx hb dX0_sheet_4 (by decide) (fun c_4 => absurd c_4 (by rw [in_5 hj]; decide)) (fun c_4 => ?_)
  refine lv_iload_n hx hb dX0_sheet_7 rfl (lv_at hl 2 rfl) ?_
  refine lv_i2l (v := (nI 2).toInt64) hx hb dX0_sheet_8 rfl ?_
  refine lv_ldc2 hx hb hown (hts _ q134) dX0_sheet_9 ?_
  refine lv_ldc2 hx hb hown (hts _ q135) dX0_sheet_12 ?_
  refine k_calli (wr := [(xo, oX xs xu xd xr xf), (xs, rA ca 3 6 sa)]) (va_runS (As := [.long ((nI 2).toInt64), .long (-1), .long 2]) (rest := []) ⟨hx, hb, hml, hown, hts⟩ (ct_X0_isIn hk l D ca H.size ((nI 2).toInt64) (-1) 2) (va_cwS 3 hts (lw_S q131 q132 q19 q133) rfl rfl rfl (by decide +kernel) ⟨Nat.le_of_ble_eq_true rfl, Nat.le_of_ble_eq_true rfl⟩) (k_pre hk hK hN hP hD [] (by decide) rfl trivial) rfl rfl hl.1 rfl (lv_room (Nat.le_of_ble_eq_true rfl)) dX0_sheet_15 ⟨Nat.le_of_ble_eq_true rfl, Nat.le_of_ble_eq_true rfl⟩) hP hD hS hA [] [0, 1] rfl rfl (by decide) (by decide) (fun r_5 u_6 H locs w_7 hP hD hxw_7 hzw_7 hqw_7 hS => ?_)
  obtain rfl : r_5 = bI (p_in ((nI 2).toInt64) (-1) 2) := w_7
  refine lv_if_eq (tgt := 31) hx hb dX0_sheet_18 (by decide) (fun c_8 => absurd c_8 (by decide)) (fun c_8 => ?_)
  refine lv_iload_n hx hb dX0_sheet_21 rfl (lv_at hl 2 rfl) ?_
  refine lv_if_lt (tgt := 33) hx hb dX0_sheet_22 (by decide) (fun c_9 => absurd c_9 (by decide)) (fun c_9 => ?_)
  refine lv_iload_n hx hb dX0_sheet_25 rfl (lv_at hl 3 rfl) ?_
  refine lv_bipush (v := 16) hx hb dX0_sheet_26 (by decide) ?_
  refine lv_icmp_le (tgt := 33) hx hb dX0_sheet_28 (by decide) (fun c_10 => ?_) (fun c_10 => absurd h4 c_10)
  refine lv_aload_n hx hb dX0_sheet_33 rfl (lv_at hl 0 rfl) ?_
  refine va_get (D := D) (ci := 0) (v := .ref xs) (C := RX0) (T := TX0) (N := 5) hx hb hts in_X0 hown hK hP 0 rfl rfl 0 (by decide) (hts _ q293) (fun _ h9 => h9) rfl dX0_sheet_34 ?_
  refine lv_iload_n hx hb dX0_sheet_37 rfl (lv_at hl 1 rfl) ?_
  refine lv_iload_n hx hb dX0_sheet_38 rfl (lv_at hl 2 rfl) ?_
  refine lv_if_ge (tgt := 46) hx hb dX0_sheet_39 (by decide) (fun c_11 => ?_) (fun c_11 => absurd (by decide) c_11)
  refine lv_iload_n hx hb dX0_sheet_46 rfl (lv_at hl 2 rfl) ?_
  refine lv_iload_n hx hb dX0_sheet_47 rfl (lv_at hl 3 rfl) ?_
  have hFc := va_free (wc := []) hD hS hA [] rfl
  refine k_thr (vx_runS (As := [.int (nI 2), .int n0]) (rest := [.int (nI j), .ref xs]) ⟨hx, hb, hml, hown, hts⟩ (ct_X0_rowOf_S2 l hl0 D ca H.size n0 h5) (va_cwS 2 hts (lw_S q136 q137 q19 q138) rfl rfl rfl (by decide +kernel) ⟨Nat.le_of_ble_eq_true rfl, Nat.le_of_ble_eq_true rfl⟩) (k_preX hk hK hN hP hD [] (by decide) rfl trivial hX (hZ.kept hS.2.1)) rfl rfl hl.1 rfl (lv_room (Nat.le_of_ble_eq_true rfl)) dX0_sheet_48 ⟨Nat.le_of_ble_eq_true rfl, Nat.le_of_ble_eq_true rfl⟩) (fun st9 v9 t9 hq9 => hq9.1.elim (fun u hq9 => hq9.elim (fun a9 hq9 => hq9.2.1))) hS hFc (fun q h1 h2 => absurd h1 (Nat.not_lt.mpr h2)) (fun E ce q9 u t H9 locs ht hal hp9 hE hz h9 hS hce hcv hcl => ?_)
  have hE : E = "java/lang/NegativeArraySizeException" := hE
  subst hE
  have hPz := vp_same hP (fun q hq => h9 q hq (Nat.not_le.mpr hq))
  clear hP
  have hP := hPz
  clear hPz
  obtain ⟨H, rfl⟩ : ∃ z, z = H9 := ⟨_, rfl⟩
  have hP : va_P D vwCl [(xo, oX xs xu xd xr xf), (xs, rA ca 3 6 sa)] H := hP
  have hD : va_D A [(xo, oX xs xu xd xr xf), (xs, rA ca 3 6 sa)] := hD
  refine vx_catch (E := "java/lang/NegativeArraySizeException") (name := "java/lang/NegativeArraySizeException") hown [] (⟨33, 53, 54, 25⟩ : ExceptionTableEntry) [] (by rw [htb]; rfl) (fun z hz => absurd hz List.not_mem_nil) (by decide) (by decide) (hts _ q41) (va_Nw.use rfl (hN.2.2.2.1 _ (List.mem_of_getElem? (i := 5) rfl))) hce hcv hcl ?_
  refine lv_astore (lv' := [(4, .ref q9), (0, .ref xo), (1, .int (nI j)), (2, .int (nI 2)), (3, .int n0)]) hx hb dX0_sheet_54 hl (by decide) rfl (fun ls hl => ?_)
  refine lv_bipush (v := (-13)) hx hb dX0_sheet_56 (by decide) ?_
  refine vx_ret ?_
  exact k_iret () hx hb hr hlocks (rfl) hP hD trivial hS (Nat.le_of_ble_eq_true rfl) (Nat.le_of_ble_eq_true rfl) dX0_sheet_58
set_option maxHeartbeats 4000000 in
set_option maxRecDepth 100000 in
theorem ct_X0_sheet_62 (l : Launch) (hl0 : l.stackTraces = false) (D : va_G) (ca : Nat → ClassId) (zH : Nat) (xo xs xu xd xr xf : Nat) (sa : Nat → Option Nat) (j nn : Nat) (hj : j < 6) (hnn : nn ≤ 16) : vx_Met l yX0_sheet (wsH_ yX0_sheet cX0_sheet 5 (some .int) [((33 : Nat), (53 : Nat), (54 : Nat), (25 : Nat))]) ({ frames := 2, cells := 1, slots := 16, locals := 45 }) (va_Pc [.ref xo, .int (nI j), .int (nI 2), .int (nI nn)] (prX NW D ca [(xo, oX xs xu xd xr xf), (xs, rA ca 3 6 sa)] zH (fun _ => True))) (qI D (fun (r : Int32) (u : Nat) => r = 0) (fun u => [(xo, oX xs xu xd xr xf), (xs, rA ca 3 6 (va_up sa j (some u))), (u, rwE ca 2 nn (fun _ => 0))]) (fun u H => True) (va_A [(xo, oX xs xu xd xr xf), (xs, rA ca 3 6 sa)] zH)) noX 1 16 (va_A [(xo, oX xs xu xd xr xf), (xs, rA ca 3 6 sa)] zH) := by
  have hk := NW_ok
  refine k_ofH (Qc := qI D (fun (r : Int32) (u : Nat) => r = 0) (fun u => [(xo, oX xs xu xd xr xf), (xs, rA ca 3 6 (va_up sa j (some u))), (u, rwE ca 2 nn (fun _ => 0))]) (fun u H => True)) (by decide) (Nat.le_of_ble_eq_true rfl) ?_
  intro p e s m below meth c ls A H hH hx hb hr hts hown hlocks hnm hml hsz hP hD hK hN hA hAn hS hro hl hX hZ htb
  have hl : lv_has ls 5 [(0, .ref xo), (1, .int (nI j)), (2, .int (nI 2)), (3, .int (nI nn))] := hl
  refine lv_iload_n hx hb dX0_sheet_0 rfl (lv_at hl 1 rfl) ?_
  refine k_calli (wr := [(xo, oX xs xu xd xr xf), (xs, rA ca 3 6 sa)]) (va_runS (As := [.int (nI j)]) (rest := []) ⟨hx, hb, hml, hown, hts⟩ (ct_X0_isSheet hk l D ca H.size (nI j)) (va_cwS 1 hts (lw_S q127 q128 q19 q129) rfl rfl rfl (by decide +kernel) ⟨Nat.le_of_ble_eq_true rfl, Nat.le_of_ble_eq_true rfl⟩) (k_pre hk hK hN hP hD [] (by decide) rfl trivial) rfl rfl hl.1 rfl (lv_room (Nat.le_of_ble_eq_true rfl)) dX0_sheet_1 ⟨Nat.le_of_ble_eq_true rfl, Nat.le_of_ble_eq_true rfl⟩) hP hD hS hA [] [0, 1] rfl rfl (by decide) (by decide) (fun r_1 u_2 H locs w_3 hP hD hxw_3 hzw_3 hqw_3 hS => ?_)
  obtain rfl : r_1 = bI (p_in (nI j).toInt64 0 5) := w_3
  refine lv_if_eq (tgt := 31) hx hb dX0_sheet_4 (by decide) (fun c_4 => absurd c_4 (by rw [in_5 hj]; decide)) (fun c_4 => ?_)
  refine lv_iload_n hx hb dX0_sheet_7 rfl (lv_at hl 2 rfl) ?_
  refine lv_i2l (v := (nI 2).toInt64) hx hb dX0_sheet_8 rfl ?_
  refine lv_ldc2 hx hb hown (hts _ q134) dX0_sheet_9 ?_
  refine lv_ldc2 hx hb hown (hts _ q135) dX0_sheet_12 ?_
  refine k_calli (wr := [(xo, oX xs xu xd xr xf), (xs, rA ca 3 6 sa)]) (va_runS (As := [.long ((nI 2).toInt64), .long (-1), .long 2]) (rest := []) ⟨hx, hb, hml, hown, hts⟩ (ct_X0_isIn hk l D ca H.size ((nI 2).toInt64) (-1) 2) (va_cwS 3 hts (lw_S q131 q132 q19 q133) rfl rfl rfl (by decide +kernel) ⟨Nat.le_of_ble_eq_true rfl, Nat.le_of_ble_eq_true rfl⟩) (k_pre hk hK hN hP hD [] (by decide) rfl trivial) rfl rfl hl.1 rfl (lv_room (Nat.le_of_ble_eq_true rfl)) dX0_sheet_15 ⟨Nat.le_of_ble_eq_true rfl, Nat.le_of_ble_eq_true rfl⟩) hP hD hS hA [] [0, 1] rfl rfl (by decide) (by decide) (fun r_5 u_6 H locs w_7 hP hD hxw_7 hzw_7 hqw_7 hS => ?_)
  obtain rfl : r_5 = bI (p_in ((nI 2).toInt64) (-1) 2) := w_7
  refine lv_if_eq (tgt := 31) hx hb dX0_sheet_18 (by decide) (fun c_8 => absurd c_8 (by decide)) (fun c_8 => ?_)
  refine lv_iload_n hx hb dX0_sheet_21 rfl (lv_at hl 2 rfl) ?_
  refine lv_if_lt (tgt := 33) hx hb dX0_sheet_22 (by decide) (fun c_9 => absurd c_9 (by decide)) (fun c_9 => ?_)
  refine lv_iload_n hx hb dX0_sheet_25 rfl (lv_at hl 3 rfl) ?_
  refine lv_bipush (v := 16) hx hb dX0_sheet_26 (by decide) ?_
  refine lv_icmp_le (tgt := 33) hx hb dX0_sheet_28 (by decide) (fun c_10 => ?_) (fun c_10 => absurd ((le_n (a := nn) (b := 16) rfl rfl (by omega) (by decide)).mpr hnn) c_10)
  refine lv_aload_n hx hb dX0_sheet_33 rfl (lv_at hl 0 rfl) ?_
  refine va_get (D := D) (ci := 0) (v := .ref xs) (C := RX0) (T := TX0) (N := 5) hx hb hts in_X0 hown hK hP 0 rfl rfl 0 (by decide) (hts _ q293) (fun _ h9 => h9) rfl dX0_sheet_34 ?_
  refine lv_iload_n hx hb dX0_sheet_37 rfl (lv_at hl 1 rfl) ?_
  refine lv_iload_n hx hb dX0_sheet_38 rfl (lv_at hl 2 rfl) ?_
  refine lv_if_ge (tgt := 46) hx hb dX0_sheet_39 (by decide) (fun c_11 => ?_) (fun c_11 => absurd (by decide) c_11)
  refine lv_iload_n hx hb dX0_sheet_46 rfl (lv_at hl 2 rfl) ?_
  refine lv_iload_n hx hb dX0_sheet_47 rfl (lv_at hl 3 rfl) ?_
  refine k_callr (wr := [(xo, oX xs xu xd xr xf), (xs, rA ca 3 6 sa)]) (va_runS (As := [.int (nI 2), .int (nI nn)]) (rest := [.int (nI j), .ref xs]) ⟨hx, hb, hml, hown, hts⟩ (ct_X0_rowOf_2 l D ca H.size nn hnn) (va_cwS 2 hts (lw_S q136 q137 q19 q138) rfl rfl rfl (by decide +kernel) ⟨Nat.le_of_ble_eq_true rfl, Nat.le_of_ble_eq_true rfl⟩) (k_pre hk hK hN hP hD [] (by decide) rfl trivial) rfl rfl hl.1 rfl (lv_room (Nat.le_of_ble_eq_true rfl)) dX0_sheet_48 ⟨Nat.le_of_ble_eq_true rfl, Nat.le_of_ble_eq_true rfl⟩) hP hD hS hA [] [0, 1] rfl rfl (by decide) (by decide) (fun u_13 r_12 H locs w_14 hP hD hxw_14 hzw_14 hqw_14 hS => ?_)
  have hP : va_P D vwCl [(xo, oX xs xu xd xr xf), (xs, rA ca 3 6 sa), (r_12, rwE ca 2 nn (fun _ => 0))] H := hP
  have hD : va_D A [(xo, oX xs xu xd xr xf), (xs, rA ca 3 6 sa), (r_12, rwE ca 2 nn (fun _ => 0))] := hD
  refine va_astqM hx hb hK hP hD hS 1 3 rfl rfl (any_row hK hN hP 2 (by decide) rfl) (vin_nI (a := j) rfl (by omega) (by decide)) dX0_sheet_51 (fun H locs hP hD hS => ?_)
  rw [nI_clamp (show j < 2 ^ 31 by omega)] at hP hD
  have hP : va_P D vwCl [(xo, oX xs xu xd xr xf), (xs, rA ca 3 6 (va_up sa j (some r_12))), (r_12, rwE ca 2 nn (fun _ => 0))] H := hP
  have hD : va_D A [(xo, oX xs xu xd xr xf), (xs, rA ca 3 6 (va_up sa j (some r_12))), (r_12, rwE ca 2 nn (fun _ => 0))] := hD
  refine lv_iconst (v := 0) hx hb dX0_sheet_52 (by decide) ?_
  refine vx_ret ?_
  exact k_iret r_12 hx hb hr hlocks (rfl) hP hD trivial hS (Nat.le_of_ble_eq_true rfl) (Nat.le_of_ble_eq_true rfl) dX0_sheet_53
