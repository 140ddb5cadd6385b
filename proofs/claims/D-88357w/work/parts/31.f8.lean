set_option maxHeartbeats 4000000 in
set_option maxRecDepth 100000 in
theorem ct_X0_hold (l : Launch) (D : va_G) (ca : Nat → ClassId) (zH : Nat) (xo xs xu xd xr xf : Nat) (h0 j : Nat) (ra : Nat → Nat) (g : AI) (v : Q4) (hj : j < 16) : Met l yX0_hold (ws_ yX0_hold cX0_hold 3 (some .int)) ({ frames := 2, cells := 0, slots := 0, locals := 47 }) (va_Pc [.ref xo, .int (nI j), .ref h0] (pr_ NW D ca [(xo, oX xs xu xd xr xf), (xr, rA ca 4 16 (fun i => some (ra i)))] zH (fun H => Fo D H h0 v ∧ Rg D H ra g))) (qI D (fun (r : Int32) (u : Nat → Nat) => r = (if q_low v then 0 else -3)) (fun u => [(xo, oX xs xu xd xr xf), (xr, rA ca 4 16 (fun i => some (u i)))]) (fun u H => Rg D H u (h_g g j v)) (va_A [(xo, oX xs xu xd xr xf), (xr, rA ca 4 16 (fun i => some (ra i)))] zH)) 0 0 (va_A [(xo, oX xs xu xd xr xf), (xr, rA ca 4 16 (fun i => some (ra i)))] zH) := by
  have hk := NW_ok
  refine k_ofW (Qc := qI D (fun (r : Int32) (u : Nat → Nat) => r = (if q_low v then 0 else -3)) (fun u => [(xo, oX xs xu xd xr xf), (xr, rA ca 4 16 (fun i => some (u i)))]) (fun u H => Rg D H u (h_g g j v))) (by decide) (Nat.le_of_ble_eq_true rfl) ?_
  intro p e s m below meth c ls A H hH hx hb hr hts hown hlocks hnm hml hsz hP hD hK hN hA hAn hS hro hl
  have hl : lv_has ls 3 [(0, .ref xo), (1, .int (nI j)), (2, .ref h0)] := hl
  have hOF := k_outF hK (hH ▸ hP) (okc (oko 0 (by decide)) (okc (oka 4 (by decide)) (okn))) hAn
  have hOS := k_outS hK (hH ▸ hP) (okc (oko 0 (by decide)) (okc (oka 4 (by decide)) (okn))) hAn
  obtain ⟨hF0, hRg⟩ := hro
  have nF0 := hOF _ _ hF0
  refine lv_aload_n hx hb dX0_hold_0 rfl (lv_at hl 2 rfl) ?_
  refine k_calli (wr := [(xo, oX xs xu xd xr xf), (xr, rA ca 4 16 (fun i => some (ra i)))]) (va_runV (As := []) (rest := []) ⟨hx, hb, hml, hown, hts⟩ (ct_X1_fits l D ca H.size h0 v) (cwV 0 hts (lw_V q324 q325 q326 q20 q327) rfl rfl rfl (by decide +kernel) ⟨Nat.le_of_ble_eq_true rfl, Nat.le_of_ble_eq_true rfl⟩) (k_preV hk hK hN hP hD [] (by decide) rfl (hF0.keep hS nF0) (hF0.keep hS nF0) rfl (q0 := 0) rfl) rfl rfl hl.1 rfl (lv_room (Nat.le_of_ble_eq_true rfl)) dX0_hold_1 ⟨Nat.le_of_ble_eq_true rfl, Nat.le_of_ble_eq_true rfl⟩) hP hD hS hA [] [0, 1] rfl rfl (by decide) (by decide) (fun r_1 u_2 H locs w_3 hP hD hxw_3 hzw_3 hqw_3 hS => ?_)
  obtain rfl : r_1 = bI (q_low v) := w_3
  refine lv_if_ne (tgt := 10) hx hb dX0_hold_4 (by decide) (fun c_4 => ?_) (fun c_4 => ?_)
  · have c_4 := bI_z1 c_4
    refine lv_aload_n hx hb dX0_hold_10 rfl (lv_at hl 0 rfl) ?_
    refine va_get (D := D) (ci := 0) (v := .ref xr) (C := RX0) (T := TX0) (N := 5) hx hb hts in_X0 hown hK hP 0 rfl rfl 3 (by decide) (hts _ q296) (fun _ h9 => h9) rfl dX0_hold_11 ?_
    refine lv_iload_n hx hb dX0_hold_14 rfl (lv_at hl 1 rfl) ?_
    refine lv_aload_n hx hb dX0_hold_15 rfl (lv_at hl 2 rfl) ?_
    refine va_astqM hx hb hK hP hD hS 1 4 rfl rfl (any_fo hK (hF0.keep hS nF0)) (vin_nI (a := j) rfl (by omega) (by omega)) dX0_hold_16 (fun H locs hP hD hS => ?_)
    rw [nI_clamp (show j < 2 ^ 31 by omega), up_some] at hP hD
    have hP : va_P D vwCl [(xo, oX xs xu xd xr xf), (xr, rA ca 4 16 (fun i => some ((va_up ra j h0) i)))] H := hP
    have hD : va_D A [(xo, oX xs xu xd xr xf), (xr, rA ca 4 16 (fun i => some ((va_up ra j h0) i)))] := hD
    refine lv_iconst (v := 0) hx hb dX0_hold_17 (by decide) ?_
    exact k_iret (va_up ra j h0) hx hb hr hlocks (by simp [c_4]) hP hD (by rw [h_g, if_pos c_4]; exact Rg.set (hRg.keep hS hOF) (hF0.keep hS nF0) c_4) hS (Nat.le_of_ble_eq_true rfl) (Nat.le_of_ble_eq_true rfl) dX0_hold_18
  · have c_4 := bI_z0 c_4
    refine lv_bipush (v := (-3)) hx hb dX0_hold_7 (by decide) ?_
    exact k_iret ra hx hb hr hlocks (by simp [c_4]) hP hD (by rw [h_g, if_neg (by rw [c_4]; decide)]; exact hRg.keep hS hOF) hS (Nat.le_of_ble_eq_true rfl) (Nat.le_of_ble_eq_true rfl) dX0_hold_9
set_option maxHeartbeats 4000000 in
set_option maxRecDepth 100000 in
theorem ct_X0_set (l : Launch) (D : va_G) (ca : Nat → ClassId) (zH : Nat) (xo xs xu xd xr xf : Nat) (ra : Nat → Nat) (g : AI) (s0 a0 b0 c0 d0 : Int32)  : Met l yX0_set (ws_ yX0_set cX0_set 7 (some .int)) ({ frames := 3, cells := 1, slots := 4, locals := 69 }) (va_Pc [.ref xo, .int s0, .int a0, .int b0, .int c0, .int d0] (pr_ NW D ca [(xo, oX xs xu xd xr xf), (xr, rA ca 4 16 (fun i => some (ra i)))] zH (fun H => Rg D H ra g))) (qI D (fun (r : Int32) (u : (Nat → Nat) × AI) => (r, u.2) = m_set g s0 a0 b0 c0 d0) (fun u => [(xo, oX xs xu xd xr xf), (xr, rA ca 4 16 (fun i => some (u.1 i)))]) (fun u H => Rg D H u.1 u.2) (va_A [(xo, oX xs xu xd xr xf), (xr, rA ca 4 16 (fun i => some (ra i)))] zH)) 1 4 (va_A [(xo, oX xs xu xd xr xf), (xr, rA ca 4 16 (fun i => some (ra i)))] zH) := by
  have hk := NW_ok
  refine k_ofW (Qc := qI D (fun (r : Int32) (u : (Nat → Nat) × AI) => (r, u.2) = m_set g s0 a0 b0 c0 d0) (fun u => [(xo, oX xs xu xd xr xf), (xr, rA ca 4 16 (fun i => some (u.1 i)))]) (fun u H => Rg D H u.1 u.2)) (by decide) (Nat.le_of_ble_eq_true rfl) ?_
  intro p e s m below meth c ls A H hH hx hb hr hts hown hlocks hnm hml hsz hP hD hK hN hA hAn hS hro hl
  have hl : lv_has ls 7 [(0, .ref xo), (1, .int s0), (2, .int a0), (3, .int b0), (4, .int c0), (5, .int d0)] := hl
  have hOF := k_outF hK (hH ▸ hP) (okc (oko 0 (by decide)) (okc (oka 4 (by decide)) (okn))) hAn
  have hOS := k_outS hK (hH ▸ hP) (okc (oko 0 (by decide)) (okc (oka 4 (by decide)) (okn))) hAn
  have hRg := hro
  refine lv_iload_n hx hb dX0_set_0 rfl (lv_at hl 1 rfl) ?_
  refine k_calli (wr := [(xo, oX xs xu xd xr xf), (xr, rA ca 4 16 (fun i => some (ra i)))]) (va_runS (As := [.int s0]) (rest := []) ⟨hx, hb, hml, hown, hts⟩ (ct_X0_isRegister hk l D ca H.size s0) (va_cwS 1 hts (lw_S q313 q314 q19 q315) rfl rfl rfl (by decide +kernel) ⟨Nat.le_of_ble_eq_true rfl, Nat.le_of_ble_eq_true rfl⟩) (k_pre hk hK hN hP hD [] (by decide) rfl trivial) rfl rfl hl.1 rfl (lv_room (Nat.le_of_ble_eq_true rfl)) dX0_set_1 ⟨Nat.le_of_ble_eq_true rfl, Nat.le_of_ble_eq_true rfl⟩) hP hD hS hA [] [0, 1] rfl rfl (by decide) (by decide) (fun r_1 u_2 H locs w_3 hP hD hxw_3 hzw_3 hqw_3 hS => ?_)
  obtain rfl : r_1 = bI (p_in s0.toInt64 0 15) := w_3
  refine lv_if_ne (tgt := 9) hx hb dX0_set_4 (by decide) (fun c_4 => ?_) (fun c_4 => ?_)
  · have c_4 := bI_z1 c_4
    obtain ⟨js0, hjs0, rfl⟩ := in_nI (n := 16) (by decide) c_4
    refine va_new (ci := 1) (fs := [.long 0, .long 0, .long 0, .long 0]) (C := RX1) (T := TX1) (N := 4) hx hb hts in_X1 tyX1 tyX1_ok hown (hts _ q226) (hts _ q228) (hts _ q20) hK hP hD hS hA rfl (fun j hj => by rcases (show j = 0 ∨ j = 1 ∨ j = 2 ∨ j = 3 by omega) with rfl | rfl | rfl | rfl <;> rfl) (Nat.le_of_ble_eq_true rfl) (Nat.le_of_ble_eq_true rfl) dX0_set_9 (fun q_5 H hP hD hS => ?_)
    have hP : va_P D vwCl [(xo, oX xs xu xd xr xf), (xr, rA ca 4 16 (fun i => some (ra i))), (q_5, .inr (1, [.long 0, .long 0, .long 0, .long 0]))] H := hP
    have hD : va_D A [(xo, oX xs xu xd xr xf), (xr, rA ca 4 16 (fun i => some (ra i))), (q_5, .inr (1, [.long 0, .long 0, .long 0, .long 0]))] := hD
    refine lv_dup hx hb dX0_set_12 rfl ?_
    refine lv_iload_n hx hb dX0_set_13 rfl (lv_at hl 2 rfl) ?_
    refine lv_i2l (v := a0.toInt64) hx hb dX0_set_14 rfl ?_
    refine lv_iload_n hx hb dX0_set_15 rfl (lv_at hl 3 rfl) ?_
    refine lv_i2l (v := b0.toInt64) hx hb dX0_set_16 rfl ?_
    refine lv_iload hx hb dX0_set_17 (lv_at hl 4 rfl) ?_
    refine lv_i2l (v := c0.toInt64) hx hb dX0_set_19 rfl ?_
    refine lv_iload hx hb dX0_set_20 (lv_at hl 5 rfl) ?_
    refine lv_i2l (v := d0.toInt64) hx hb dX0_set_22 rfl ?_
    refine k_callv (wr := [(xo, oX xs xu xd xr xf), (xr, rA ca 4 16 (fun i => some (ra i)))]) (va_runI (As := [.long a0.toInt64, .long b0.toInt64, .long c0.toInt64, .long d0.toInt64]) (rest := [.ref q_5]) ⟨hx, hb, hml, hown, hts⟩ (ct_X1_init hk l D ca H.size q_5 a0.toInt64 b0.toInt64 c0.toInt64 d0.toInt64 (0, 0, 0, 0)) (cwI 4 hts (lw_meth q231) rfl rfl rfl (hts _ q20) (hts _ q229) (hts _ q230) rfl (by decide +kernel) ⟨Nat.le_of_ble_eq_true rfl, Nat.le_of_ble_eq_true rfl⟩) (k_pre hk hK hN hP hD [2] (by decide) rfl trivial) rfl rfl hl.1 rfl (lv_room (Nat.le_of_ble_eq_true rfl)) dX0_set_23 ⟨Nat.le_of_ble_eq_true rfl, Nat.le_of_ble_eq_true rfl⟩) hP hD hS hA [2] [0, 1] rfl rfl (by decide) (by decide) (fun u_7 H locs w_8 hP hD hxw_8 hzw_8 hqw_8 hS => ?_)
    have hP : va_P D vwCl [(xo, oX xs xu xd xr xf), (xr, rA ca 4 16 (fun i => some (ra i))), (q_5, f4 (a0.toInt64, b0.toInt64, c0.toInt64, d0.toInt64))] H := hP
    have hD : va_D A [(xo, oX xs xu xd xr xf), (xr, rA ca 4 16 (fun i => some (ra i))), (q_5, f4 (a0.toInt64, b0.toInt64, c0.toInt64, d0.toInt64))] := hD
    refine lv_astore (lv' := [(6, .ref q_5), (0, .ref xo), (1, .int (nI js0)), (2, .int a0), (3, .int b0), (4, .int c0), (5, .int d0)]) hx hb dX0_set_26 hl (by decide) rfl (fun ls hl => ?_)
    refine lv_aload hx hb dX0_set_28 (lv_at hl 0 rfl) ?_
    refine k_calli (wr := [(xo, oX xs xu xd xr xf), (xr, rA ca 4 16 (fun i => some (ra i))), (q_5, f4 (a0.toInt64, b0.toInt64, c0.toInt64, d0.toInt64))]) (va_runS (As := [.ref q_5]) (rest := []) ⟨hx, hb, hml, hown, hts⟩ (ct_X0_isAlike hk l D ca H.size q_5 (a0.toInt64, b0.toInt64, c0.toInt64, d0.toInt64)) (va_cwS 1 hts (lw_S q266 q267 q19 q268) rfl rfl rfl (by decide +kernel) ⟨Nat.le_of_ble_eq_true rfl, Nat.le_of_ble_eq_true rfl⟩) (k_pre hk hK hN hP hD [] (by decide) rfl (Fo.of hP 2 rfl)) rfl rfl hl.1 rfl (lv_room (Nat.le_of_ble_eq_true rfl)) dX0_set_30 ⟨Nat.le_of_ble_eq_true rfl, Nat.le_of_ble_eq_true rfl⟩) hP hD hS hA [] [0, 1, 2] rfl rfl (by decide) (by decide) (fun r_9 u_10 H locs w_11 hP hD hxw_11 hzw_11 hqw_11 hS => ?_)
    obtain rfl : r_9 = bI (q_al (a0.toInt64, b0.toInt64, c0.toInt64, d0.toInt64)) := w_11
    refine lv_if_eq (tgt := 46) hx hb dX0_set_33 (by decide) (fun c_12 => ?_) (fun c_12 => ?_)
    · have c_12 := bI_z0 c_12
      refine lv_bipush (v := (-2)) hx hb dX0_set_46 (by decide) ?_
      exact k_iret (ra, g) hx hb hr hlocks (by have hq := (al_one (a0.toInt64, b0.toInt64, c0.toInt64, d0.toInt64)).symm.trans c_12; simp only [q_one] at hq; simp [m_set, c_4, hq, nI_clamp (show js0 < 2 ^ 31 by omega)]) (hP.sub [0, 1] rfl) (hD.sub [0, 1] (by decide) rfl) (hRg.keep hS hOF) hS (Nat.le_of_ble_eq_true rfl) (Nat.le_of_ble_eq_true rfl) dX0_set_48
    · have c_12 := bI_z1 c_12
      refine lv_aload_n hx hb dX0_set_36 rfl (lv_at hl 1 rfl) ?_
      refine lv_iload_n hx hb dX0_set_37 rfl (lv_at hl 2 rfl) ?_
      refine lv_aload hx hb dX0_set_38 (lv_at hl 0 rfl) ?_
      refine k_calli (wr := [(q_5, f4 (a0.toInt64, b0.toInt64, c0.toInt64, d0.toInt64))]) (va_runV (As := [.int (nI js0), .ref q_5]) (rest := []) ⟨hx, hb, hml, hown, hts⟩ (ct_X0_hold l D ca H.size xo xs xu xd xr xf q_5 js0 ra g (a0.toInt64, b0.toInt64, c0.toInt64, d0.toInt64) (by omega)) (cwV 2 hts (lw_V q320 q322 qs2 q19 q323) rfl rfl rfl (by decide +kernel) ⟨Nat.le_of_ble_eq_true rfl, Nat.le_of_ble_eq_true rfl⟩) (k_preV hk hK hN hP hD [0, 1] (by decide) rfl ⟨(Fo.of hP 2 rfl), (hRg.keep hS hOF)⟩ hP rfl (q0 := 0) rfl) rfl rfl hl.1 rfl (lv_room (Nat.le_of_ble_eq_true rfl)) dX0_set_40 ⟨Nat.le_of_ble_eq_true rfl, Nat.le_of_ble_eq_true rfl⟩) hP hD hS hA [0, 1] [2] rfl rfl (by decide) (by decide) (fun r_13 u_14 H locs w_15 hP hD hxw_15 hzw_15 hqw_15 hS => ?_)
      have hP : va_P D vwCl [(q_5, f4 (a0.toInt64, b0.toInt64, c0.toInt64, d0.toInt64)), (xo, oX xs xu xd xr xf), (xr, rA ca 4 16 (fun i => some (u_14 i)))] H := hP
      have hD : va_D A [(q_5, f4 (a0.toInt64, b0.toInt64, c0.toInt64, d0.toInt64)), (xo, oX xs xu xd xr xf), (xr, rA ca 4 16 (fun i => some (u_14 i)))] := hD
      obtain rfl : r_13 = if q_low (a0.toInt64, b0.toInt64, c0.toInt64, d0.toInt64) then 0 else -3 := w_15
      refine lv_goto (tgt := 48) hx hb dX0_set_43 (by decide) ?_
      exact k_iret (u_14, h_g g js0 (a0.toInt64, b0.toInt64, c0.toInt64, d0.toInt64)) hx hb hr hlocks (by have hq := (al_one (a0.toInt64, b0.toInt64, c0.toInt64, d0.toInt64)).symm.trans c_12; simp only [q_one] at hq; simp [m_set, c_4, hq, nI_clamp (show js0 < 2 ^ 31 by omega)]) (hP.sub [1, 2] rfl) (hD.sub [1, 2] (by decide) rfl) hxw_15 hS (Nat.le_of_ble_eq_true rfl) (Nat.le_of_ble_eq_true rfl) dX0_set_48
  · have c_4 := bI_z0 c_4
    refine lv_iconst (v := (-1)) hx hb dX0_set_7 (by decide) ?_
    exact k_iret (ra, g) hx hb hr hlocks (by simp [m_set, c_4]) hP hD (hRg.keep hS hOF) hS (Nat.le_of_ble_eq_true rfl) (Nat.le_of_ble_eq_true rfl) dX0_set_8
set_option maxHeartbeats 4000000 in
set_option maxRecDepth 100000 in
theorem lp_X0_unitOf  {l : Launch} {D : va_G} {ca : Nat → ClassId} (xo : Nat) (xs : Nat) (xu : Nat) (xd : Nat) (xr : Nat) (xf : Nat) (ua : Nat → Nat) (un : AI) (h0 : Nat) (v : Q4)  {p : Program} {e : Env} {s : State} {m : MethodId} {below : List Frame} {meth : Method} {c : Code} {A : Nat → Prop} (hUg : Ug D s.heap ua un) (hOF : ∀ (a : Nat) (v : Q4), Fo D s.heap a v → ¬ A a) (hx : p.tables.exec = Jvm.exec) (hb : c.code = cX0_unitOf) (hr : meth.sig.returnType = (some .int)) (hts : ∀ w ∈ lw_all, w.before ([.ref xo, .ref h0] : List Value).toArray s = true) (hown : s.vm.findClass yX0_unitOf.cls = some m.cls) (hlocks : meth.locks = false) (hnm : meth.name = yX0_unitOf.name) (hml : c.maxLocals = 3) (hK : va_K D vwCl (tysG ca) s) (hN : NW s) (hA : ∀ q, s.heap.size ≤ q → A q) (hF0 : Fo D s.heap h0 v) (nF0 : ¬ A h0) :
    ∀ (n : Nat) (i : Nat), (i ≤ 24) → (fstF (fun k => q_same v (rq un k)) 0 24 = fstF (fun k => q_same v (rq un k)) i (24 - i)) → (24 < n + i) →  ∀ (H : Heap) (locs : List Loc) (ls : Array Slot), va_P D vwCl [(xo, oX xs xu xd xr xf), (xu, rA ca 4 24 (fun i => some (ua i)))] H → va_D A [(xo, oX xs xu xd xr xf), (xu, rA ca 4 24 (fun i => some (ua i)))] → va_S A s.heap H locs → lv_has ls 3 [(2, .int (nI i)), (0, .ref xo), (1, .ref h0)] → W p l e ({ frames := 1, cells := 0, slots := 0, locals := 21 }) s m ([.ref xo, .ref h0] : List Value).toArray below meth c H locs 0 0 (MQ below (qI D (fun (r : Int32) (u : Unit) => r = oI (fstF (fun k => q_same v (rq un k)) 0 24)) (fun u => [(xo, oX xs xu xd xr xf), (xu, rA ca 4 24 (fun i => some (ua i)))]) (fun u H => True) A) ([.ref xo, .ref h0] : List Value).toArray s 0 0 A) (F0 m 2 ls []) := by
  intro n
  induction n with
  | zero =>
    intro i hi hR hfuel H locs ls hP hD hS hl 
    exact absurd hfuel (by omega)
  | succ n ih =>
    intro i hi hR hfuel H locs ls hP hD hS hl 
    have hk := NW_ok
    refine lv_iload_n hx hb dX0_unitOf_2 rfl (lv_at hl 0 rfl) ?_
    refine lv_aload_n hx hb dX0_unitOf_3 rfl (lv_at hl 1 rfl) ?_
    refine va_get (D := D) (ci := 0) (v := .ref xu) (C := RX0) (T := TX0) (N := 5) hx hb hts in_X0 hown hK hP 0 rfl rfl 1 (by decide) (hts _ q294) (fun _ h9 => h9) rfl dX0_unitOf_4 ?_
    refine va_alen (v := 24) hx hb hK hP 1 4 rfl rfl rfl dX0_unitOf_7 ?_
    refine lv_icmp_ge (tgt := 32) hx hb dX0_unitOf_8 (by decide) (fun c_1 => ?_) (fun c_1 => ?_)
    · have c_1 := le_y (a := 24) (b := i) rfl rfl (by omega) (by omega) c_1
      refine lv_bipush (v := (-4)) hx hb dX0_unitOf_32 (by decide) ?_
      exact k_iret () hx hb hr hlocks (by rw [hR, show 24 - i = 0 by omega]; rfl) hP hD trivial hS (Nat.le_of_ble_eq_true rfl) (Nat.le_of_ble_eq_true rfl) dX0_unitOf_34
    · have c_1 := le_no (a := 24) (b := i) rfl rfl (by omega) (by omega) c_1
      refine lv_aload_n hx hb dX0_unitOf_11 rfl (lv_at hl 1 rfl) ?_
      refine va_get (D := D) (ci := 0) (v := .ref xu) (C := RX0) (T := TX0) (N := 5) hx hb hts in_X0 hown hK hP 0 rfl rfl 1 (by decide) (hts _ q294) (fun _ h9 => h9) rfl dX0_unitOf_12 ?_
      refine lv_iload_n hx hb dX0_unitOf_15 rfl (lv_at hl 0 rfl) ?_
      refine va_aldq hx hb hK hP 1 4 rfl rfl (vin_nI (a := i) rfl (by omega) (by omega)) dX0_unitOf_16 ?_
      refine W.eq (g2 := F0 m 17 ls [.ref (ua i)]) (by rw [nI_clamp (show i < 2 ^ 31 by omega)]; rfl) ?_
      have hG_2 := hUg i (by omega)
      have nG_2 := hOF _ _ hG_2
      refine lv_aload_n hx hb dX0_unitOf_17 rfl (lv_at hl 2 rfl) ?_
      refine k_calli (wr := [(xo, oX xs xu xd xr xf), (xu, rA ca 4 24 (fun i => some (ua i)))]) (va_runV (As := [.ref h0]) (rest := []) ⟨hx, hb, hml, hown, hts⟩ (ct_X1_isOne hk l D ca H.size (ua i) h0 (rq un i) v) (cwV 1 hts (lw_V q376 q377 q378 q20 q379) rfl rfl rfl (by decide +kernel) ⟨Nat.le_of_ble_eq_true rfl, Nat.le_of_ble_eq_true rfl⟩) (k_preV hk hK hN hP hD [] (by decide) rfl ⟨(hG_2.keep hS nG_2), (hF0.keep hS nF0)⟩ (hG_2.keep hS nG_2) rfl (q0 := 0) rfl) rfl rfl hl.1 rfl (lv_room (Nat.le_of_ble_eq_true rfl)) dX0_unitOf_18 ⟨Nat.le_of_ble_eq_true rfl, Nat.le_of_ble_eq_true rfl⟩) hP hD hS hA [] [0, 1] rfl rfl (by decide) (by decide) (fun r_3 u_4 H locs w_5 hP hD hxw_5 hzw_5 hqw_5 hS => ?_)
      obtain rfl : r_3 = bI (q_same (rq un i) v) := w_5
      refine lv_if_eq (tgt := 26) hx hb dX0_unitOf_21 (by decide) (fun c_6 => ?_) (fun c_6 => ?_)
      · have c_6 := bI_z0 c_6
        refine lv_iinc (v := nI (i + 1)) (lv' := [(2, .int (nI (i + 1))), (0, .ref xo), (1, .ref h0)]) hx hb dX0_unitOf_26 hl (k := 0) rfl (eq_add rfl rfl) (by decide) rfl (fun ls hl => ?_)
        refine lv_goto (tgt := 2) hx hb dX0_unitOf_29 (by decide) ?_
        exact ih (i + 1) (by omega) (by rw [hR, fstF_n (by omega) ((q_same_c _ _).trans c_6), show 24 - i - 1 = 24 - (i + 1) by omega]) (by omega) _ _ _ hP hD hS (lv_sub hl [0, 1, 2] rfl) 
      · have c_6 := bI_z1 c_6
        refine lv_iload_n hx hb dX0_unitOf_24 rfl (lv_at hl 0 rfl) ?_
        exact k_iret () hx hb hr hlocks (by rw [hR, fstF_y (by omega) ((q_same_c _ _).trans c_6)]; rfl) hP hD trivial hS (Nat.le_of_ble_eq_true rfl) (Nat.le_of_ble_eq_true rfl) dX0_unitOf_25
set_option maxHeartbeats 4000000 in
set_option maxRecDepth 100000 in
theorem ct_X0_unitOf (l : Launch) (D : va_G) (ca : Nat → ClassId) (zH : Nat) (xo xs xu xd xr xf : Nat) (ua : Nat → Nat) (un : AI) (h0 : Nat) (v : Q4)  : Met l yX0_unitOf (ws_ yX0_unitOf cX0_unitOf 3 (some .int)) ({ frames := 1, cells := 0, slots := 0, locals := 21 }) (va_Pc [.ref xo, .ref h0] (pr_ NW D ca [(xo, oX xs xu xd xr xf), (xu, rA ca 4 24 (fun i => some (ua i)))] zH (fun H => Fo D H h0 v ∧ Ug D H ua un))) (qI D (fun (r : Int32) (u : Unit) => r = oI (fstF (fun k => q_same v (rq un k)) 0 24)) (fun u => [(xo, oX xs xu xd xr xf), (xu, rA ca 4 24 (fun i => some (ua i)))]) (fun u H => True) (va_A [(xo, oX xs xu xd xr xf), (xu, rA ca 4 24 (fun i => some (ua i)))] zH)) 0 0 (va_A [(xo, oX xs xu xd xr xf), (xu, rA ca 4 24 (fun i => some (ua i)))] zH) := by
  have hk := NW_ok
  refine k_ofW (Qc := qI D (fun (r : Int32) (u : Unit) => r = oI (fstF (fun k => q_same v (rq un k)) 0 24)) (fun u => [(xo, oX xs xu xd xr xf), (xu, rA ca 4 24 (fun i => some (ua i)))]) (fun u H => True)) (by decide) (Nat.le_of_ble_eq_true rfl) ?_
  intro p e s m below meth c ls A H hH hx hb hr hts hown hlocks hnm hml hsz hP hD hK hN hA hAn hS hro hl
  have hl : lv_has ls 3 [(0, .ref xo), (1, .ref h0)] := hl
  have hOF := k_outF hK (hH ▸ hP) (okc (oko 0 (by decide)) (okc (oka 4 (by decide)) (okn))) hAn
  have hOS := k_outS hK (hH ▸ hP) (okc (oko 0 (by decide)) (okc (oka 4 (by decide)) (okn))) hAn
  obtain ⟨hF0, hUg⟩ := hro
  have nF0 := hOF _ _ hF0
  refine lv_iconst (v := 0) hx hb dX0_unitOf_0 (by decide) ?_
  refine lv_istore_n (lv' := [(2, .int 0), (0, .ref xo), (1, .ref h0)]) hx hb dX0_unitOf_1 rfl hl (by decide) rfl (fun ls hl => ?_)
  exact lp_X0_unitOf xo xs xu xd xr xf ua un h0 v hUg hOF hx hb hr hts hown hlocks hnm hml hK hN hA hF0 nF0 25 0 (by omega) rfl (by omega) _ _ _ hP hD hS (lv_sub hl [0, 1, 2] rfl) 
set_option maxHeartbeats 4000000 in
set_option maxRecDepth 100000 in
theorem ct_X0_part (l : Launch) (D : va_G) (ca : Nat → ClassId) (zH : Nat) (xo xs xu xd xr xf : Nat) (ua : Nat → Nat) (un : AI) (ra : Nat → Nat) (g : AI) (s0 w0 : Int32) (hR : okR g) : Met l yX0_part (ws_ yX0_part cX0_part 4 (some .int)) ({ frames := 4, cells := 0, slots := 0, locals := 81 }) (va_Pc [.ref xo, .int s0, .int w0] (pr_ NW D ca [(xo, oX xs xu xd xr xf), (xu, rA ca 4 24 (fun i => some (ua i))), (xr, rA ca 4 16 (fun i => some (ra i)))] zH (fun H => Ug D H ua un ∧ Rg D H ra g))) (qI D (fun (r : Int32) (u : Unit) => r = m_part g un s0 w0) (fun u => [(xo, oX xs xu xd xr xf), (xu, rA ca 4 24 (fun i => some (ua i))), (xr, rA ca 4 16 (fun i => some (ra i)))]) (fun u H => True) (va_A [(xo, oX xs xu xd xr xf), (xu, rA ca 4 24 (fun i => some (ua i))), (xr, rA ca 4 16 (fun i => some (ra i)))] zH)) 0 0 (va_A [(xo, oX xs xu xd xr xf), (xu, rA ca 4 24 (fun i => some (ua i))), (xr, rA ca 4 16 (fun i => some (ra i)))] zH) := by
  have hk := NW_ok
  refine k_ofW (Qc := qI D (fun (r : Int32) (u : Unit) => r = m_part g un s0 w0) (fun u => [(xo, oX xs xu xd xr xf), (xu, rA ca 4 24 (fun i => some (ua i))), (xr, rA ca 4 16 (fun i => some (ra i)))]) (fun u H => True)) (by decide) (Nat.le_of_ble_eq_true rfl) ?_
  intro p e s m below meth c ls A H hH hx hb hr hts hown hlocks hnm hml hsz hP hD hK hN hA hAn hS hro hl
  have hl : lv_has ls 4 [(0, .ref xo), (1, .int s0), (2, .int w0)] := hl
  have hOF := k_outF hK (hH ▸ hP) (okc (oko 0 (by decide)) (okc (oka 4 (by decide)) (okc (oka 4 (by decide)) (okn)))) hAn
  have hOS := k_outS hK (hH ▸ hP) (okc (oko 0 (by decide)) (okc (oka 4 (by decide)) (okc (oka 4 (by decide)) (okn)))) hAn
  obtain ⟨hUg, hRg⟩ := hro
  refine lv_iload_n hx hb dX0_part_0 rfl (lv_at hl 1 rfl) ?_
  refine k_calli (wr := [(xo, oX xs xu xd xr xf), (xu, rA ca 4 24 (fun i => some (ua i))), (xr, rA ca 4 16 (fun i => some (ra i)))]) (va_runS (As := [.int s0]) (rest := []) ⟨hx, hb, hml, hown, hts⟩ (ct_X0_isRegister hk l D ca H.size s0) (va_cwS 1 hts (lw_S q313 q314 q19 q315) rfl rfl rfl (by decide +kernel) ⟨Nat.le_of_ble_eq_true rfl, Nat.le_of_ble_eq_true rfl⟩) (k_pre hk hK hN hP hD [] (by decide) rfl trivial) rfl rfl hl.1 rfl (lv_room (Nat.le_of_ble_eq_true rfl)) dX0_part_1 ⟨Nat.le_of_ble_eq_true rfl, Nat.le_of_ble_eq_true rfl⟩) hP hD hS hA [] [0, 1, 2] rfl rfl (by decide) (by decide) (fun r_1 u_2 H locs w_3 hP hD hxw_3 hzw_3 hqw_3 hS => ?_)
  obtain rfl : r_1 = bI (p_in s0.toInt64 0 15) := w_3
  refine lv_if_eq (tgt := 19) hx hb dX0_part_4 (by decide) (fun c_4 => ?_) (fun c_4 => ?_)
  · have c_4 := bI_z0 c_4
    refine lv_ldc hx hb hown (hts _ q349) dX0_part_19 ?_
    exact k_iret () hx hb hr hlocks (by simp [m_part, c_4]) hP hD trivial hS (Nat.le_of_ble_eq_true rfl) (Nat.le_of_ble_eq_true rfl) dX0_part_21
  · have c_4 := bI_z1 c_4
    obtain ⟨js0, hjs0, rfl⟩ := in_nI (n := 16) (by decide) c_4
    refine lv_iload_n hx hb dX0_part_7 rfl (lv_at hl 2 rfl) ?_
    refine lv_i2l (v := w0.toInt64) hx hb dX0_part_8 rfl ?_
    refine lv_lconst (v := 0) hx hb dX0_part_9 (by decide) ?_
    refine lv_ldc2 hx hb hown (hts _ q348) dX0_part_10 ?_
    refine k_calli (wr := [(xo, oX xs xu xd xr xf), (xu, rA ca 4 24 (fun i => some (ua i))), (xr, rA ca 4 16 (fun i => some (ra i)))]) (va_runS (As := [.long w0.toInt64, .long 0, .long 6]) (rest := []) ⟨hx, hb, hml, hown, hts⟩ (ct_X0_isIn hk l D ca H.size w0.toInt64 0 6) (va_cwS 3 hts (lw_S q131 q132 q19 q133) rfl rfl rfl (by decide +kernel) ⟨Nat.le_of_ble_eq_true rfl, Nat.le_of_ble_eq_true rfl⟩) (k_pre hk hK hN hP hD [] (by decide) rfl trivial) rfl rfl hl.1 rfl (lv_room (Nat.le_of_ble_eq_true rfl)) dX0_part_13 ⟨Nat.le_of_ble_eq_true rfl, Nat.le_of_ble_eq_true rfl⟩) hP hD hS hA [] [0, 1, 2] rfl rfl (by decide) (by decide) (fun r_5 u_6 H locs w_7 hP hD hxw_7 hzw_7 hqw_7 hS => ?_)
    obtain rfl : r_5 = bI (p_in w0.toInt64 0 6) := w_7
    refine lv_if_ne (tgt := 22) hx hb dX0_part_16 (by decide) (fun c_8 => ?_) (fun c_8 => ?_)
    · have c_8 := bI_z1 c_8
      obtain ⟨jw0, hjw0, rfl⟩ := in_nI (n := 7) (by decide) c_8
      refine lv_aload_n hx hb dX0_part_22 rfl (lv_at hl 0 rfl) ?_
      refine va_get (D := D) (ci := 0) (v := .ref xr) (C := RX0) (T := TX0) (N := 5) hx hb hts in_X0 hown hK hP 0 rfl rfl 3 (by decide) (hts _ q296) (fun _ h9 => h9) rfl dX0_part_23 ?_
      refine lv_iload_n hx hb dX0_part_26 rfl (lv_at hl 1 rfl) ?_
      refine va_aldq hx hb hK hP 2 4 rfl rfl (vin_nI (a := js0) rfl (by omega) (by omega)) dX0_part_27 ?_
      refine W.eq (g2 := F0 m 28 ls [.ref (ra js0)]) (by rw [nI_clamp (show js0 < 2 ^ 31 by omega)]; rfl) ?_
      have hG_9 := hRg js0 (by omega)
      have nG_9 := hOF _ _ hG_9
      refine lv_astore_n (lv' := [(3, .ref (ra js0)), (0, .ref xo), (1, .int (nI js0)), (2, .int (nI jw0))]) hx hb dX0_part_28 rfl hl (by decide) rfl (fun ls hl => ?_)
      refine lv_iload_n hx hb dX0_part_29 rfl (lv_at hl 3 rfl) ?_
      refine lv_iconst (v := 4) hx hb dX0_part_30 (by decide) ?_
      refine lv_icmp_ge (tgt := 43) hx hb dX0_part_31 (by decide) (fun c_10 => ?_) (fun c_10 => ?_)
      · have c_10 := le_y (a := 4) (b := jw0) rfl rfl (by omega) (by omega) c_10
        refine lv_iload_n hx hb dX0_part_43 rfl (lv_at hl 3 rfl) ?_
        refine lv_iconst (v := 4) hx hb dX0_part_44 (by decide) ?_
        refine lv_icmp_ne (tgt := 56) hx hb dX0_part_45 (by decide) (fun c_11 => ?_) (fun c_11 => ?_)
        · have c_11 := eq_no (a := jw0) (b := 4) rfl rfl (by omega) (by omega) c_11
          refine lv_iload_n hx hb dX0_part_56 rfl (lv_at hl 3 rfl) ?_
          refine lv_iconst (v := 5) hx hb dX0_part_57 (by decide) ?_
          refine lv_icmp_ne (tgt := 76) hx hb dX0_part_58 (by decide) (fun c_12 => ?_) (fun c_12 => ?_)
          · have c_12 := eq_no (a := jw0) (b := 5) rfl rfl (by omega) (by omega) c_12
            refine lv_aload_n hx hb dX0_part_76 rfl (lv_at hl 1 rfl) ?_
            refine lv_aload_n hx hb dX0_part_77 rfl (lv_at hl 0 rfl) ?_
            refine k_calli (wr := [(xr, rA ca 4 16 (fun i => some (ra i)))]) (va_runV (As := [.ref (ra js0)]) (rest := []) ⟨hx, hb, hml, hown, hts⟩ (ct_X0_unitOf l D ca H.size xo xs xu xd xr xf ua un (ra js0) (rq g js0)) (cwV 1 hts (lw_V q372 q374 qs3 q19 q375) rfl rfl rfl (by decide +kernel) ⟨Nat.le_of_ble_eq_true rfl, Nat.le_of_ble_eq_true rfl⟩) (k_preV hk hK hN hP hD [0, 1] (by decide) rfl ⟨(hG_9.keep hS nG_9), hUg.keep hS hOF⟩ hP rfl (q0 := 0) rfl) rfl rfl hl.1 rfl (lv_room (Nat.le_of_ble_eq_true rfl)) dX0_part_78 ⟨Nat.le_of_ble_eq_true rfl, Nat.le_of_ble_eq_true rfl⟩) hP hD hS hA [0, 1] [2] rfl rfl (by decide) (by decide) (fun r_13 u_14 H locs w_15 hP hD hxw_15 hzw_15 hqw_15 hS => ?_)
            have hP : va_P D vwCl [(xr, rA ca 4 16 (fun i => some (ra i))), (xo, oX xs xu xd xr xf), (xu, rA ca 4 24 (fun i => some (ua i)))] H := hP
            have hD : va_D A [(xr, rA ca 4 16 (fun i => some (ra i))), (xo, oX xs xu xd xr xf), (xu, rA ca 4 24 (fun i => some (ua i)))] := hD
            obtain rfl : r_13 = oI (fstF (fun k => q_same (rq g js0) (rq un k)) 0 24) := w_15
            exact k_iret () hx hb hr hlocks (by simp [m_part, c_4, c_8, nI_clamp (show js0 < 2 ^ 31 by omega), nI_clamp (show jw0 < 2 ^ 31 by omega), show ¬ jw0 < 4 from by omega, show ¬ jw0 = 4 from by omega, show ¬ jw0 = 5 from by omega]) (hP.sub [1, 2, 0] rfl) (hD.sub [1, 2, 0] (by decide) rfl) trivial hS (Nat.le_of_ble_eq_true rfl) (Nat.le_of_ble_eq_true rfl) dX0_part_81
          · have c_12 := eq_y (a := jw0) (b := 5) rfl rfl (by omega) (by omega) c_12
            refine lv_aload_n hx hb dX0_part_61 rfl (lv_at hl 0 rfl) ?_
            obtain ⟨P, hP1, hP2, hP3⟩ := nrm_P (hR.hz hjs0) (hR.sq hjs0)
            refine k_calli (wr := [(xo, oX xs xu xd xr xf), (xu, rA ca 4 24 (fun i => some (ua i))), (xr, rA ca 4 16 (fun i => some (ra i)))]) (va_runV (As := []) (rest := []) ⟨hx, hb, hml, hown, hts⟩ (ct_X1_isPrimitive l D ca H.size (ra js0) (rq g js0) P hP1 hP3) (cwV 0 hts (lw_V q355 q356 q357 q20 q358) rfl rfl rfl (by decide +kernel) ⟨Nat.le_of_ble_eq_true rfl, Nat.le_of_ble_eq_true rfl⟩) (k_preV hk hK hN hP hD [] (by decide) rfl (hG_9.keep hS nG_9) (hG_9.keep hS nG_9) rfl (q0 := 0) rfl) rfl rfl hl.1 rfl (lv_room (Nat.le_of_ble_eq_true rfl)) dX0_part_62 ⟨Nat.le_of_ble_eq_true rfl, Nat.le_of_ble_eq_true rfl⟩) hP hD hS hA [] [0, 1, 2] rfl rfl (by decide) (by decide) (fun r_16 u_17 H locs w_18 hP hD hxw_18 hzw_18 hqw_18 hS => ?_)
            obtain ⟨hrr_16, hur_16⟩ := w_18
            subst hrr_16
            refine lv_if_eq (tgt := 72) hx hb dX0_part_65 (by decide) (fun c_19 => ?_) (fun c_19 => ?_)
            · have c_19 := bI_z0 c_19
              refine lv_iconst (v := 0) hx hb dX0_part_72 (by decide) ?_
              refine lv_goto (tgt := 81) hx hb dX0_part_73 (by decide) ?_
              exact k_iret () hx hb hr hlocks (by simp [m_part, c_4, c_8, nI_clamp (show js0 < 2 ^ 31 by omega), nI_clamp (show jw0 < 2 ^ 31 by omega), show ¬ jw0 < 4 from by omega, show ¬ jw0 = 4 from by omega, show (jw0 = 5) ↔ True from ⟨fun _ => trivial, fun _ => c_12⟩, pI_f (fun z => absurd (((hur_16.trans (prim_al (hR.hz hjs0) (hR.sq hjs0) hP2)).mpr z).symm.trans c_19) (by decide))]) hP hD trivial hS (Nat.le_of_ble_eq_true rfl) (Nat.le_of_ble_eq_true rfl) dX0_part_81
            · have c_19 := bI_z1 c_19
              refine lv_iconst (v := 1) hx hb dX0_part_68 (by decide) ?_
              refine lv_goto (tgt := 81) hx hb dX0_part_69 (by decide) ?_
              exact k_iret () hx hb hr hlocks (by simp [m_part, c_4, c_8, nI_clamp (show js0 < 2 ^ 31 by omega), nI_clamp (show jw0 < 2 ^ 31 by omega), show ¬ jw0 < 4 from by omega, show ¬ jw0 = 4 from by omega, show (jw0 = 5) ↔ True from ⟨fun _ => trivial, fun _ => c_12⟩, pI_t ((hur_16.trans (prim_al (hR.hz hjs0) (hR.sq hjs0) hP2)).mp c_19)]) hP hD trivial hS (Nat.le_of_ble_eq_true rfl) (Nat.le_of_ble_eq_true rfl) dX0_part_81
        · have c_11 := eq_y (a := jw0) (b := 4) rfl rfl (by omega) (by omega) c_11
          refine lv_aload_n hx hb dX0_part_48 rfl (lv_at hl 0 rfl) ?_
          refine k_calll (wr := [(xo, oX xs xu xd xr xf), (xu, rA ca 4 24 (fun i => some (ua i))), (xr, rA ca 4 16 (fun i => some (ra i)))]) (va_runV (As := []) (rest := []) ⟨hx, hb, hml, hown, hts⟩ (ct_X1_norm l D ca H.size (ra js0) (rq g js0)) (cwV 0 hts (lw_V q350 q351 q352 q20 q353) rfl rfl rfl (by decide +kernel) ⟨Nat.le_of_ble_eq_true rfl, Nat.le_of_ble_eq_true rfl⟩) (k_preV hk hK hN hP hD [] (by decide) rfl (hG_9.keep hS nG_9) (hG_9.keep hS nG_9) rfl (q0 := 0) rfl) rfl rfl hl.1 rfl (lv_room (Nat.le_of_ble_eq_true rfl)) dX0_part_49 ⟨Nat.le_of_ble_eq_true rfl, Nat.le_of_ble_eq_true rfl⟩) hP hD hS hA [] [0, 1, 2] rfl rfl (by decide) (by decide) (fun r_20 u_21 H locs w_22 hP hD hxw_22 hzw_22 hqw_22 hS => ?_)
          obtain rfl : r_20 = q_norm (rq g js0) := w_22
          refine lv_l2i (v := (q_norm (rq g js0)).toInt32) hx hb dX0_part_52 rfl ?_
          refine lv_goto (tgt := 81) hx hb dX0_part_53 (by decide) ?_
          exact k_iret () hx hb hr hlocks (by simp [m_part, c_4, c_8, nI_clamp (show js0 < 2 ^ 31 by omega), nI_clamp (show jw0 < 2 ^ 31 by omega), show ¬ jw0 < 4 from by omega, show (jw0 = 4) ↔ True from ⟨fun _ => trivial, fun _ => c_11⟩]) hP hD trivial hS (Nat.le_of_ble_eq_true rfl) (Nat.le_of_ble_eq_true rfl) dX0_part_81
      · have c_10 := le_no (a := 4) (b := jw0) rfl rfl (by omega) (by omega) c_10
        refine lv_aload_n hx hb dX0_part_34 rfl (lv_at hl 0 rfl) ?_
        refine lv_iload_n hx hb dX0_part_35 rfl (lv_at hl 3 rfl) ?_
        refine k_calll (wr := [(xo, oX xs xu xd xr xf), (xu, rA ca 4 24 (fun i => some (ua i))), (xr, rA ca 4 16 (fun i => some (ra i)))]) (va_runV (As := [.int (nI jw0)]) (rest := []) ⟨hx, hb, hml, hown, hts⟩ (ct_X1_part hk l D ca H.size (ra js0) (nI jw0) (rq g js0)) (cwV 1 hts (lw_V q339 q262 q813 q20 q264) rfl rfl rfl (by decide +kernel) ⟨Nat.le_of_ble_eq_true rfl, Nat.le_of_ble_eq_true rfl⟩) (k_preV hk hK hN hP hD [] (by decide) rfl (hG_9.keep hS nG_9) (hG_9.keep hS nG_9) rfl (q0 := 0) rfl) rfl rfl hl.1 rfl (lv_room (Nat.le_of_ble_eq_true rfl)) dX0_part_36 ⟨Nat.le_of_ble_eq_true rfl, Nat.le_of_ble_eq_true rfl⟩) hP hD hS hA [] [0, 1, 2] rfl rfl (by decide) (by decide) (fun r_23 u_24 H locs w_25 hP hD hxw_25 hzw_25 hqw_25 hS => ?_)
        obtain rfl : r_23 = q_part (rq g js0) (nI jw0) := w_25
        refine lv_l2i (v := (q_part (rq g js0) (nI jw0)).toInt32) hx hb dX0_part_39 rfl ?_
        refine lv_goto (tgt := 81) hx hb dX0_part_40 (by decide) ?_
        exact k_iret () hx hb hr hlocks (by simp [m_part, c_4, c_8, nI_clamp (show js0 < 2 ^ 31 by omega), nI_clamp (show jw0 < 2 ^ 31 by omega), show jw0 < 4 from by omega, part_4 g js0 jw0 (by omega)]) hP hD trivial hS (Nat.le_of_ble_eq_true rfl) (Nat.le_of_ble_eq_true rfl) dX0_part_81
    · have c_8 := bI_z0 c_8
      refine lv_ldc hx hb hown (hts _ q349) dX0_part_19 ?_
      exact k_iret () hx hb hr hlocks (by simp [m_part, c_4, c_8, nI_clamp (show js0 < 2 ^ 31 by omega)]) hP hD trivial hS (Nat.le_of_ble_eq_true rfl) (Nat.le_of_ble_eq_true rfl) dX0_part_21
