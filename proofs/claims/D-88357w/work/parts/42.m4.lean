theorem not_le_of_lt32 {x : Int32} (h : x < 0) : ¬ 0 ≤ x := by rw [Int32.lt_iff_toInt_lt] at h; rw [Int32.le_iff_toInt_le]; omega
theorem le_of_not_lt32 {x : Int32} (h : ¬ x < 0) : 0 ≤ x := by rw [Int32.lt_iff_toInt_lt] at h; rw [Int32.le_iff_toInt_le]; omega
set_option maxHeartbeats 4000000 in
set_option maxRecDepth 100000 in
theorem ct_X5_cut {KN : State → Prop} (hk : KNok KN) (l : Launch) (D : va_G) (ca : Nat → ClassId) (zH : Nat) (o : Nat) (ad : Nat → Nat) (nf mo : Int32) (kd : AI) (j : Nat) (v : Int64) (hj : j < 6) : Met l yX5_cut (ws_ yX5_cut cX5_cut 4 (some .long)) ({ frames := 0, cells := 0, slots := 0, locals := 0 }) (va_Pc [.ref o, .int (nI j), .long v] (pr_ KN D ca [(o, mO ad nf mo), (ad 0, aI ca 6 kd)] zH (fun _ => True))) (qL D (fun (r : Int64) (u : Unit) => r = m_cut kd j v) (fun u => [(o, mO ad nf mo), (ad 0, aI ca 6 kd)]) (fun u H => True) (va_A [(o, mO ad nf mo), (ad 0, aI ca 6 kd)] zH)) 0 0 (va_A [(o, mO ad nf mo), (ad 0, aI ca 6 kd)] zH) := by
  refine k_ofW (Qc := qL D (fun (r : Int64) (u : Unit) => r = m_cut kd j v) (fun u => [(o, mO ad nf mo), (ad 0, aI ca 6 kd)]) (fun u H => True)) (by decide) (Nat.le_of_ble_eq_true rfl) ?_
  intro p e s m below meth c ls A H hH hx hb hr hts hown hlocks hnm hml hsz hP hD hK hN hA hAn hS hro hl
  have hl : lv_has ls 4 [(0, .ref o), (1, .int (nI j)), (2, .long v)] := hl
  refine lv_aload_n hx hb dX5_cut_0 rfl (lv_at hl 0 rfl) ?_
  refine va_get (D := D) (ci := 4) (v := .ref (ad 0)) (C := RX5) (T := TX5) (N := 18) hx hb hts in_X5 hown hK hP 0 rfl rfl 0 (by decide) (hts _ q573) (fun _ h9 => h9) rfl dX5_cut_1 ?_
  refine lv_iload_n hx hb dX5_cut_4 rfl (lv_at hl 1 rfl) ?_
  refine va_iald hx hb hK hP 1 1 rfl rfl (vin_nI (a := j) rfl (by omega) (by omega)) dX5_cut_5 ?_
  refine lv_topi (fun z_1 ez_1 => ?_)
  obtain rfl : z_1 = kd j := ez_1.trans (cl_nI (a := j) kd rfl (by omega))
  refine lv_if_ne (tgt := 16) hx hb dX5_cut_6 (by decide) (fun c_2 => ?_) (fun c_2 => ?_)
  · refine lv_aload_n hx hb dX5_cut_16 rfl (lv_at hl 0 rfl) ?_
    refine va_get (D := D) (ci := 4) (v := .ref (ad 0)) (C := RX5) (T := TX5) (N := 18) hx hb hts in_X5 hown hK hP 0 rfl rfl 0 (by decide) (hts _ q573) (fun _ h9 => h9) rfl dX5_cut_17 ?_
    refine lv_iload_n hx hb dX5_cut_20 rfl (lv_at hl 1 rfl) ?_
    refine va_iald hx hb hK hP 1 1 rfl rfl (vin_nI (a := j) rfl (by omega) (by omega)) dX5_cut_21 ?_
    refine lv_topi (fun z_3 ez_3 => ?_)
    obtain rfl : z_3 = kd j := ez_3.trans (cl_nI (a := j) kd rfl (by omega))
    refine lv_iconst (v := 1) hx hb dX5_cut_22 (by decide) ?_
    refine lv_icmp_ne (tgt := 32) hx hb dX5_cut_23 (by decide) (fun c_4 => ?_) (fun c_4 => ?_)
    · refine lv_lload_n hx hb dX5_cut_32 rfl (lv_at hl 2 rfl) ?_
      exact k_lret () hx hb hr hlocks (by simp [m_cut, c_2, c_4]) hP hD trivial hS (Nat.le_of_ble_eq_true rfl) (Nat.le_of_ble_eq_true rfl) dX5_cut_33
    · refine lv_lload_n hx hb dX5_cut_26 rfl (lv_at hl 2 rfl) ?_
      refine lv_l2i (v := v.toInt32) hx hb dX5_cut_27 rfl ?_
      refine lv_i2l (v := v.toInt32.toInt64) hx hb dX5_cut_28 rfl ?_
      refine lv_goto (tgt := 33) hx hb dX5_cut_29 (by decide) ?_
      exact k_lret () hx hb hr hlocks (by simp [m_cut, c_2, c_4]) hP hD trivial hS (Nat.le_of_ble_eq_true rfl) (Nat.le_of_ble_eq_true rfl) dX5_cut_33
  · refine lv_lload_n hx hb dX5_cut_9 rfl (lv_at hl 2 rfl) ?_
    refine lv_l2i (v := v.toInt32) hx hb dX5_cut_10 rfl ?_
    refine lv_i2b (v := v.toInt32.toInt8.toInt32) hx hb dX5_cut_11 rfl ?_
    refine lv_i2l (v := v.toInt32.toInt8.toInt32.toInt64) hx hb dX5_cut_12 rfl ?_
    refine lv_goto (tgt := 33) hx hb dX5_cut_13 (by decide) ?_
    exact k_lret () hx hb hr hlocks (by simp [m_cut, c_2]) hP hD trivial hS (Nat.le_of_ble_eq_true rfl) (Nat.le_of_ble_eq_true rfl) dX5_cut_33
set_option maxHeartbeats 4000000 in
set_option maxRecDepth 100000 in
theorem ct_X5_against {KN : State → Prop} (hk : KNok KN) (l : Launch) (D : va_G) (ca : Nat → ClassId) (zH : Nat) (o : Nat) (ad : Nat → Nat) (nf mo : Int32) (kd sz : AI) (j : Nat) (i0 n0 : Int32) (hj : j < 6) : Met l yX5_against (ws_ yX5_against cX5_against 4 (some .int)) ({ frames := 0, cells := 0, slots := 0, locals := 0 }) (va_Pc [.ref o, .int (nI j), .int i0, .int n0] (pr_ KN D ca [(o, mO ad nf mo), (ad 0, aI ca 6 kd), (ad 1, aI ca 6 sz)] zH (fun _ => True))) (qI D (fun (r : Int32) (u : Unit) => r = m_ag kd sz j i0 n0) (fun u => [(o, mO ad nf mo), (ad 0, aI ca 6 kd), (ad 1, aI ca 6 sz)]) (fun u H => True) (va_A [(o, mO ad nf mo), (ad 0, aI ca 6 kd), (ad 1, aI ca 6 sz)] zH)) 0 0 (va_A [(o, mO ad nf mo), (ad 0, aI ca 6 kd), (ad 1, aI ca 6 sz)] zH) := by
  refine k_ofW (Qc := qI D (fun (r : Int32) (u : Unit) => r = m_ag kd sz j i0 n0) (fun u => [(o, mO ad nf mo), (ad 0, aI ca 6 kd), (ad 1, aI ca 6 sz)]) (fun u H => True)) (by decide) (Nat.le_of_ble_eq_true rfl) ?_
  intro p e s m below meth c ls A H hH hx hb hr hts hown hlocks hnm hml hsz hP hD hK hN hA hAn hS hro hl
  have hl : lv_has ls 4 [(0, .ref o), (1, .int (nI j)), (2, .int i0), (3, .int n0)] := hl
  refine lv_aload_n hx hb dX5_against_0 rfl (lv_at hl 0 rfl) ?_
  refine va_get (D := D) (ci := 4) (v := .ref (ad 0)) (C := RX5) (T := TX5) (N := 18) hx hb hts in_X5 hown hK hP 0 rfl rfl 0 (by decide) (hts _ q573) (fun _ h9 => h9) rfl dX5_against_1 ?_
  refine lv_iload_n hx hb dX5_against_4 rfl (lv_at hl 1 rfl) ?_
  refine va_iald hx hb hK hP 1 1 rfl rfl (vin_nI (a := j) rfl (by omega) (by omega)) dX5_against_5 ?_
  refine lv_topi (fun z_1 ez_1 => ?_)
  obtain rfl : z_1 = kd j := ez_1.trans (cl_nI (a := j) kd rfl (by omega))
  refine lv_if_ge (tgt := 14) hx hb dX5_against_6 (by decide) (fun c_2 => ?_) (fun c_2 => ?_)
  · refine lv_iload_n hx hb dX5_against_14 rfl (lv_at hl 2 rfl) ?_
    refine lv_if_lt (tgt := 34) hx hb dX5_against_15 (by decide) (fun c_3 => ?_) (fun c_3 => ?_)
    · refine lv_bipush (v := (-12)) hx hb dX5_against_34 (by decide) ?_
      refine lv_goto (tgt := 40) hx hb dX5_against_36 (by decide) ?_
      exact k_iret () hx hb hr hlocks (by simp [m_ag, c_2, c_3]) hP hD trivial hS (Nat.le_of_ble_eq_true rfl) (Nat.le_of_ble_eq_true rfl) dX5_against_40
    · refine lv_iload_n hx hb dX5_against_18 rfl (lv_at hl 2 rfl) ?_
      refine lv_i2l (v := i0.toInt64) hx hb dX5_against_19 rfl ?_
      refine lv_iload_n hx hb dX5_against_20 rfl (lv_at hl 3 rfl) ?_
      refine lv_i2l (v := n0.toInt64) hx hb dX5_against_21 rfl ?_
      refine lv_ladd hx hb dX5_against_22 ?_
      refine lv_aload_n hx hb dX5_against_23 rfl (lv_at hl 0 rfl) ?_
      refine va_get (D := D) (ci := 4) (v := .ref (ad 1)) (C := RX5) (T := TX5) (N := 18) hx hb hts in_X5 hown hK hP 0 rfl rfl 1 (by decide) (hts _ q574) (fun _ h9 => h9) rfl dX5_against_24 ?_
      refine lv_iload_n hx hb dX5_against_27 rfl (lv_at hl 1 rfl) ?_
      refine va_iald hx hb hK hP 2 1 rfl rfl (vin_nI (a := j) rfl (by omega) (by omega)) dX5_against_28 ?_
      refine lv_topi (fun z_4 ez_4 => ?_)
      obtain rfl : z_4 = sz j := ez_4.trans (cl_nI (a := j) sz rfl (by omega))
      refine lv_i2l (v := (sz j).toInt64) hx hb dX5_against_29 rfl ?_
      refine k_lc_le (tgt := 39) hx hb dX5_against_30 dX5_against_31 (by decide) (fun c_5 => ?_) (fun c_5 => ?_)
      · refine lv_iconst (v := 0) hx hb dX5_against_39 (by decide) ?_
        exact k_iret () hx hb hr hlocks (by simp [m_ag, c_2, c_3, c_5]) hP hD trivial hS (Nat.le_of_ble_eq_true rfl) (Nat.le_of_ble_eq_true rfl) dX5_against_40
      · refine lv_bipush (v := (-12)) hx hb dX5_against_34 (by decide) ?_
        refine lv_goto (tgt := 40) hx hb dX5_against_36 (by decide) ?_
        exact k_iret () hx hb hr hlocks (by simp [m_ag, c_2, c_3, c_5]) hP hD trivial hS (Nat.le_of_ble_eq_true rfl) (Nat.le_of_ble_eq_true rfl) dX5_against_40
  · refine lv_bipush (v := (-11)) hx hb dX5_against_9 (by decide) ?_
    refine lv_goto (tgt := 40) hx hb dX5_against_11 (by decide) ?_
    exact k_iret () hx hb hr hlocks (by simp [m_ag, c_2]) hP hD trivial hS (Nat.le_of_ble_eq_true rfl) (Nat.le_of_ble_eq_true rfl) dX5_against_40
set_option maxHeartbeats 4000000 in
set_option maxRecDepth 100000 in
theorem lp_X5_sheet {KN : State → Prop} (hk : KNok KN) {l : Launch} {D : va_G} {ca : Nat → ClassId} (o : Nat) (ad : Nat → Nat) (nf : Int32) (mo : Int32) (kd : AI) (sz : AI) (sh : AL) (k0 : Int32) (n0 : Int32) (jr : Nat) (sv : Int32) (hj : jr < 6) (hsp : m_sheet kd sz sh (nI jr) k0 n0 = (0, upd kd jr k0, upd sz jr sv, zrk sh jr 16)) {p : Program} {e : Env} {s : State} {m : MethodId} {below : List Frame} {meth : Method} {c : Code} {A : Nat → Prop}  (hx : p.tables.exec = Jvm.exec) (hb : c.code = cX5_sheet) (hr : meth.sig.returnType = (some .int)) (hts : ∀ w ∈ lw_all, w.before ([.ref o, .int (nI jr), .int k0, .int n0] : List Value).toArray s = true) (hown : s.vm.findClass yX5_sheet.cls = some m.cls) (hlocks : meth.locks = false) (hnm : meth.name = yX5_sheet.name) (hml : c.maxLocals = 5) (hK : va_K D vwCl (tysG ca) s) (hN : KN s) (hA : ∀ q, s.heap.size ≤ q → A q)  :
    ∀ (n : Nat) (i : Nat), (i ≤ 16) → (16 < n + i) →  ∀ (H : Heap) (locs : List Loc) (ls : Array Slot), va_P D vwCl [(o, mO ad nf mo), (ad 0, aI ca 6 (upd kd jr k0)), (ad 1, aI ca 6 (upd sz jr sv)), (ad 2, aL ca 96 (zrk sh jr i))] H → va_D A [(o, mO ad nf mo), (ad 0, aI ca 6 (upd kd jr k0)), (ad 1, aI ca 6 (upd sz jr sv)), (ad 2, aL ca 96 (zrk sh jr i))] → va_S A s.heap H locs → lv_has ls 5 [(4, .int (nI i)), (0, .ref o), (1, .int (nI jr))] → W p l e ({ frames := 2, cells := 0, slots := 0, locals := 45 }) s m ([.ref o, .int (nI jr), .int k0, .int n0] : List Value).toArray below meth c H locs 0 0 (MQ below (qI D (fun (r : Int32) (u : AI × AI × AL) => (r, u) = m_sheet kd sz sh (nI jr) k0 n0) (fun u => [(o, mO ad nf mo), (ad 0, aI ca 6 u.1), (ad 1, aI ca 6 u.2.1), (ad 2, aL ca 96 u.2.2)]) (fun u H => True) A) ([.ref o, .int (nI jr), .int k0, .int n0] : List Value).toArray s 0 0 A) (F0 m 69 ls []) := by
  intro n
  induction n with
  | zero =>
    intro i hi hfuel H locs ls hP hD hS hl 
    exact absurd hfuel (by omega)
  | succ n ih =>
    intro i hi hfuel H locs ls hP hD hS hl 
    refine lv_iload hx hb dX5_sheet_69 (lv_at hl 0 rfl) ?_
    refine lv_bipush (v := 16) hx hb dX5_sheet_71 (by decide) ?_
    refine lv_icmp_ge (tgt := 95) hx hb dX5_sheet_73 (by decide) (fun c_1 => ?_) (fun c_1 => ?_)
    · have c_1 := le_y (a := 16) (b := i) rfl rfl (by omega) (by omega) c_1
      refine lv_iconst (v := 0) hx hb dX5_sheet_95 (by decide) ?_
      exact k_iret (upd kd jr k0, upd sz jr sv, zrk sh jr i) hx hb hr hlocks (by rw [hsp, show i = 16 by omega]) hP hD trivial hS (Nat.le_of_ble_eq_true rfl) (Nat.le_of_ble_eq_true rfl) dX5_sheet_96
    · have c_1 := le_no (a := 16) (b := i) rfl rfl (by omega) (by omega) c_1
      refine lv_aload_n hx hb dX5_sheet_76 rfl (lv_at hl 1 rfl) ?_
      refine va_get (D := D) (ci := 4) (v := .ref (ad 2)) (C := RX5) (T := TX5) (N := 18) hx hb hts in_X5 hown hK hP 0 rfl rfl 2 (by decide) (hts _ q575) (fun _ h9 => h9) rfl dX5_sheet_77 ?_
      refine lv_bipush (v := 16) hx hb dX5_sheet_80 (by decide) ?_
      refine lv_iload_n hx hb dX5_sheet_82 rfl (lv_at hl 2 rfl) ?_
      refine lv_imul hx hb dX5_sheet_83 ?_
      refine lv_iload hx hb dX5_sheet_84 (lv_at hl 0 rfl) ?_
      refine lv_iadd hx hb dX5_sheet_86 ?_
      refine lv_lconst (v := 0) hx hb dX5_sheet_87 (by decide) ?_
      refine va_last hx hb hK hP hD hS 3 2 rfl rfl (vin_nI (a := (16 * jr) + i) (eq_add (eq_mul rfl rfl) rfl) (by omega) (by omega)) dX5_sheet_88 (fun H locs hP hD hS => ?_)
      rw [cn_nI (i := (16 * (nI jr)) + (nI i)) (a := (16 * jr) + i) (eq_add (eq_mul rfl rfl) rfl) (by omega)] at hP hD
      have hP : va_P D vwCl [(o, mO ad nf mo), (ad 0, aI ca 6 (upd kd jr k0)), (ad 1, aI ca 6 (upd sz jr sv)), (ad 2, aL ca 96 (vp_updL (zrk sh jr i) ((16 * jr) + i) 0))] H := hP
      have hD : va_D A [(o, mO ad nf mo), (ad 0, aI ca 6 (upd kd jr k0)), (ad 1, aI ca 6 (upd sz jr sv)), (ad 2, aL ca 96 (vp_updL (zrk sh jr i) ((16 * jr) + i) 0))] := hD
      refine lv_iinc (v := nI (i + 1)) (lv' := [(4, .int (nI (i + 1))), (0, .ref o), (1, .int (nI jr))]) hx hb dX5_sheet_89 hl (k := 0) rfl (eq_add rfl rfl) (by decide) rfl (fun ls hl => ?_)
      refine lv_goto (tgt := 69) hx hb dX5_sheet_92 (by decide) ?_
      rw [zrk_s] at hP hD
      exact ih (i + 1) (by omega) (by omega) _ _ _ hP hD hS (lv_sub hl [0, 1, 2] rfl) 
set_option maxHeartbeats 4000000 in
set_option maxRecDepth 100000 in
theorem ct_X5_sheet {KN : State → Prop} (hk : KNok KN) (l : Launch) (D : va_G) (ca : Nat → ClassId) (zH : Nat) (o : Nat) (ad : Nat → Nat) (nf mo : Int32) (kd sz : AI) (sh : AL) (r0 k0 n0 : Int32)  : Met l yX5_sheet (ws_ yX5_sheet cX5_sheet 5 (some .int)) ({ frames := 2, cells := 0, slots := 0, locals := 45 }) (va_Pc [.ref o, .int r0, .int k0, .int n0] (pr_ KN D ca [(o, mO ad nf mo), (ad 0, aI ca 6 kd), (ad 1, aI ca 6 sz), (ad 2, aL ca 96 sh)] zH (fun _ => True))) (qI D (fun (r : Int32) (u : AI × AI × AL) => (r, u) = m_sheet kd sz sh r0 k0 n0) (fun u => [(o, mO ad nf mo), (ad 0, aI ca 6 u.1), (ad 1, aI ca 6 u.2.1), (ad 2, aL ca 96 u.2.2)]) (fun u H => True) (va_A [(o, mO ad nf mo), (ad 0, aI ca 6 kd), (ad 1, aI ca 6 sz), (ad 2, aL ca 96 sh)] zH)) 0 0 (va_A [(o, mO ad nf mo), (ad 0, aI ca 6 kd), (ad 1, aI ca 6 sz), (ad 2, aL ca 96 sh)] zH) := by
  refine k_ofW (Qc := qI D (fun (r : Int32) (u : AI × AI × AL) => (r, u) = m_sheet kd sz sh r0 k0 n0) (fun u => [(o, mO ad nf mo), (ad 0, aI ca 6 u.1), (ad 1, aI ca 6 u.2.1), (ad 2, aL ca 96 u.2.2)]) (fun u H => True)) (by decide) (Nat.le_of_ble_eq_true rfl) ?_
  intro p e s m below meth c ls A H hH hx hb hr hts hown hlocks hnm hml hsz hP hD hK hN hA hAn hS hro hl
  have hl : lv_has ls 5 [(0, .ref o), (1, .int r0), (2, .int k0), (3, .int n0)] := hl
  refine lv_iload_n hx hb dX5_sheet_0 rfl (lv_at hl 1 rfl) ?_
  refine k_calli (wr := [(o, mO ad nf mo), (ad 0, aI ca 6 kd), (ad 1, aI ca 6 sz), (ad 2, aL ca 96 sh)]) (va_runS (As := [.int r0]) (rest := []) ⟨hx, hb, hml, hown, hts⟩ (ct_X5_isSheet hk l D ca H.size r0) (va_cwS 1 hts (lw_S q631 q632 q24 q633) rfl rfl rfl (by decide +kernel) ⟨Nat.le_of_ble_eq_true rfl, Nat.le_of_ble_eq_true rfl⟩) (k_pre hk hK hN hP hD [] (by decide) rfl trivial) rfl rfl hl.1 rfl (lv_room (Nat.le_of_ble_eq_true rfl)) dX5_sheet_1 ⟨Nat.le_of_ble_eq_true rfl, Nat.le_of_ble_eq_true rfl⟩) hP hD hS hA [] [0, 1, 2, 3] rfl rfl (by decide) (by decide) (fun r_1 u_2 H locs w_3 hP hD hxw_3 hzw_3 hqw_3 hS => ?_)
  obtain rfl : r_1 = bI (p_in r0.toInt64 0 5) := w_3
  refine lv_if_eq (tgt := 31) hx hb dX5_sheet_4 (by decide) (fun c_4 => ?_) (fun c_4 => ?_)
  · have c_4 := bI_z0 c_4
    refine lv_iconst (v := (-1)) hx hb dX5_sheet_31 (by decide) ?_
    exact k_iret (kd, sz, sh) hx hb hr hlocks (by simp [m_sheet, c_4]) hP hD trivial hS (Nat.le_of_ble_eq_true rfl) (Nat.le_of_ble_eq_true rfl) dX5_sheet_32
  · have c_4 := bI_z1 c_4
    obtain ⟨jr0, hjr0, rfl⟩ := in_nI (n := 6) (by decide) c_4
    refine lv_iload_n hx hb dX5_sheet_7 rfl (lv_at hl 2 rfl) ?_
    refine lv_i2l (v := k0.toInt64) hx hb dX5_sheet_8 rfl ?_
    refine lv_ldc2 hx hb hown (hts _ q638) dX5_sheet_9 ?_
    refine lv_ldc2 hx hb hown (hts _ q639) dX5_sheet_12 ?_
    refine k_calli (wr := [(o, mO ad nf mo), (ad 0, aI ca 6 kd), (ad 1, aI ca 6 sz), (ad 2, aL ca 96 sh)]) (va_runS (As := [.long k0.toInt64, .long (-1), .long 2]) (rest := []) ⟨hx, hb, hml, hown, hts⟩ (ct_X5_in hk l D ca H.size k0.toInt64 (-1) 2) (va_cwS 3 hts (lw_S q635 q636 q24 q637) rfl rfl rfl (by decide +kernel) ⟨Nat.le_of_ble_eq_true rfl, Nat.le_of_ble_eq_true rfl⟩) (k_pre hk hK hN hP hD [] (by decide) rfl trivial) rfl rfl hl.1 rfl (lv_room (Nat.le_of_ble_eq_true rfl)) dX5_sheet_15 ⟨Nat.le_of_ble_eq_true rfl, Nat.le_of_ble_eq_true rfl⟩) hP hD hS hA [] [0, 1, 2, 3] rfl rfl (by decide) (by decide) (fun r_5 u_6 H locs w_7 hP hD hxw_7 hzw_7 hqw_7 hS => ?_)
    obtain rfl : r_5 = bI (p_in k0.toInt64 (-1) 2) := w_7
    refine lv_if_eq (tgt := 31) hx hb dX5_sheet_18 (by decide) (fun c_8 => ?_) (fun c_8 => ?_)
    · have c_8 := bI_z0 c_8
      refine lv_iconst (v := (-1)) hx hb dX5_sheet_31 (by decide) ?_
      exact k_iret (kd, sz, sh) hx hb hr hlocks (by simp [m_sheet, c_4, c_8]) hP hD trivial hS (Nat.le_of_ble_eq_true rfl) (Nat.le_of_ble_eq_true rfl) dX5_sheet_32
    · have c_8 := bI_z1 c_8
      refine lv_iload_n hx hb dX5_sheet_21 rfl (lv_at hl 2 rfl) ?_
      refine lv_if_lt (tgt := 33) hx hb dX5_sheet_22 (by decide) (fun c_9 => ?_) (fun c_9 => ?_)
      · refine lv_iload_n hx hb dX5_sheet_33 rfl (lv_at hl 2 rfl) ?_
        refine lv_if_lt (tgt := 44) hx hb dX5_sheet_34 (by decide) (fun c_10 => ?_) (fun c_10 => absurd c_9 c_10)
        refine lv_aload_n hx hb dX5_sheet_44 rfl (lv_at hl 0 rfl) ?_
        refine va_get (D := D) (ci := 4) (v := .ref (ad 0)) (C := RX5) (T := TX5) (N := 18) hx hb hts in_X5 hown hK hP 0 rfl rfl 0 (by decide) (hts _ q573) (fun _ h9 => h9) rfl dX5_sheet_45 ?_
        refine lv_iload_n hx hb dX5_sheet_48 rfl (lv_at hl 1 rfl) ?_
        refine lv_iload_n hx hb dX5_sheet_49 rfl (lv_at hl 2 rfl) ?_
        refine va_iast hx hb hK hP hD hS 1 1 rfl rfl (vin_nI (a := jr0) rfl (by omega) (by omega)) dX5_sheet_50 (fun H locs hP hD hS => ?_)
        rw [cn_nI (i := nI jr0) (a := jr0) rfl (by omega)] at hP hD
        have hP : va_P D vwCl [(o, mO ad nf mo), (ad 0, aI ca 6 (upd kd jr0 k0)), (ad 1, aI ca 6 sz), (ad 2, aL ca 96 sh)] H := hP
        have hD : va_D A [(o, mO ad nf mo), (ad 0, aI ca 6 (upd kd jr0 k0)), (ad 1, aI ca 6 sz), (ad 2, aL ca 96 sh)] := hD
        refine lv_aload_n hx hb dX5_sheet_51 rfl (lv_at hl 0 rfl) ?_
        refine va_get (D := D) (ci := 4) (v := .ref (ad 1)) (C := RX5) (T := TX5) (N := 18) hx hb hts in_X5 hown hK hP 0 rfl rfl 1 (by decide) (hts _ q574) (fun _ h9 => h9) rfl dX5_sheet_52 ?_
        refine lv_iload_n hx hb dX5_sheet_55 rfl (lv_at hl 1 rfl) ?_
        refine lv_iload_n hx hb dX5_sheet_56 rfl (lv_at hl 2 rfl) ?_
        refine lv_if_ge (tgt := 64) hx hb dX5_sheet_57 (by decide) (fun c_11 => absurd c_11 (not_le_of_lt32 c_9)) (fun c_11 => ?_)
        refine lv_iconst (v := 0) hx hb dX5_sheet_60 (by decide) ?_
        refine lv_goto (tgt := 65) hx hb dX5_sheet_61 (by decide) ?_
        refine va_iast hx hb hK hP hD hS 2 1 rfl rfl (vin_nI (a := jr0) rfl (by omega) (by omega)) dX5_sheet_65 (fun H locs hP hD hS => ?_)
        rw [cn_nI (i := nI jr0) (a := jr0) rfl (by omega)] at hP hD
        have hP : va_P D vwCl [(o, mO ad nf mo), (ad 0, aI ca 6 (upd kd jr0 k0)), (ad 1, aI ca 6 (upd sz jr0 0)), (ad 2, aL ca 96 sh)] H := hP
        have hD : va_D A [(o, mO ad nf mo), (ad 0, aI ca 6 (upd kd jr0 k0)), (ad 1, aI ca 6 (upd sz jr0 0)), (ad 2, aL ca 96 sh)] := hD
        refine lv_iconst (v := 0) hx hb dX5_sheet_66 (by decide) ?_
        refine lv_istore (lv' := [(4, .int 0), (0, .ref o), (1, .int (nI jr0)), (2, .int k0), (3, .int n0)]) hx hb dX5_sheet_67 hl (by decide) rfl (fun ls hl => ?_)
        rw [← zrk_0 sh jr0] at hP hD
        have hP : va_P D vwCl [(o, mO ad nf mo), (ad 0, aI ca 6 (upd kd jr0 k0)), (ad 1, aI ca 6 (upd sz jr0 0)), (ad 2, aL ca 96 (zrk sh jr0 0))] H := hP
        have hD : va_D A [(o, mO ad nf mo), (ad 0, aI ca 6 (upd kd jr0 k0)), (ad 1, aI ca 6 (upd sz jr0 0)), (ad 2, aL ca 96 (zrk sh jr0 0))] := hD
        exact lp_X5_sheet hk o ad nf mo kd sz sh k0 n0 jr0 0 hjr0 (by simp [m_sheet, c_4, c_8, c_9, nI_clamp (show jr0 < 2 ^ 31 by omega)])  hx hb hr hts hown hlocks hnm hml hK hN hA  17 0 (by omega) (by omega) _ _ _ hP hD hS (lv_sub hl [0, 1, 2] rfl) 
      · refine lv_iload_n hx hb dX5_sheet_25 rfl (lv_at hl 3 rfl) ?_
        refine lv_bipush (v := 16) hx hb dX5_sheet_26 (by decide) ?_
        refine lv_icmp_le (tgt := 33) hx hb dX5_sheet_28 (by decide) (fun c_12 => ?_) (fun c_12 => ?_)
        · refine lv_iload_n hx hb dX5_sheet_33 rfl (lv_at hl 2 rfl) ?_
          refine lv_if_lt (tgt := 44) hx hb dX5_sheet_34 (by decide) (fun c_13 => absurd c_13 c_9) (fun c_13 => ?_)
          refine lv_iload_n hx hb dX5_sheet_37 rfl (lv_at hl 3 rfl) ?_
          refine lv_if_ge (tgt := 44) hx hb dX5_sheet_38 (by decide) (fun c_14 => ?_) (fun c_14 => ?_)
          · refine lv_aload_n hx hb dX5_sheet_44 rfl (lv_at hl 0 rfl) ?_
            refine va_get (D := D) (ci := 4) (v := .ref (ad 0)) (C := RX5) (T := TX5) (N := 18) hx hb hts in_X5 hown hK hP 0 rfl rfl 0 (by decide) (hts _ q573) (fun _ h9 => h9) rfl dX5_sheet_45 ?_
            refine lv_iload_n hx hb dX5_sheet_48 rfl (lv_at hl 1 rfl) ?_
            refine lv_iload_n hx hb dX5_sheet_49 rfl (lv_at hl 2 rfl) ?_
            refine va_iast hx hb hK hP hD hS 1 1 rfl rfl (vin_nI (a := jr0) rfl (by omega) (by omega)) dX5_sheet_50 (fun H locs hP hD hS => ?_)
            rw [cn_nI (i := nI jr0) (a := jr0) rfl (by omega)] at hP hD
            have hP : va_P D vwCl [(o, mO ad nf mo), (ad 0, aI ca 6 (upd kd jr0 k0)), (ad 1, aI ca 6 sz), (ad 2, aL ca 96 sh)] H := hP
            have hD : va_D A [(o, mO ad nf mo), (ad 0, aI ca 6 (upd kd jr0 k0)), (ad 1, aI ca 6 sz), (ad 2, aL ca 96 sh)] := hD
            refine lv_aload_n hx hb dX5_sheet_51 rfl (lv_at hl 0 rfl) ?_
            refine va_get (D := D) (ci := 4) (v := .ref (ad 1)) (C := RX5) (T := TX5) (N := 18) hx hb hts in_X5 hown hK hP 0 rfl rfl 1 (by decide) (hts _ q574) (fun _ h9 => h9) rfl dX5_sheet_52 ?_
            refine lv_iload_n hx hb dX5_sheet_55 rfl (lv_at hl 1 rfl) ?_
            refine lv_iload_n hx hb dX5_sheet_56 rfl (lv_at hl 2 rfl) ?_
            refine lv_if_ge (tgt := 64) hx hb dX5_sheet_57 (by decide) (fun c_15 => ?_) (fun c_15 => absurd (le_of_not_lt32 c_9) c_15)
            refine lv_iload_n hx hb dX5_sheet_64 rfl (lv_at hl 3 rfl) ?_
            refine va_iast hx hb hK hP hD hS 2 1 rfl rfl (vin_nI (a := jr0) rfl (by omega) (by omega)) dX5_sheet_65 (fun H locs hP hD hS => ?_)
            rw [cn_nI (i := nI jr0) (a := jr0) rfl (by omega)] at hP hD
            have hP : va_P D vwCl [(o, mO ad nf mo), (ad 0, aI ca 6 (upd kd jr0 k0)), (ad 1, aI ca 6 (upd sz jr0 n0)), (ad 2, aL ca 96 sh)] H := hP
            have hD : va_D A [(o, mO ad nf mo), (ad 0, aI ca 6 (upd kd jr0 k0)), (ad 1, aI ca 6 (upd sz jr0 n0)), (ad 2, aL ca 96 sh)] := hD
            refine lv_iconst (v := 0) hx hb dX5_sheet_66 (by decide) ?_
            refine lv_istore (lv' := [(4, .int 0), (0, .ref o), (1, .int (nI jr0)), (2, .int k0), (3, .int n0)]) hx hb dX5_sheet_67 hl (by decide) rfl (fun ls hl => ?_)
            rw [← zrk_0 sh jr0] at hP hD
            have hP : va_P D vwCl [(o, mO ad nf mo), (ad 0, aI ca 6 (upd kd jr0 k0)), (ad 1, aI ca 6 (upd sz jr0 n0)), (ad 2, aL ca 96 (zrk sh jr0 0))] H := hP
            have hD : va_D A [(o, mO ad nf mo), (ad 0, aI ca 6 (upd kd jr0 k0)), (ad 1, aI ca 6 (upd sz jr0 n0)), (ad 2, aL ca 96 (zrk sh jr0 0))] := hD
            exact lp_X5_sheet hk o ad nf mo kd sz sh k0 n0 jr0 n0 hjr0 (by simp [m_sheet, c_4, c_8, c_9, c_12, c_14, nI_clamp (show jr0 < 2 ^ 31 by omega)])  hx hb hr hts hown hlocks hnm hml hK hN hA  17 0 (by omega) (by omega) _ _ _ hP hD hS (lv_sub hl [0, 1, 2] rfl) 
          · refine lv_bipush (v := (-13)) hx hb dX5_sheet_41 (by decide) ?_
            exact k_iret (kd, sz, sh) hx hb hr hlocks (by simp [m_sheet, c_4, c_8, c_9, c_12, c_14]) hP hD trivial hS (Nat.le_of_ble_eq_true rfl) (Nat.le_of_ble_eq_true rfl) dX5_sheet_43
        · refine lv_iconst (v := (-1)) hx hb dX5_sheet_31 (by decide) ?_
          exact k_iret (kd, sz, sh) hx hb hr hlocks (by simp [m_sheet, c_4, c_8, c_9, c_12]) hP hD trivial hS (Nat.le_of_ble_eq_true rfl) (Nat.le_of_ble_eq_true rfl) dX5_sheet_32
set_option maxHeartbeats 4000000 in
set_option maxRecDepth 100000 in
theorem ct_X5_put {KN : State → Prop} (hk : KNok KN) (l : Launch) (D : va_G) (ca : Nat → ClassId) (zH : Nat) (o : Nat) (ad : Nat → Nat) (nf mo : Int32) (kd sz : AI) (sh : AL) (r0 i0 : Int32) (v : Int64) (hz : okS sz) : Met l yX5_put (ws_ yX5_put cX5_put 6 (some .int)) ({ frames := 2, cells := 0, slots := 0, locals := 45 }) (va_Pc [.ref o, .int r0, .int i0, .long v] (pr_ KN D ca [(o, mO ad nf mo), (ad 0, aI ca 6 kd), (ad 1, aI ca 6 sz), (ad 2, aL ca 96 sh)] zH (fun _ => True))) (qI D (fun (r : Int32) (u : AL) => (r, u) = m_put kd sz sh r0 i0 v) (fun u => [(o, mO ad nf mo), (ad 0, aI ca 6 kd), (ad 1, aI ca 6 sz), (ad 2, aL ca 96 u)]) (fun u H => True) (va_A [(o, mO ad nf mo), (ad 0, aI ca 6 kd), (ad 1, aI ca 6 sz), (ad 2, aL ca 96 sh)] zH)) 0 0 (va_A [(o, mO ad nf mo), (ad 0, aI ca 6 kd), (ad 1, aI ca 6 sz), (ad 2, aL ca 96 sh)] zH) := by
  refine k_ofW (Qc := qI D (fun (r : Int32) (u : AL) => (r, u) = m_put kd sz sh r0 i0 v) (fun u => [(o, mO ad nf mo), (ad 0, aI ca 6 kd), (ad 1, aI ca 6 sz), (ad 2, aL ca 96 u)]) (fun u H => True)) (by decide) (Nat.le_of_ble_eq_true rfl) ?_
  intro p e s m below meth c ls A H hH hx hb hr hts hown hlocks hnm hml hsz hP hD hK hN hA hAn hS hro hl
  have hl : lv_has ls 6 [(0, .ref o), (1, .int r0), (2, .int i0), (3, .long v)] := hl
  refine lv_iload_n hx hb dX5_put_0 rfl (lv_at hl 1 rfl) ?_
  refine k_calli (wr := [(o, mO ad nf mo), (ad 0, aI ca 6 kd), (ad 1, aI ca 6 sz), (ad 2, aL ca 96 sh)]) (va_runS (As := [.int r0]) (rest := []) ⟨hx, hb, hml, hown, hts⟩ (ct_X5_isSheet hk l D ca H.size r0) (va_cwS 1 hts (lw_S q631 q632 q24 q633) rfl rfl rfl (by decide +kernel) ⟨Nat.le_of_ble_eq_true rfl, Nat.le_of_ble_eq_true rfl⟩) (k_pre hk hK hN hP hD [] (by decide) rfl trivial) rfl rfl hl.1 rfl (lv_room (Nat.le_of_ble_eq_true rfl)) dX5_put_1 ⟨Nat.le_of_ble_eq_true rfl, Nat.le_of_ble_eq_true rfl⟩) hP hD hS hA [] [0, 1, 2, 3] rfl rfl (by decide) (by decide) (fun r_1 u_2 H locs w_3 hP hD hxw_3 hzw_3 hqw_3 hS => ?_)
  obtain rfl : r_1 = bI (p_in r0.toInt64 0 5) := w_3
  refine lv_if_ne (tgt := 9) hx hb dX5_put_4 (by decide) (fun c_4 => ?_) (fun c_4 => ?_)
  · have c_4 := bI_z1 c_4
    obtain ⟨jr0, hjr0, rfl⟩ := in_nI (n := 6) (by decide) c_4
    refine lv_aload_n hx hb dX5_put_9 rfl (lv_at hl 0 rfl) ?_
    refine lv_iload_n hx hb dX5_put_10 rfl (lv_at hl 1 rfl) ?_
    refine lv_iload_n hx hb dX5_put_11 rfl (lv_at hl 2 rfl) ?_
    refine lv_iconst (v := 1) hx hb dX5_put_12 (by decide) ?_
    refine k_calli (wr := [(ad 2, aL ca 96 sh)]) (va_runV (As := [.int (nI jr0), .int i0, .int 1]) (rest := []) ⟨hx, hb, hml, hown, hts⟩ (ct_X5_against hk l D ca H.size o ad nf mo kd sz jr0 i0 1 (by omega)) (cwV 3 hts (lw_V q644 q646 qs6 q24 q647) rfl rfl rfl (by decide +kernel) ⟨Nat.le_of_ble_eq_true rfl, Nat.le_of_ble_eq_true rfl⟩) (k_preV hk hK hN hP hD [0, 1, 2] (by decide) rfl trivial hP rfl (q0 := 0) rfl) rfl rfl hl.1 rfl (lv_room (Nat.le_of_ble_eq_true rfl)) dX5_put_13 ⟨Nat.le_of_ble_eq_true rfl, Nat.le_of_ble_eq_true rfl⟩) hP hD hS hA [0, 1, 2] [3] rfl rfl (by decide) (by decide) (fun r_5 u_6 H locs w_7 hP hD hxw_7 hzw_7 hqw_7 hS => ?_)
    have hP : va_P D vwCl [(ad 2, aL ca 96 sh), (o, mO ad nf mo), (ad 0, aI ca 6 kd), (ad 1, aI ca 6 sz)] H := hP
    have hD : va_D A [(ad 2, aL ca 96 sh), (o, mO ad nf mo), (ad 0, aI ca 6 kd), (ad 1, aI ca 6 sz)] := hD
    obtain rfl : r_5 = m_ag kd sz jr0 i0 1 := w_7
    refine lv_istore (lv' := [(5, .int (m_ag kd sz jr0 i0 1)), (0, .ref o), (1, .int (nI jr0)), (2, .int i0), (3, .long v)]) hx hb dX5_put_16 hl (by decide) rfl (fun ls hl => ?_)
    refine lv_iload hx hb dX5_put_18 (lv_at hl 0 rfl) ?_
    refine lv_if_ne (tgt := 40) hx hb dX5_put_20 (by decide) (fun c_8 => ?_) (fun c_8 => ?_)
    · refine lv_iload hx hb dX5_put_40 (lv_at hl 0 rfl) ?_
      exact k_iret sh hx hb hr hlocks (by simp [m_put, c_4, c_8, nI_clamp (show jr0 < 2 ^ 31 by omega)]) (hP.sub [1, 2, 3, 0] rfl) (hD.sub [1, 2, 3, 0] (by decide) rfl) trivial hS (Nat.le_of_ble_eq_true rfl) (Nat.le_of_ble_eq_true rfl) dX5_put_42
    · obtain ⟨ai, rfl, hai, -, hai2, hai3⟩ := ag_0 (n := 1) hz hjr0 (by decide) c_8
      refine lv_aload_n hx hb dX5_put_23 rfl (lv_at hl 1 rfl) ?_
      refine va_get (D := D) (ci := 4) (v := .ref (ad 2)) (C := RX5) (T := TX5) (N := 18) hx hb hts in_X5 hown hK hP 1 rfl rfl 2 (by decide) (hts _ q575) (fun _ h9 => h9) rfl dX5_put_24 ?_
      refine lv_bipush (v := 16) hx hb dX5_put_27 (by decide) ?_
      refine lv_iload_n hx hb dX5_put_29 rfl (lv_at hl 2 rfl) ?_
      refine lv_imul hx hb dX5_put_30 ?_
      refine lv_iload_n hx hb dX5_put_31 rfl (lv_at hl 3 rfl) ?_
      refine lv_iadd hx hb dX5_put_32 ?_
      refine lv_aload_n hx hb dX5_put_33 rfl (lv_at hl 1 rfl) ?_
      refine lv_iload_n hx hb dX5_put_34 rfl (lv_at hl 2 rfl) ?_
      refine lv_lload_n hx hb dX5_put_35 rfl (lv_at hl 4 rfl) ?_
      refine k_calll (wr := [(ad 2, aL ca 96 sh), (ad 1, aI ca 6 sz)]) (va_runV (As := [.int (nI jr0), .long v]) (rest := [.int ((16 * (nI jr0)) + (nI ai)), .ref (ad 2)]) ⟨hx, hb, hml, hown, hts⟩ (ct_X5_cut hk l D ca H.size o ad nf mo kd jr0 v (by omega)) (cwV 2 hts (lw_V q648 q650 qs7 q24 q651) rfl rfl rfl (by decide +kernel) ⟨Nat.le_of_ble_eq_true rfl, Nat.le_of_ble_eq_true rfl⟩) (k_preV hk hK hN hP hD [1, 2] (by decide) rfl trivial hP rfl (q0 := 1) rfl) rfl rfl hl.1 rfl (lv_room (Nat.le_of_ble_eq_true rfl)) dX5_put_36 ⟨Nat.le_of_ble_eq_true rfl, Nat.le_of_ble_eq_true rfl⟩) hP hD hS hA [1, 2] [0, 3] rfl rfl (by decide) (by decide) (fun r_9 u_10 H locs w_11 hP hD hxw_11 hzw_11 hqw_11 hS => ?_)
      have hP : va_P D vwCl [(ad 2, aL ca 96 sh), (ad 1, aI ca 6 sz), (o, mO ad nf mo), (ad 0, aI ca 6 kd)] H := hP
      have hD : va_D A [(ad 2, aL ca 96 sh), (ad 1, aI ca 6 sz), (o, mO ad nf mo), (ad 0, aI ca 6 kd)] := hD
      obtain rfl : r_9 = m_cut kd jr0 v := w_11
      refine va_last hx hb hK hP hD hS 0 2 rfl rfl (vin_nI (a := (16 * jr0) + ai) (eq_add (eq_mul rfl rfl) rfl) (by omega) (by omega)) dX5_put_39 (fun H locs hP hD hS => ?_)
      rw [cn_nI (i := (16 * (nI jr0)) + (nI ai)) (a := (16 * jr0) + ai) (eq_add (eq_mul rfl rfl) rfl) (by omega)] at hP hD
      have hP : va_P D vwCl [(ad 2, aL ca 96 (vp_updL sh ((16 * jr0) + ai) (m_cut kd jr0 v))), (ad 1, aI ca 6 sz), (o, mO ad nf mo), (ad 0, aI ca 6 kd)] H := hP
      have hD : va_D A [(ad 2, aL ca 96 (vp_updL sh ((16 * jr0) + ai) (m_cut kd jr0 v))), (ad 1, aI ca 6 sz), (o, mO ad nf mo), (ad 0, aI ca 6 kd)] := hD
      refine lv_iload hx hb dX5_put_40 (lv_at hl 0 rfl) ?_
      exact k_iret (vp_updL sh ((16 * jr0) + ai) (m_cut kd jr0 v)) hx hb hr hlocks (by simp [m_put, c_4, c_8, nI_clamp (show jr0 < 2 ^ 31 by omega), nI_clamp (show ai < 2 ^ 31 by omega)]) (hP.sub [2, 3, 1, 0] rfl) (hD.sub [2, 3, 1, 0] (by decide) rfl) trivial hS (Nat.le_of_ble_eq_true rfl) (Nat.le_of_ble_eq_true rfl) dX5_put_42
  · have c_4 := bI_z0 c_4
    refine lv_iconst (v := (-1)) hx hb dX5_put_7 (by decide) ?_
    exact k_iret sh hx hb hr hlocks (by simp [m_put, c_4]) hP hD trivial hS (Nat.le_of_ble_eq_true rfl) (Nat.le_of_ble_eq_true rfl) dX5_put_8
set_option maxHeartbeats 4000000 in
set_option maxRecDepth 100000 in
theorem ct_X5_read {KN : State → Prop} (hk : KNok KN) (l : Launch) (D : va_G) (ca : Nat → ClassId) (zH : Nat) (o : Nat) (ad : Nat → Nat) (nf mo : Int32) (kd sz : AI) (sh : AL) (g : AI) (s0 r0 i0 : Int32) (hz : okS sz) : Met l yX5_read (ws_ yX5_read cX5_read 7 (some .int)) ({ frames := 2, cells := 0, slots := 0, locals := 46 }) (va_Pc [.ref o, .int s0, .int r0, .int i0] (pr_ KN D ca [(o, mO ad nf mo), (ad 0, aI ca 6 kd), (ad 1, aI ca 6 sz), (ad 2, aL ca 96 sh), (ad 3, aI ca 64 g)] zH (fun _ => True))) (qI D (fun (r : Int32) (u : AI) => (r, u) = m_read kd sz sh g s0 r0 i0) (fun u => [(o, mO ad nf mo), (ad 0, aI ca 6 kd), (ad 1, aI ca 6 sz), (ad 2, aL ca 96 sh), (ad 3, aI ca 64 u)]) (fun u H => True) (va_A [(o, mO ad nf mo), (ad 0, aI ca 6 kd), (ad 1, aI ca 6 sz), (ad 2, aL ca 96 sh), (ad 3, aI ca 64 g)] zH)) 0 0 (va_A [(o, mO ad nf mo), (ad 0, aI ca 6 kd), (ad 1, aI ca 6 sz), (ad 2, aL ca 96 sh), (ad 3, aI ca 64 g)] zH) := by
  refine k_ofW (Qc := qI D (fun (r : Int32) (u : AI) => (r, u) = m_read kd sz sh g s0 r0 i0) (fun u => [(o, mO ad nf mo), (ad 0, aI ca 6 kd), (ad 1, aI ca 6 sz), (ad 2, aL ca 96 sh), (ad 3, aI ca 64 u)]) (fun u H => True)) (by decide) (Nat.le_of_ble_eq_true rfl) ?_
  intro p e s m below meth c ls A H hH hx hb hr hts hown hlocks hnm hml hsz hP hD hK hN hA hAn hS hro hl
  have hl : lv_has ls 7 [(0, .ref o), (1, .int s0), (2, .int r0), (3, .int i0)] := hl
  refine lv_iload_n hx hb dX5_read_0 rfl (lv_at hl 1 rfl) ?_
  refine k_calli (wr := [(o, mO ad nf mo), (ad 0, aI ca 6 kd), (ad 1, aI ca 6 sz), (ad 2, aL ca 96 sh), (ad 3, aI ca 64 g)]) (va_runS (As := [.int s0]) (rest := []) ⟨hx, hb, hml, hown, hts⟩ (ct_X5_isRegister hk l D ca H.size s0) (va_cwS 1 hts (lw_S q660 q661 q24 q662) rfl rfl rfl (by decide +kernel) ⟨Nat.le_of_ble_eq_true rfl, Nat.le_of_ble_eq_true rfl⟩) (k_pre hk hK hN hP hD [] (by decide) rfl trivial) rfl rfl hl.1 rfl (lv_room (Nat.le_of_ble_eq_true rfl)) dX5_read_1 ⟨Nat.le_of_ble_eq_true rfl, Nat.le_of_ble_eq_true rfl⟩) hP hD hS hA [] [0, 1, 2, 3, 4] rfl rfl (by decide) (by decide) (fun r_1 u_2 H locs w_3 hP hD hxw_3 hzw_3 hqw_3 hS => ?_)
  obtain rfl : r_1 = bI (p_in s0.toInt64 0 15) := w_3
  refine lv_if_eq (tgt := 14) hx hb dX5_read_4 (by decide) (fun c_4 => ?_) (fun c_4 => ?_)
  · have c_4 := bI_z0 c_4
    refine lv_iconst (v := (-1)) hx hb dX5_read_14 (by decide) ?_
    exact k_iret g hx hb hr hlocks (by simp [m_read, c_4, q_one, q_low, sq4, wq]) hP hD trivial hS (Nat.le_of_ble_eq_true rfl) (Nat.le_of_ble_eq_true rfl) dX5_read_15
  · have c_4 := bI_z1 c_4
    obtain ⟨js0, hjs0, rfl⟩ := in_nI (n := 16) (by decide) c_4
    refine lv_iload_n hx hb dX5_read_7 rfl (lv_at hl 2 rfl) ?_
    refine k_calli (wr := [(o, mO ad nf mo), (ad 0, aI ca 6 kd), (ad 1, aI ca 6 sz), (ad 2, aL ca 96 sh), (ad 3, aI ca 64 g)]) (va_runS (As := [.int r0]) (rest := []) ⟨hx, hb, hml, hown, hts⟩ (ct_X5_isSheet hk l D ca H.size r0) (va_cwS 1 hts (lw_S q631 q632 q24 q633) rfl rfl rfl (by decide +kernel) ⟨Nat.le_of_ble_eq_true rfl, Nat.le_of_ble_eq_true rfl⟩) (k_pre hk hK hN hP hD [] (by decide) rfl trivial) rfl rfl hl.1 rfl (lv_room (Nat.le_of_ble_eq_true rfl)) dX5_read_8 ⟨Nat.le_of_ble_eq_true rfl, Nat.le_of_ble_eq_true rfl⟩) hP hD hS hA [] [0, 1, 2, 3, 4] rfl rfl (by decide) (by decide) (fun r_5 u_6 H locs w_7 hP hD hxw_7 hzw_7 hqw_7 hS => ?_)
    obtain rfl : r_5 = bI (p_in r0.toInt64 0 5) := w_7
    refine lv_if_ne (tgt := 16) hx hb dX5_read_11 (by decide) (fun c_8 => ?_) (fun c_8 => ?_)
    · have c_8 := bI_z1 c_8
      obtain ⟨jr0, hjr0, rfl⟩ := in_nI (n := 6) (by decide) c_8
      refine lv_aload_n hx hb dX5_read_16 rfl (lv_at hl 0 rfl) ?_
      refine lv_iload_n hx hb dX5_read_17 rfl (lv_at hl 2 rfl) ?_
      refine lv_iload_n hx hb dX5_read_18 rfl (lv_at hl 3 rfl) ?_
      refine lv_iconst (v := 4) hx hb dX5_read_19 (by decide) ?_
      refine k_calli (wr := [(ad 2, aL ca 96 sh), (ad 3, aI ca 64 g)]) (va_runV (As := [.int (nI jr0), .int i0, .int 4]) (rest := []) ⟨hx, hb, hml, hown, hts⟩ (ct_X5_against hk l D ca H.size o ad nf mo kd sz jr0 i0 4 (by omega)) (cwV 3 hts (lw_V q644 q646 qs6 q24 q647) rfl rfl rfl (by decide +kernel) ⟨Nat.le_of_ble_eq_true rfl, Nat.le_of_ble_eq_true rfl⟩) (k_preV hk hK hN hP hD [0, 1, 2] (by decide) rfl trivial hP rfl (q0 := 0) rfl) rfl rfl hl.1 rfl (lv_room (Nat.le_of_ble_eq_true rfl)) dX5_read_20 ⟨Nat.le_of_ble_eq_true rfl, Nat.le_of_ble_eq_true rfl⟩) hP hD hS hA [0, 1, 2] [3, 4] rfl rfl (by decide) (by decide) (fun r_9 u_10 H locs w_11 hP hD hxw_11 hzw_11 hqw_11 hS => ?_)
      have hP : va_P D vwCl [(ad 2, aL ca 96 sh), (ad 3, aI ca 64 g), (o, mO ad nf mo), (ad 0, aI ca 6 kd), (ad 1, aI ca 6 sz)] H := hP
      have hD : va_D A [(ad 2, aL ca 96 sh), (ad 3, aI ca 64 g), (o, mO ad nf mo), (ad 0, aI ca 6 kd), (ad 1, aI ca 6 sz)] := hD
      obtain rfl : r_9 = m_ag kd sz jr0 i0 4 := w_11
      refine lv_istore (lv' := [(4, .int (m_ag kd sz jr0 i0 4)), (0, .ref o), (1, .int (nI js0)), (2, .int (nI jr0)), (3, .int i0)]) hx hb dX5_read_23 hl (by decide) rfl (fun ls hl => ?_)
      refine lv_iload hx hb dX5_read_25 (lv_at hl 0 rfl) ?_
      refine lv_if_eq (tgt := 33) hx hb dX5_read_27 (by decide) (fun c_12 => ?_) (fun c_12 => ?_)
      · obtain ⟨ai, rfl, hai, -, hai2, hai3⟩ := ag_0 (n := 4) hz hjr0 (by decide) c_12
        refine lv_bipush (v := 16) hx hb dX5_read_33 (by decide) ?_
        refine lv_iload_n hx hb dX5_read_35 rfl (lv_at hl 3 rfl) ?_
        refine lv_imul hx hb dX5_read_36 ?_
        refine lv_iload_n hx hb dX5_read_37 rfl (lv_at hl 4 rfl) ?_
        refine lv_iadd hx hb dX5_read_38 ?_
        refine lv_istore (lv' := [(5, .int ((16 * (nI jr0)) + (nI ai))), (4, .int (m_ag kd sz jr0 (nI ai) 4)), (0, .ref o), (1, .int (nI js0)), (2, .int (nI jr0)), (3, .int (nI ai))]) hx hb dX5_read_39 hl (by decide) rfl (fun ls hl => ?_)
        refine lv_aload_n hx hb dX5_read_41 rfl (lv_at hl 2 rfl) ?_
        refine va_get (D := D) (ci := 4) (v := .ref (ad 2)) (C := RX5) (T := TX5) (N := 18) hx hb hts in_X5 hown hK hP 2 rfl rfl 2 (by decide) (hts _ q575) (fun _ h9 => h9) rfl dX5_read_42 ?_
        refine lv_iload hx hb dX5_read_45 (lv_at hl 0 rfl) ?_
        refine va_lald hx hb hK hP 0 2 rfl rfl (vin_nI (a := (16 * jr0) + ai) (eq_add (eq_mul rfl rfl) rfl) (by omega) (by omega)) dX5_read_47 ?_
        refine lv_topl (fun z_13 ez_13 => ?_)
        obtain rfl : z_13 = sh ((16 * jr0) + ai) := ez_13.trans (cl_nI (a := (16 * jr0) + ai) sh (eq_add (eq_mul rfl rfl) rfl) (by omega))
        refine lv_aload_n hx hb dX5_read_48 rfl (lv_at hl 2 rfl) ?_
        refine va_get (D := D) (ci := 4) (v := .ref (ad 2)) (C := RX5) (T := TX5) (N := 18) hx hb hts in_X5 hown hK hP 2 rfl rfl 2 (by decide) (hts _ q575) (fun _ h9 => h9) rfl dX5_read_49 ?_
        refine lv_iload hx hb dX5_read_52 (lv_at hl 0 rfl) ?_
        refine lv_iconst (v := 1) hx hb dX5_read_54 (by decide) ?_
        refine lv_iadd hx hb dX5_read_55 ?_
        refine va_lald hx hb hK hP 0 2 rfl rfl (vin_nI (a := ((16 * jr0) + ai) + 1) (eq_add (eq_add (eq_mul rfl rfl) rfl) rfl) (by omega) (by omega)) dX5_read_56 ?_
        refine lv_topl (fun z_14 ez_14 => ?_)
        obtain rfl : z_14 = sh (((16 * jr0) + ai) + 1) := ez_14.trans (cl_nI (a := ((16 * jr0) + ai) + 1) sh (eq_add (eq_add (eq_mul rfl rfl) rfl) rfl) (by omega))
        refine lv_aload_n hx hb dX5_read_57 rfl (lv_at hl 2 rfl) ?_
        refine va_get (D := D) (ci := 4) (v := .ref (ad 2)) (C := RX5) (T := TX5) (N := 18) hx hb hts in_X5 hown hK hP 2 rfl rfl 2 (by decide) (hts _ q575) (fun _ h9 => h9) rfl dX5_read_58 ?_
        refine lv_iload hx hb dX5_read_61 (lv_at hl 0 rfl) ?_
        refine lv_iconst (v := 2) hx hb dX5_read_63 (by decide) ?_
        refine lv_iadd hx hb dX5_read_64 ?_
        refine va_lald hx hb hK hP 0 2 rfl rfl (vin_nI (a := ((16 * jr0) + ai) + 2) (eq_add (eq_add (eq_mul rfl rfl) rfl) rfl) (by omega) (by omega)) dX5_read_65 ?_
        refine lv_topl (fun z_15 ez_15 => ?_)
        obtain rfl : z_15 = sh (((16 * jr0) + ai) + 2) := ez_15.trans (cl_nI (a := ((16 * jr0) + ai) + 2) sh (eq_add (eq_add (eq_mul rfl rfl) rfl) rfl) (by omega))
        refine lv_aload_n hx hb dX5_read_66 rfl (lv_at hl 2 rfl) ?_
        refine va_get (D := D) (ci := 4) (v := .ref (ad 2)) (C := RX5) (T := TX5) (N := 18) hx hb hts in_X5 hown hK hP 2 rfl rfl 2 (by decide) (hts _ q575) (fun _ h9 => h9) rfl dX5_read_67 ?_
        refine lv_iload hx hb dX5_read_70 (lv_at hl 0 rfl) ?_
        refine lv_iconst (v := 3) hx hb dX5_read_72 (by decide) ?_
        refine lv_iadd hx hb dX5_read_73 ?_
        refine va_lald hx hb hK hP 0 2 rfl rfl (vin_nI (a := ((16 * jr0) + ai) + 3) (eq_add (eq_add (eq_mul rfl rfl) rfl) rfl) (by omega) (by omega)) dX5_read_74 ?_
        refine lv_topl (fun z_16 ez_16 => ?_)
        obtain rfl : z_16 = sh (((16 * jr0) + ai) + 3) := ez_16.trans (cl_nI (a := ((16 * jr0) + ai) + 3) sh (eq_add (eq_add (eq_mul rfl rfl) rfl) rfl) (by omega))
        refine k_calli (wr := [(ad 2, aL ca 96 sh), (ad 3, aI ca 64 g), (o, mO ad nf mo), (ad 0, aI ca 6 kd), (ad 1, aI ca 6 sz)]) (va_runS (As := [.long (sh ((16 * jr0) + ai)), .long (sh (((16 * jr0) + ai) + 1)), .long (sh (((16 * jr0) + ai) + 2)), .long (sh (((16 * jr0) + ai) + 3))]) (rest := []) ⟨hx, hb, hml, hown, hts⟩ (ct_X5_isOne hk l D ca H.size (sh ((16 * jr0) + ai)) (sh (((16 * jr0) + ai) + 1)) (sh (((16 * jr0) + ai) + 2)) (sh (((16 * jr0) + ai) + 3))) (va_cwS 4 hts (lw_S q570 q571 q24 q572) rfl rfl rfl (by decide +kernel) ⟨Nat.le_of_ble_eq_true rfl, Nat.le_of_ble_eq_true rfl⟩) (k_pre hk hK hN hP hD [] (by decide) rfl trivial) rfl rfl hl.1 rfl (lv_room (Nat.le_of_ble_eq_true rfl)) dX5_read_75 ⟨Nat.le_of_ble_eq_true rfl, Nat.le_of_ble_eq_true rfl⟩) hP hD hS hA [] [0, 1, 2, 3, 4] rfl rfl (by decide) (by decide) (fun r_17 u_18 H locs w_19 hP hD hxw_19 hzw_19 hqw_19 hS => ?_)
        obtain rfl : r_17 = bI (p_one (sh ((16 * jr0) + ai)) (sh (((16 * jr0) + ai) + 1)) (sh (((16 * jr0) + ai) + 2)) (sh (((16 * jr0) + ai) + 3))) := w_19
        refine lv_if_ne (tgt := 84) hx hb dX5_read_78 (by decide) (fun c_20 => ?_) (fun c_20 => ?_)
        · have c_20 := bI_z1 c_20
          refine lv_iconst (v := 0) hx hb dX5_read_84 (by decide) ?_
          refine lv_istore (lv' := [(6, .int 0), (5, .int ((16 * (nI jr0)) + (nI ai))), (4, .int (m_ag kd sz jr0 (nI ai) 4)), (0, .ref o), (1, .int (nI js0)), (2, .int (nI jr0)), (3, .int (nI ai))]) hx hb dX5_read_85 hl (by decide) rfl (fun ls hl => ?_)
          refine lv_iload hx hb dX5_read_87 (lv_at hl 0 rfl) ?_
          refine lv_iconst (v := 4) hx hb dX5_read_89 (by decide) ?_
          refine lv_icmp_ge (tgt := 118) hx hb dX5_read_90 (by decide) (fun c_21 => absurd c_21 (by decide)) (fun c_21 => ?_)
          refine lv_aload_n hx hb dX5_read_93 rfl (lv_at hl 3 rfl) ?_
          refine va_get (D := D) (ci := 4) (v := .ref (ad 2)) (C := RX5) (T := TX5) (N := 18) hx hb hts in_X5 hown hK hP 2 rfl rfl 2 (by decide) (hts _ q575) (fun _ h9 => h9) rfl dX5_read_94 ?_
          refine lv_iload hx hb dX5_read_97 (lv_at hl 1 rfl) ?_
          refine lv_iload hx hb dX5_read_99 (lv_at hl 0 rfl) ?_
          refine lv_iadd hx hb dX5_read_101 ?_
          refine va_lald hx hb hK hP 0 2 rfl rfl (vin_nI (a := (16 * jr0) + ai) (eq_add0 (eq_add (eq_mul rfl rfl) rfl)) (by omega) (by omega)) dX5_read_102 ?_
          refine lv_topl (fun z_22 ez_22 => ?_)
          obtain rfl : z_22 = sh ((16 * jr0) + ai) := ez_22.trans (cl_nI (a := (16 * jr0) + ai) sh (eq_add0 (eq_add (eq_mul rfl rfl) rfl)) (by omega))
          refine k_calli (wr := [(ad 2, aL ca 96 sh), (ad 3, aI ca 64 g), (o, mO ad nf mo), (ad 0, aI ca 6 kd), (ad 1, aI ca 6 sz)]) (va_runS (As := [.long (sh ((16 * jr0) + ai))]) (rest := []) ⟨hx, hb, hml, hown, hts⟩ (ct_X5_isPart hk l D ca H.size (sh ((16 * jr0) + ai))) (va_cwS 1 hts (lw_S q664 q665 q24 q666) rfl rfl rfl (by decide +kernel) ⟨Nat.le_of_ble_eq_true rfl, Nat.le_of_ble_eq_true rfl⟩) (k_pre hk hK hN hP hD [] (by decide) rfl trivial) rfl rfl hl.1 rfl (lv_room (Nat.le_of_ble_eq_true rfl)) dX5_read_103 ⟨Nat.le_of_ble_eq_true rfl, Nat.le_of_ble_eq_true rfl⟩) hP hD hS hA [] [0, 1, 2, 3, 4] rfl rfl (by decide) (by decide) (fun r_23 u_24 H locs w_25 hP hD hxw_25 hzw_25 hqw_25 hS => ?_)
          obtain rfl : r_23 = bI (p_in (sh ((16 * jr0) + ai)) (-20000) 20000) := w_25
          refine lv_if_ne (tgt := 112) hx hb dX5_read_106 (by decide) (fun c_26 => ?_) (fun c_26 => ?_)
          · have c_26 := bI_z1 c_26
            refine lv_iinc (v := 1) (lv' := [(6, .int 1), (5, .int ((16 * (nI jr0)) + (nI ai))), (4, .int (m_ag kd sz jr0 (nI ai) 4)), (0, .ref o), (1, .int (nI js0)), (2, .int (nI jr0)), (3, .int (nI ai))]) hx hb dX5_read_112 hl (k := 0) rfl (by decide) (by decide) rfl (fun ls hl => ?_)
            refine lv_goto (tgt := 87) hx hb dX5_read_115 (by decide) ?_
            refine lv_iload hx hb dX5_read_87 (lv_at hl 0 rfl) ?_
            refine lv_iconst (v := 4) hx hb dX5_read_89 (by decide) ?_
            refine lv_icmp_ge (tgt := 118) hx hb dX5_read_90 (by decide) (fun c_27 => absurd c_27 (by decide)) (fun c_27 => ?_)
            refine lv_aload_n hx hb dX5_read_93 rfl (lv_at hl 3 rfl) ?_
            refine va_get (D := D) (ci := 4) (v := .ref (ad 2)) (C := RX5) (T := TX5) (N := 18) hx hb hts in_X5 hown hK hP 2 rfl rfl 2 (by decide) (hts _ q575) (fun _ h9 => h9) rfl dX5_read_94 ?_
            refine lv_iload hx hb dX5_read_97 (lv_at hl 1 rfl) ?_
            refine lv_iload hx hb dX5_read_99 (lv_at hl 0 rfl) ?_
            refine lv_iadd hx hb dX5_read_101 ?_
            refine va_lald hx hb hK hP 0 2 rfl rfl (vin_nI (a := ((16 * jr0) + ai) + 1) (eq_add (eq_add (eq_mul rfl rfl) rfl) rfl) (by omega) (by omega)) dX5_read_102 ?_
            refine lv_topl (fun z_28 ez_28 => ?_)
            obtain rfl : z_28 = sh (((16 * jr0) + ai) + 1) := ez_28.trans (cl_nI (a := ((16 * jr0) + ai) + 1) sh (eq_add (eq_add (eq_mul rfl rfl) rfl) rfl) (by omega))
            refine k_calli (wr := [(ad 2, aL ca 96 sh), (ad 3, aI ca 64 g), (o, mO ad nf mo), (ad 0, aI ca 6 kd), (ad 1, aI ca 6 sz)]) (va_runS (As := [.long (sh (((16 * jr0) + ai) + 1))]) (rest := []) ⟨hx, hb, hml, hown, hts⟩ (ct_X5_isPart hk l D ca H.size (sh (((16 * jr0) + ai) + 1))) (va_cwS 1 hts (lw_S q664 q665 q24 q666) rfl rfl rfl (by decide +kernel) ⟨Nat.le_of_ble_eq_true rfl, Nat.le_of_ble_eq_true rfl⟩) (k_pre hk hK hN hP hD [] (by decide) rfl trivial) rfl rfl hl.1 rfl (lv_room (Nat.le_of_ble_eq_true rfl)) dX5_read_103 ⟨Nat.le_of_ble_eq_true rfl, Nat.le_of_ble_eq_true rfl⟩) hP hD hS hA [] [0, 1, 2, 3, 4] rfl rfl (by decide) (by decide) (fun r_29 u_30 H locs w_31 hP hD hxw_31 hzw_31 hqw_31 hS => ?_)
            obtain rfl : r_29 = bI (p_in (sh (((16 * jr0) + ai) + 1)) (-20000) 20000) := w_31
            refine lv_if_ne (tgt := 112) hx hb dX5_read_106 (by decide) (fun c_32 => ?_) (fun c_32 => ?_)
            · have c_32 := bI_z1 c_32
              refine lv_iinc (v := 2) (lv' := [(6, .int 2), (5, .int ((16 * (nI jr0)) + (nI ai))), (4, .int (m_ag kd sz jr0 (nI ai) 4)), (0, .ref o), (1, .int (nI js0)), (2, .int (nI jr0)), (3, .int (nI ai))]) hx hb dX5_read_112 hl (k := 0) rfl (by decide) (by decide) rfl (fun ls hl => ?_)
              refine lv_goto (tgt := 87) hx hb dX5_read_115 (by decide) ?_
              refine lv_iload hx hb dX5_read_87 (lv_at hl 0 rfl) ?_
              refine lv_iconst (v := 4) hx hb dX5_read_89 (by decide) ?_
              refine lv_icmp_ge (tgt := 118) hx hb dX5_read_90 (by decide) (fun c_33 => absurd c_33 (by decide)) (fun c_33 => ?_)
              refine lv_aload_n hx hb dX5_read_93 rfl (lv_at hl 3 rfl) ?_
              refine va_get (D := D) (ci := 4) (v := .ref (ad 2)) (C := RX5) (T := TX5) (N := 18) hx hb hts in_X5 hown hK hP 2 rfl rfl 2 (by decide) (hts _ q575) (fun _ h9 => h9) rfl dX5_read_94 ?_
              refine lv_iload hx hb dX5_read_97 (lv_at hl 1 rfl) ?_
              refine lv_iload hx hb dX5_read_99 (lv_at hl 0 rfl) ?_
              refine lv_iadd hx hb dX5_read_101 ?_
              refine va_lald hx hb hK hP 0 2 rfl rfl (vin_nI (a := ((16 * jr0) + ai) + 2) (eq_add (eq_add (eq_mul rfl rfl) rfl) rfl) (by omega) (by omega)) dX5_read_102 ?_
              refine lv_topl (fun z_34 ez_34 => ?_)
              obtain rfl : z_34 = sh (((16 * jr0) + ai) + 2) := ez_34.trans (cl_nI (a := ((16 * jr0) + ai) + 2) sh (eq_add (eq_add (eq_mul rfl rfl) rfl) rfl) (by omega))
              refine k_calli (wr := [(ad 2, aL ca 96 sh), (ad 3, aI ca 64 g), (o, mO ad nf mo), (ad 0, aI ca 6 kd), (ad 1, aI ca 6 sz)]) (va_runS (As := [.long (sh (((16 * jr0) + ai) + 2))]) (rest := []) ⟨hx, hb, hml, hown, hts⟩ (ct_X5_isPart hk l D ca H.size (sh (((16 * jr0) + ai) + 2))) (va_cwS 1 hts (lw_S q664 q665 q24 q666) rfl rfl rfl (by decide +kernel) ⟨Nat.le_of_ble_eq_true rfl, Nat.le_of_ble_eq_true rfl⟩) (k_pre hk hK hN hP hD [] (by decide) rfl trivial) rfl rfl hl.1 rfl (lv_room (Nat.le_of_ble_eq_true rfl)) dX5_read_103 ⟨Nat.le_of_ble_eq_true rfl, Nat.le_of_ble_eq_true rfl⟩) hP hD hS hA [] [0, 1, 2, 3, 4] rfl rfl (by decide) (by decide) (fun r_35 u_36 H locs w_37 hP hD hxw_37 hzw_37 hqw_37 hS => ?_)
              obtain rfl : r_35 = bI (p_in (sh (((16 * jr0) + ai) + 2)) (-20000) 20000) := w_37
              refine lv_if_ne (tgt := 112) hx hb dX5_read_106 (by decide) (fun c_38 => ?_) (fun c_38 => ?_)
              · have c_38 := bI_z1 c_38
                refine lv_iinc (v := 3) (lv' := [(6, .int 3), (5, .int ((16 * (nI jr0)) + (nI ai))), (4, .int (m_ag kd sz jr0 (nI ai) 4)), (0, .ref o), (1, .int (nI js0)), (2, .int (nI jr0)), (3, .int (nI ai))]) hx hb dX5_read_112 hl (k := 0) rfl (by decide) (by decide) rfl (fun ls hl => ?_)
                refine lv_goto (tgt := 87) hx hb dX5_read_115 (by decide) ?_
                refine lv_iload hx hb dX5_read_87 (lv_at hl 0 rfl) ?_
                refine lv_iconst (v := 4) hx hb dX5_read_89 (by decide) ?_
                refine lv_icmp_ge (tgt := 118) hx hb dX5_read_90 (by decide) (fun c_39 => absurd c_39 (by decide)) (fun c_39 => ?_)
                refine lv_aload_n hx hb dX5_read_93 rfl (lv_at hl 3 rfl) ?_
                refine va_get (D := D) (ci := 4) (v := .ref (ad 2)) (C := RX5) (T := TX5) (N := 18) hx hb hts in_X5 hown hK hP 2 rfl rfl 2 (by decide) (hts _ q575) (fun _ h9 => h9) rfl dX5_read_94 ?_
                refine lv_iload hx hb dX5_read_97 (lv_at hl 1 rfl) ?_
                refine lv_iload hx hb dX5_read_99 (lv_at hl 0 rfl) ?_
                refine lv_iadd hx hb dX5_read_101 ?_
                refine va_lald hx hb hK hP 0 2 rfl rfl (vin_nI (a := ((16 * jr0) + ai) + 3) (eq_add (eq_add (eq_mul rfl rfl) rfl) rfl) (by omega) (by omega)) dX5_read_102 ?_
                refine lv_topl (fun z_40 ez_40 => ?_)
                obtain rfl : z_40 = sh (((16 * jr0) + ai) + 3) := ez_40.trans (cl_nI (a := ((16 * jr0) + ai) + 3) sh (eq_add (eq_add (eq_mul rfl rfl) rfl) rfl) (by omega))
                refine k_calli (wr := [(ad 2, aL ca 96 sh), (ad 3, aI ca 64 g), (o, mO ad nf mo), (ad 0, aI ca 6 kd), (ad 1, aI ca 6 sz)]) (va_runS (As := [.long (sh (((16 * jr0) + ai) + 3))]) (rest := []) ⟨hx, hb, hml, hown, hts⟩ (ct_X5_isPart hk l D ca H.size (sh (((16 * jr0) + ai) + 3))) (va_cwS 1 hts (lw_S q664 q665 q24 q666) rfl rfl rfl (by decide +kernel) ⟨Nat.le_of_ble_eq_true rfl, Nat.le_of_ble_eq_true rfl⟩) (k_pre hk hK hN hP hD [] (by decide) rfl trivial) rfl rfl hl.1 rfl (lv_room (Nat.le_of_ble_eq_true rfl)) dX5_read_103 ⟨Nat.le_of_ble_eq_true rfl, Nat.le_of_ble_eq_true rfl⟩) hP hD hS hA [] [0, 1, 2, 3, 4] rfl rfl (by decide) (by decide) (fun r_41 u_42 H locs w_43 hP hD hxw_43 hzw_43 hqw_43 hS => ?_)
                obtain rfl : r_41 = bI (p_in (sh (((16 * jr0) + ai) + 3)) (-20000) 20000) := w_43
                refine lv_if_ne (tgt := 112) hx hb dX5_read_106 (by decide) (fun c_44 => ?_) (fun c_44 => ?_)
                · have c_44 := bI_z1 c_44
                  refine lv_iinc (v := 4) (lv' := [(6, .int 4), (5, .int ((16 * (nI jr0)) + (nI ai))), (4, .int (m_ag kd sz jr0 (nI ai) 4)), (0, .ref o), (1, .int (nI js0)), (2, .int (nI jr0)), (3, .int (nI ai))]) hx hb dX5_read_112 hl (k := 0) rfl (by decide) (by decide) rfl (fun ls hl => ?_)
                  refine lv_goto (tgt := 87) hx hb dX5_read_115 (by decide) ?_
                  refine lv_iload hx hb dX5_read_87 (lv_at hl 0 rfl) ?_
                  refine lv_iconst (v := 4) hx hb dX5_read_89 (by decide) ?_
                  refine lv_icmp_ge (tgt := 118) hx hb dX5_read_90 (by decide) (fun c_45 => ?_) (fun c_45 => absurd (by decide) c_45)
                  refine lv_iconst (v := 0) hx hb dX5_read_118 (by decide) ?_
                  refine lv_istore (lv' := [(6, .int 0), (5, .int ((16 * (nI jr0)) + (nI ai))), (4, .int (m_ag kd sz jr0 (nI ai) 4)), (0, .ref o), (1, .int (nI js0)), (2, .int (nI jr0)), (3, .int (nI ai))]) hx hb dX5_read_119 hl (by decide) rfl (fun ls hl => ?_)
                  refine lv_iload hx hb dX5_read_121 (lv_at hl 0 rfl) ?_
                  refine lv_iconst (v := 4) hx hb dX5_read_123 (by decide) ?_
                  refine lv_icmp_ge (tgt := 155) hx hb dX5_read_124 (by decide) (fun c_46 => absurd c_46 (by decide)) (fun c_46 => ?_)
                  refine lv_aload_n hx hb dX5_read_127 rfl (lv_at hl 3 rfl) ?_
                  refine va_get (D := D) (ci := 4) (v := .ref (ad 3)) (C := RX5) (T := TX5) (N := 18) hx hb hts in_X5 hown hK hP 2 rfl rfl 3 (by decide) (hts _ q576) (fun _ h9 => h9) rfl dX5_read_128 ?_
                  refine lv_iconst (v := 4) hx hb dX5_read_131 (by decide) ?_
                  refine lv_iload_n hx hb dX5_read_132 rfl (lv_at hl 4 rfl) ?_
                  refine lv_imul hx hb dX5_read_133 ?_
                  refine lv_iload hx hb dX5_read_134 (lv_at hl 0 rfl) ?_
                  refine lv_iadd hx hb dX5_read_136 ?_
                  refine lv_aload_n hx hb dX5_read_137 rfl (lv_at hl 3 rfl) ?_
                  refine va_get (D := D) (ci := 4) (v := .ref (ad 2)) (C := RX5) (T := TX5) (N := 18) hx hb hts in_X5 hown hK hP 2 rfl rfl 2 (by decide) (hts _ q575) (fun _ h9 => h9) rfl dX5_read_138 ?_
                  refine lv_iload hx hb dX5_read_141 (lv_at hl 1 rfl) ?_
                  refine lv_iload hx hb dX5_read_143 (lv_at hl 0 rfl) ?_
                  refine lv_iadd hx hb dX5_read_145 ?_
                  refine va_lald hx hb hK hP 0 2 rfl rfl (vin_nI (a := (16 * jr0) + ai) (eq_add0 (eq_add (eq_mul rfl rfl) rfl)) (by omega) (by omega)) dX5_read_146 ?_
                  refine lv_topl (fun z_47 ez_47 => ?_)
                  obtain rfl : z_47 = sh ((16 * jr0) + ai) := ez_47.trans (cl_nI (a := (16 * jr0) + ai) sh (eq_add0 (eq_add (eq_mul rfl rfl) rfl)) (by omega))
                  refine lv_l2i (v := (sh ((16 * jr0) + ai)).toInt32) hx hb dX5_read_147 rfl ?_
                  refine va_iast hx hb hK hP hD hS 1 1 rfl rfl (vin_nI (a := 4 * js0) (eq_add0 (eq_mul rfl rfl)) (by omega) (by omega)) dX5_read_148 (fun H locs hP hD hS => ?_)
                  rw [cn_nI (i := (4 * (nI js0)) + 0) (a := 4 * js0) (eq_add0 (eq_mul rfl rfl)) (by omega)] at hP hD
                  have hP : va_P D vwCl [(ad 2, aL ca 96 sh), (ad 3, aI ca 64 (upd g (4 * js0) ((sh ((16 * jr0) + ai)).toInt32))), (o, mO ad nf mo), (ad 0, aI ca 6 kd), (ad 1, aI ca 6 sz)] H := hP
                  have hD : va_D A [(ad 2, aL ca 96 sh), (ad 3, aI ca 64 (upd g (4 * js0) ((sh ((16 * jr0) + ai)).toInt32))), (o, mO ad nf mo), (ad 0, aI ca 6 kd), (ad 1, aI ca 6 sz)] := hD
                  refine lv_iinc (v := 1) (lv' := [(6, .int 1), (5, .int ((16 * (nI jr0)) + (nI ai))), (4, .int (m_ag kd sz jr0 (nI ai) 4)), (0, .ref o), (1, .int (nI js0)), (2, .int (nI jr0)), (3, .int (nI ai))]) hx hb dX5_read_149 hl (k := 0) rfl (by decide) (by decide) rfl (fun ls hl => ?_)
                  refine lv_goto (tgt := 121) hx hb dX5_read_152 (by decide) ?_
                  refine lv_iload hx hb dX5_read_121 (lv_at hl 0 rfl) ?_
                  refine lv_iconst (v := 4) hx hb dX5_read_123 (by decide) ?_
                  refine lv_icmp_ge (tgt := 155) hx hb dX5_read_124 (by decide) (fun c_48 => absurd c_48 (by decide)) (fun c_48 => ?_)
                  refine lv_aload_n hx hb dX5_read_127 rfl (lv_at hl 3 rfl) ?_
                  refine va_get (D := D) (ci := 4) (v := .ref (ad 3)) (C := RX5) (T := TX5) (N := 18) hx hb hts in_X5 hown hK hP 2 rfl rfl 3 (by decide) (hts _ q576) (fun _ h9 => h9) rfl dX5_read_128 ?_
                  refine lv_iconst (v := 4) hx hb dX5_read_131 (by decide) ?_
                  refine lv_iload_n hx hb dX5_read_132 rfl (lv_at hl 4 rfl) ?_
                  refine lv_imul hx hb dX5_read_133 ?_
                  refine lv_iload hx hb dX5_read_134 (lv_at hl 0 rfl) ?_
                  refine lv_iadd hx hb dX5_read_136 ?_
                  refine lv_aload_n hx hb dX5_read_137 rfl (lv_at hl 3 rfl) ?_
                  refine va_get (D := D) (ci := 4) (v := .ref (ad 2)) (C := RX5) (T := TX5) (N := 18) hx hb hts in_X5 hown hK hP 2 rfl rfl 2 (by decide) (hts _ q575) (fun _ h9 => h9) rfl dX5_read_138 ?_
                  refine lv_iload hx hb dX5_read_141 (lv_at hl 1 rfl) ?_
                  refine lv_iload hx hb dX5_read_143 (lv_at hl 0 rfl) ?_
                  refine lv_iadd hx hb dX5_read_145 ?_
                  refine va_lald hx hb hK hP 0 2 rfl rfl (vin_nI (a := ((16 * jr0) + ai) + 1) (eq_add (eq_add (eq_mul rfl rfl) rfl) rfl) (by omega) (by omega)) dX5_read_146 ?_
                  refine lv_topl (fun z_49 ez_49 => ?_)
                  obtain rfl : z_49 = sh (((16 * jr0) + ai) + 1) := ez_49.trans (cl_nI (a := ((16 * jr0) + ai) + 1) sh (eq_add (eq_add (eq_mul rfl rfl) rfl) rfl) (by omega))
                  refine lv_l2i (v := (sh (((16 * jr0) + ai) + 1)).toInt32) hx hb dX5_read_147 rfl ?_
                  refine va_iast hx hb hK hP hD hS 1 1 rfl rfl (vin_nI (a := (4 * js0) + 1) (eq_add (eq_mul rfl rfl) rfl) (by omega) (by omega)) dX5_read_148 (fun H locs hP hD hS => ?_)
                  rw [cn_nI (i := (4 * (nI js0)) + 1) (a := (4 * js0) + 1) (eq_add (eq_mul rfl rfl) rfl) (by omega)] at hP hD
                  have hP : va_P D vwCl [(ad 2, aL ca 96 sh), (ad 3, aI ca 64 (upd (upd g (4 * js0) ((sh ((16 * jr0) + ai)).toInt32)) ((4 * js0) + 1) ((sh (((16 * jr0) + ai) + 1)).toInt32))), (o, mO ad nf mo), (ad 0, aI ca 6 kd), (ad 1, aI ca 6 sz)] H := hP
                  have hD : va_D A [(ad 2, aL ca 96 sh), (ad 3, aI ca 64 (upd (upd g (4 * js0) ((sh ((16 * jr0) + ai)).toInt32)) ((4 * js0) + 1) ((sh (((16 * jr0) + ai) + 1)).toInt32))), (o, mO ad nf mo), (ad 0, aI ca 6 kd), (ad 1, aI ca 6 sz)] := hD
                  refine lv_iinc (v := 2) (lv' := [(6, .int 2), (5, .int ((16 * (nI jr0)) + (nI ai))), (4, .int (m_ag kd sz jr0 (nI ai) 4)), (0, .ref o), (1, .int (nI js0)), (2, .int (nI jr0)), (3, .int (nI ai))]) hx hb dX5_read_149 hl (k := 0) rfl (by decide) (by decide) rfl (fun ls hl => ?_)
                  refine lv_goto (tgt := 121) hx hb dX5_read_152 (by decide) ?_
                  refine lv_iload hx hb dX5_read_121 (lv_at hl 0 rfl) ?_
                  refine lv_iconst (v := 4) hx hb dX5_read_123 (by decide) ?_
                  refine lv_icmp_ge (tgt := 155) hx hb dX5_read_124 (by decide) (fun c_50 => absurd c_50 (by decide)) (fun c_50 => ?_)
                  refine lv_aload_n hx hb dX5_read_127 rfl (lv_at hl 3 rfl) ?_
                  refine va_get (D := D) (ci := 4) (v := .ref (ad 3)) (C := RX5) (T := TX5) (N := 18) hx hb hts in_X5 hown hK hP 2 rfl rfl 3 (by decide) (hts _ q576) (fun _ h9 => h9) rfl dX5_read_128 ?_
                  refine lv_iconst (v := 4) hx hb dX5_read_131 (by decide) ?_
                  refine lv_iload_n hx hb dX5_read_132 rfl (lv_at hl 4 rfl) ?_
                  refine lv_imul hx hb dX5_read_133 ?_
                  refine lv_iload hx hb dX5_read_134 (lv_at hl 0 rfl) ?_
                  refine lv_iadd hx hb dX5_read_136 ?_
                  refine lv_aload_n hx hb dX5_read_137 rfl (lv_at hl 3 rfl) ?_
                  refine va_get (D := D) (ci := 4) (v := .ref (ad 2)) (C := RX5) (T := TX5) (N := 18) hx hb hts in_X5 hown hK hP 2 rfl rfl 2 (by decide) (hts _ q575) (fun _ h9 => h9) rfl dX5_read_138 ?_
                  refine lv_iload hx hb dX5_read_141 (lv_at hl 1 rfl) ?_
                  refine lv_iload hx hb dX5_read_143 (lv_at hl 0 rfl) ?_
                  refine lv_iadd hx hb dX5_read_145 ?_
                  refine va_lald hx hb hK hP 0 2 rfl rfl (vin_nI (a := ((16 * jr0) + ai) + 2) (eq_add (eq_add (eq_mul rfl rfl) rfl) rfl) (by omega) (by omega)) dX5_read_146 ?_
                  refine lv_topl (fun z_51 ez_51 => ?_)
                  obtain rfl : z_51 = sh (((16 * jr0) + ai) + 2) := ez_51.trans (cl_nI (a := ((16 * jr0) + ai) + 2) sh (eq_add (eq_add (eq_mul rfl rfl) rfl) rfl) (by omega))
                  refine lv_l2i (v := (sh (((16 * jr0) + ai) + 2)).toInt32) hx hb dX5_read_147 rfl ?_
                  refine va_iast hx hb hK hP hD hS 1 1 rfl rfl (vin_nI (a := (4 * js0) + 2) (eq_add (eq_mul rfl rfl) rfl) (by omega) (by omega)) dX5_read_148 (fun H locs hP hD hS => ?_)
                  rw [cn_nI (i := (4 * (nI js0)) + 2) (a := (4 * js0) + 2) (eq_add (eq_mul rfl rfl) rfl) (by omega)] at hP hD
                  have hP : va_P D vwCl [(ad 2, aL ca 96 sh), (ad 3, aI ca 64 (upd (upd (upd g (4 * js0) ((sh ((16 * jr0) + ai)).toInt32)) ((4 * js0) + 1) ((sh (((16 * jr0) + ai) + 1)).toInt32)) ((4 * js0) + 2) ((sh (((16 * jr0) + ai) + 2)).toInt32))), (o, mO ad nf mo), (ad 0, aI ca 6 kd), (ad 1, aI ca 6 sz)] H := hP
                  have hD : va_D A [(ad 2, aL ca 96 sh), (ad 3, aI ca 64 (upd (upd (upd g (4 * js0) ((sh ((16 * jr0) + ai)).toInt32)) ((4 * js0) + 1) ((sh (((16 * jr0) + ai) + 1)).toInt32)) ((4 * js0) + 2) ((sh (((16 * jr0) + ai) + 2)).toInt32))), (o, mO ad nf mo), (ad 0, aI ca 6 kd), (ad 1, aI ca 6 sz)] := hD
                  refine lv_iinc (v := 3) (lv' := [(6, .int 3), (5, .int ((16 * (nI jr0)) + (nI ai))), (4, .int (m_ag kd sz jr0 (nI ai) 4)), (0, .ref o), (1, .int (nI js0)), (2, .int (nI jr0)), (3, .int (nI ai))]) hx hb dX5_read_149 hl (k := 0) rfl (by decide) (by decide) rfl (fun ls hl => ?_)
                  refine lv_goto (tgt := 121) hx hb dX5_read_152 (by decide) ?_
                  refine lv_iload hx hb dX5_read_121 (lv_at hl 0 rfl) ?_
                  refine lv_iconst (v := 4) hx hb dX5_read_123 (by decide) ?_
                  refine lv_icmp_ge (tgt := 155) hx hb dX5_read_124 (by decide) (fun c_52 => absurd c_52 (by decide)) (fun c_52 => ?_)
                  refine lv_aload_n hx hb dX5_read_127 rfl (lv_at hl 3 rfl) ?_
                  refine va_get (D := D) (ci := 4) (v := .ref (ad 3)) (C := RX5) (T := TX5) (N := 18) hx hb hts in_X5 hown hK hP 2 rfl rfl 3 (by decide) (hts _ q576) (fun _ h9 => h9) rfl dX5_read_128 ?_
                  refine lv_iconst (v := 4) hx hb dX5_read_131 (by decide) ?_
                  refine lv_iload_n hx hb dX5_read_132 rfl (lv_at hl 4 rfl) ?_
                  refine lv_imul hx hb dX5_read_133 ?_
                  refine lv_iload hx hb dX5_read_134 (lv_at hl 0 rfl) ?_
                  refine lv_iadd hx hb dX5_read_136 ?_
                  refine lv_aload_n hx hb dX5_read_137 rfl (lv_at hl 3 rfl) ?_
                  refine va_get (D := D) (ci := 4) (v := .ref (ad 2)) (C := RX5) (T := TX5) (N := 18) hx hb hts in_X5 hown hK hP 2 rfl rfl 2 (by decide) (hts _ q575) (fun _ h9 => h9) rfl dX5_read_138 ?_
                  refine lv_iload hx hb dX5_read_141 (lv_at hl 1 rfl) ?_
                  refine lv_iload hx hb dX5_read_143 (lv_at hl 0 rfl) ?_
                  refine lv_iadd hx hb dX5_read_145 ?_
                  refine va_lald hx hb hK hP 0 2 rfl rfl (vin_nI (a := ((16 * jr0) + ai) + 3) (eq_add (eq_add (eq_mul rfl rfl) rfl) rfl) (by omega) (by omega)) dX5_read_146 ?_
                  refine lv_topl (fun z_53 ez_53 => ?_)
                  obtain rfl : z_53 = sh (((16 * jr0) + ai) + 3) := ez_53.trans (cl_nI (a := ((16 * jr0) + ai) + 3) sh (eq_add (eq_add (eq_mul rfl rfl) rfl) rfl) (by omega))
                  refine lv_l2i (v := (sh (((16 * jr0) + ai) + 3)).toInt32) hx hb dX5_read_147 rfl ?_
                  refine va_iast hx hb hK hP hD hS 1 1 rfl rfl (vin_nI (a := (4 * js0) + 3) (eq_add (eq_mul rfl rfl) rfl) (by omega) (by omega)) dX5_read_148 (fun H locs hP hD hS => ?_)
                  rw [cn_nI (i := (4 * (nI js0)) + 3) (a := (4 * js0) + 3) (eq_add (eq_mul rfl rfl) rfl) (by omega)] at hP hD
                  have hP : va_P D vwCl [(ad 2, aL ca 96 sh), (ad 3, aI ca 64 (upd (upd (upd (upd g (4 * js0) ((sh ((16 * jr0) + ai)).toInt32)) ((4 * js0) + 1) ((sh (((16 * jr0) + ai) + 1)).toInt32)) ((4 * js0) + 2) ((sh (((16 * jr0) + ai) + 2)).toInt32)) ((4 * js0) + 3) ((sh (((16 * jr0) + ai) + 3)).toInt32))), (o, mO ad nf mo), (ad 0, aI ca 6 kd), (ad 1, aI ca 6 sz)] H := hP
                  have hD : va_D A [(ad 2, aL ca 96 sh), (ad 3, aI ca 64 (upd (upd (upd (upd g (4 * js0) ((sh ((16 * jr0) + ai)).toInt32)) ((4 * js0) + 1) ((sh (((16 * jr0) + ai) + 1)).toInt32)) ((4 * js0) + 2) ((sh (((16 * jr0) + ai) + 2)).toInt32)) ((4 * js0) + 3) ((sh (((16 * jr0) + ai) + 3)).toInt32))), (o, mO ad nf mo), (ad 0, aI ca 6 kd), (ad 1, aI ca 6 sz)] := hD
                  refine lv_iinc (v := 4) (lv' := [(6, .int 4), (5, .int ((16 * (nI jr0)) + (nI ai))), (4, .int (m_ag kd sz jr0 (nI ai) 4)), (0, .ref o), (1, .int (nI js0)), (2, .int (nI jr0)), (3, .int (nI ai))]) hx hb dX5_read_149 hl (k := 0) rfl (by decide) (by decide) rfl (fun ls hl => ?_)
                  refine lv_goto (tgt := 121) hx hb dX5_read_152 (by decide) ?_
                  refine lv_iload hx hb dX5_read_121 (lv_at hl 0 rfl) ?_
                  refine lv_iconst (v := 4) hx hb dX5_read_123 (by decide) ?_
                  refine lv_icmp_ge (tgt := 155) hx hb dX5_read_124 (by decide) (fun c_54 => ?_) (fun c_54 => absurd (by decide) c_54)
                  refine lv_iconst (v := 0) hx hb dX5_read_155 (by decide) ?_
                  exact k_iret (upd (upd (upd (upd g (4 * js0) ((sh ((16 * jr0) + ai)).toInt32)) ((4 * js0) + 1) ((sh (((16 * jr0) + ai) + 1)).toInt32)) ((4 * js0) + 2) ((sh (((16 * jr0) + ai) + 2)).toInt32)) ((4 * js0) + 3) ((sh (((16 * jr0) + ai) + 3)).toInt32)) hx hb hr hlocks (by simp [m_read, c_4, c_8, c_12, c_20, c_26, c_32, c_38, c_44, nI_clamp (show js0 < 2 ^ 31 by omega), nI_clamp (show jr0 < 2 ^ 31 by omega), nI_clamp (show ai < 2 ^ 31 by omega), q_one, q_low, sq4, wq]) (hP.sub [2, 3, 4, 0, 1] rfl) (hD.sub [2, 3, 4, 0, 1] (by decide) rfl) trivial hS (Nat.le_of_ble_eq_true rfl) (Nat.le_of_ble_eq_true rfl) dX5_read_156
                · have c_44 := bI_z0 c_44
                  refine lv_bipush (v := (-16)) hx hb dX5_read_109 (by decide) ?_
                  exact k_iret g hx hb hr hlocks (by simp [m_read, c_4, c_8, c_12, c_20, c_26, c_32, c_38, c_44, nI_clamp (show js0 < 2 ^ 31 by omega), nI_clamp (show jr0 < 2 ^ 31 by omega), nI_clamp (show ai < 2 ^ 31 by omega), q_one, q_low, sq4, wq]) (hP.sub [2, 3, 4, 0, 1] rfl) (hD.sub [2, 3, 4, 0, 1] (by decide) rfl) trivial hS (Nat.le_of_ble_eq_true rfl) (Nat.le_of_ble_eq_true rfl) dX5_read_111
              · have c_38 := bI_z0 c_38
                refine lv_bipush (v := (-16)) hx hb dX5_read_109 (by decide) ?_
                exact k_iret g hx hb hr hlocks (by simp [m_read, c_4, c_8, c_12, c_20, c_26, c_32, c_38, nI_clamp (show js0 < 2 ^ 31 by omega), nI_clamp (show jr0 < 2 ^ 31 by omega), nI_clamp (show ai < 2 ^ 31 by omega), q_one, q_low, sq4, wq]) (hP.sub [2, 3, 4, 0, 1] rfl) (hD.sub [2, 3, 4, 0, 1] (by decide) rfl) trivial hS (Nat.le_of_ble_eq_true rfl) (Nat.le_of_ble_eq_true rfl) dX5_read_111
            · have c_32 := bI_z0 c_32
              refine lv_bipush (v := (-16)) hx hb dX5_read_109 (by decide) ?_
              exact k_iret g hx hb hr hlocks (by simp [m_read, c_4, c_8, c_12, c_20, c_26, c_32, nI_clamp (show js0 < 2 ^ 31 by omega), nI_clamp (show jr0 < 2 ^ 31 by omega), nI_clamp (show ai < 2 ^ 31 by omega), q_one, q_low, sq4, wq]) (hP.sub [2, 3, 4, 0, 1] rfl) (hD.sub [2, 3, 4, 0, 1] (by decide) rfl) trivial hS (Nat.le_of_ble_eq_true rfl) (Nat.le_of_ble_eq_true rfl) dX5_read_111
          · have c_26 := bI_z0 c_26
            refine lv_bipush (v := (-16)) hx hb dX5_read_109 (by decide) ?_
            exact k_iret g hx hb hr hlocks (by simp [m_read, c_4, c_8, c_12, c_20, c_26, nI_clamp (show js0 < 2 ^ 31 by omega), nI_clamp (show jr0 < 2 ^ 31 by omega), nI_clamp (show ai < 2 ^ 31 by omega), q_one, q_low, sq4, wq]) (hP.sub [2, 3, 4, 0, 1] rfl) (hD.sub [2, 3, 4, 0, 1] (by decide) rfl) trivial hS (Nat.le_of_ble_eq_true rfl) (Nat.le_of_ble_eq_true rfl) dX5_read_111
        · have c_20 := bI_z0 c_20
          refine lv_bipush (v := (-15)) hx hb dX5_read_81 (by decide) ?_
          exact k_iret g hx hb hr hlocks (by simp [m_read, c_4, c_8, c_12, c_20, nI_clamp (show js0 < 2 ^ 31 by omega), nI_clamp (show jr0 < 2 ^ 31 by omega), nI_clamp (show ai < 2 ^ 31 by omega), q_one, q_low, sq4, wq]) (hP.sub [2, 3, 4, 0, 1] rfl) (hD.sub [2, 3, 4, 0, 1] (by decide) rfl) trivial hS (Nat.le_of_ble_eq_true rfl) (Nat.le_of_ble_eq_true rfl) dX5_read_83
      · refine lv_iload hx hb dX5_read_30 (lv_at hl 0 rfl) ?_
        exact k_iret g hx hb hr hlocks (by simp [m_read, c_4, c_8, c_12, nI_clamp (show js0 < 2 ^ 31 by omega), nI_clamp (show jr0 < 2 ^ 31 by omega), q_one, q_low, sq4, wq]) (hP.sub [2, 3, 4, 0, 1] rfl) (hD.sub [2, 3, 4, 0, 1] (by decide) rfl) trivial hS (Nat.le_of_ble_eq_true rfl) (Nat.le_of_ble_eq_true rfl) dX5_read_32
    · have c_8 := bI_z0 c_8
      refine lv_iconst (v := (-1)) hx hb dX5_read_14 (by decide) ?_
      exact k_iret g hx hb hr hlocks (by simp [m_read, c_4, c_8, nI_clamp (show js0 < 2 ^ 31 by omega), q_one, q_low, sq4, wq]) hP hD trivial hS (Nat.le_of_ble_eq_true rfl) (Nat.le_of_ble_eq_true rfl) dX5_read_15
set_option maxHeartbeats 4000000 in
set_option maxRecDepth 100000 in
theorem ct_X5_write {KN : State → Prop} (hk : KNok KN) (l : Launch) (D : va_G) (ca : Nat → ClassId) (zH : Nat) (o : Nat) (ad : Nat → Nat) (nf mo : Int32) (kd sz : AI) (sh : AL) (g : AI) (s0 r0 i0 : Int32) (hz : okS sz) : Met l yX5_write (ws_ yX5_write cX5_write 6 (some .int)) ({ frames := 2, cells := 0, slots := 0, locals := 45 }) (va_Pc [.ref o, .int s0, .int r0, .int i0] (pr_ KN D ca [(o, mO ad nf mo), (ad 0, aI ca 6 kd), (ad 1, aI ca 6 sz), (ad 2, aL ca 96 sh), (ad 3, aI ca 64 g)] zH (fun _ => True))) (qI D (fun (r : Int32) (u : AL) => (r, u) = m_write kd sz sh g s0 r0 i0) (fun u => [(o, mO ad nf mo), (ad 0, aI ca 6 kd), (ad 1, aI ca 6 sz), (ad 2, aL ca 96 u), (ad 3, aI ca 64 g)]) (fun u H => True) (va_A [(o, mO ad nf mo), (ad 0, aI ca 6 kd), (ad 1, aI ca 6 sz), (ad 2, aL ca 96 sh), (ad 3, aI ca 64 g)] zH)) 0 0 (va_A [(o, mO ad nf mo), (ad 0, aI ca 6 kd), (ad 1, aI ca 6 sz), (ad 2, aL ca 96 sh), (ad 3, aI ca 64 g)] zH) := by
  refine k_ofW (Qc := qI D (fun (r : Int32) (u : AL) => (r, u) = m_write kd sz sh g s0 r0 i0) (fun u => [(o, mO ad nf mo), (ad 0, aI ca 6 kd), (ad 1, aI ca 6 sz), (ad 2, aL ca 96 u), (ad 3, aI ca 64 g)]) (fun u H => True)) (by decide) (Nat.le_of_ble_eq_true rfl) ?_
  intro p e s m below meth c ls A H hH hx hb hr hts hown hlocks hnm hml hsz hP hD hK hN hA hAn hS hro hl
  have hl : lv_has ls 6 [(0, .ref o), (1, .int s0), (2, .int r0), (3, .int i0)] := hl
  refine lv_iload_n hx hb dX5_write_0 rfl (lv_at hl 1 rfl) ?_
  refine k_calli (wr := [(o, mO ad nf mo), (ad 0, aI ca 6 kd), (ad 1, aI ca 6 sz), (ad 2, aL ca 96 sh), (ad 3, aI ca 64 g)]) (va_runS (As := [.int s0]) (rest := []) ⟨hx, hb, hml, hown, hts⟩ (ct_X5_isRegister hk l D ca H.size s0) (va_cwS 1 hts (lw_S q660 q661 q24 q662) rfl rfl rfl (by decide +kernel) ⟨Nat.le_of_ble_eq_true rfl, Nat.le_of_ble_eq_true rfl⟩) (k_pre hk hK hN hP hD [] (by decide) rfl trivial) rfl rfl hl.1 rfl (lv_room (Nat.le_of_ble_eq_true rfl)) dX5_write_1 ⟨Nat.le_of_ble_eq_true rfl, Nat.le_of_ble_eq_true rfl⟩) hP hD hS hA [] [0, 1, 2, 3, 4] rfl rfl (by decide) (by decide) (fun r_1 u_2 H locs w_3 hP hD hxw_3 hzw_3 hqw_3 hS => ?_)
  obtain rfl : r_1 = bI (p_in s0.toInt64 0 15) := w_3
  refine lv_if_eq (tgt := 14) hx hb dX5_write_4 (by decide) (fun c_4 => ?_) (fun c_4 => ?_)
  · have c_4 := bI_z0 c_4
    refine lv_iconst (v := (-1)) hx hb dX5_write_14 (by decide) ?_
    exact k_iret sh hx hb hr hlocks (by simp [m_write, c_4, w4, c4, rq]) hP hD trivial hS (Nat.le_of_ble_eq_true rfl) (Nat.le_of_ble_eq_true rfl) dX5_write_15
  · have c_4 := bI_z1 c_4
    obtain ⟨js0, hjs0, rfl⟩ := in_nI (n := 16) (by decide) c_4
    refine lv_iload_n hx hb dX5_write_7 rfl (lv_at hl 2 rfl) ?_
    refine k_calli (wr := [(o, mO ad nf mo), (ad 0, aI ca 6 kd), (ad 1, aI ca 6 sz), (ad 2, aL ca 96 sh), (ad 3, aI ca 64 g)]) (va_runS (As := [.int r0]) (rest := []) ⟨hx, hb, hml, hown, hts⟩ (ct_X5_isSheet hk l D ca H.size r0) (va_cwS 1 hts (lw_S q631 q632 q24 q633) rfl rfl rfl (by decide +kernel) ⟨Nat.le_of_ble_eq_true rfl, Nat.le_of_ble_eq_true rfl⟩) (k_pre hk hK hN hP hD [] (by decide) rfl trivial) rfl rfl hl.1 rfl (lv_room (Nat.le_of_ble_eq_true rfl)) dX5_write_8 ⟨Nat.le_of_ble_eq_true rfl, Nat.le_of_ble_eq_true rfl⟩) hP hD hS hA [] [0, 1, 2, 3, 4] rfl rfl (by decide) (by decide) (fun r_5 u_6 H locs w_7 hP hD hxw_7 hzw_7 hqw_7 hS => ?_)
    obtain rfl : r_5 = bI (p_in r0.toInt64 0 5) := w_7
    refine lv_if_ne (tgt := 16) hx hb dX5_write_11 (by decide) (fun c_8 => ?_) (fun c_8 => ?_)
    · have c_8 := bI_z1 c_8
      obtain ⟨jr0, hjr0, rfl⟩ := in_nI (n := 6) (by decide) c_8
      refine lv_aload_n hx hb dX5_write_16 rfl (lv_at hl 0 rfl) ?_
      refine lv_iload_n hx hb dX5_write_17 rfl (lv_at hl 2 rfl) ?_
      refine lv_iload_n hx hb dX5_write_18 rfl (lv_at hl 3 rfl) ?_
      refine lv_iconst (v := 4) hx hb dX5_write_19 (by decide) ?_
      refine k_calli (wr := [(ad 2, aL ca 96 sh), (ad 3, aI ca 64 g)]) (va_runV (As := [.int (nI jr0), .int i0, .int 4]) (rest := []) ⟨hx, hb, hml, hown, hts⟩ (ct_X5_against hk l D ca H.size o ad nf mo kd sz jr0 i0 4 (by omega)) (cwV 3 hts (lw_V q644 q646 qs6 q24 q647) rfl rfl rfl (by decide +kernel) ⟨Nat.le_of_ble_eq_true rfl, Nat.le_of_ble_eq_true rfl⟩) (k_preV hk hK hN hP hD [0, 1, 2] (by decide) rfl trivial hP rfl (q0 := 0) rfl) rfl rfl hl.1 rfl (lv_room (Nat.le_of_ble_eq_true rfl)) dX5_write_20 ⟨Nat.le_of_ble_eq_true rfl, Nat.le_of_ble_eq_true rfl⟩) hP hD hS hA [0, 1, 2] [3, 4] rfl rfl (by decide) (by decide) (fun r_9 u_10 H locs w_11 hP hD hxw_11 hzw_11 hqw_11 hS => ?_)
      have hP : va_P D vwCl [(ad 2, aL ca 96 sh), (ad 3, aI ca 64 g), (o, mO ad nf mo), (ad 0, aI ca 6 kd), (ad 1, aI ca 6 sz)] H := hP
      have hD : va_D A [(ad 2, aL ca 96 sh), (ad 3, aI ca 64 g), (o, mO ad nf mo), (ad 0, aI ca 6 kd), (ad 1, aI ca 6 sz)] := hD
      obtain rfl : r_9 = m_ag kd sz jr0 i0 4 := w_11
      refine lv_istore (lv' := [(4, .int (m_ag kd sz jr0 i0 4)), (0, .ref o), (1, .int (nI js0)), (2, .int (nI jr0)), (3, .int i0)]) hx hb dX5_write_23 hl (by decide) rfl (fun ls hl => ?_)
      refine lv_iconst (v := 0) hx hb dX5_write_25 (by decide) ?_
      refine lv_istore (lv' := [(5, .int 0), (4, .int (m_ag kd sz jr0 i0 4)), (0, .ref o), (1, .int (nI js0)), (2, .int (nI jr0)), (3, .int i0)]) hx hb dX5_write_26 hl (by decide) rfl (fun ls hl => ?_)
      refine lv_iload hx hb dX5_write_28 (lv_at hl 0 rfl) ?_
      refine lv_iconst (v := 4) hx hb dX5_write_30 (by decide) ?_
      refine lv_icmp_ge (tgt := 76) hx hb dX5_write_31 (by decide) (fun c_12 => absurd c_12 (by decide)) (fun c_12 => ?_)
      refine lv_iload hx hb dX5_write_34 (lv_at hl 1 rfl) ?_
      refine lv_if_ne (tgt := 76) hx hb dX5_write_36 (by decide) (fun c_13 => ?_) (fun c_13 => ?_)
      · refine lv_iload hx hb dX5_write_76 (lv_at hl 1 rfl) ?_
        exact k_iret sh hx hb hr hlocks (by simp [m_write, c_4, c_8, c_13, nI_clamp (show js0 < 2 ^ 31 by omega), nI_clamp (show jr0 < 2 ^ 31 by omega), w4, c4, rq]) (hP.sub [2, 3, 4, 0, 1] rfl) (hD.sub [2, 3, 4, 0, 1] (by decide) rfl) trivial hS (Nat.le_of_ble_eq_true rfl) (Nat.le_of_ble_eq_true rfl) dX5_write_78
      · obtain ⟨ai, rfl, hai, -, hai2, hai3⟩ := ag_0 (n := 4) hz hjr0 (by decide) c_13
        refine lv_aload_n hx hb dX5_write_39 rfl (lv_at hl 2 rfl) ?_
        refine va_get (D := D) (ci := 4) (v := .ref (ad 2)) (C := RX5) (T := TX5) (N := 18) hx hb hts in_X5 hown hK hP 2 rfl rfl 2 (by decide) (hts _ q575) (fun _ h9 => h9) rfl dX5_write_40 ?_
        refine lv_bipush (v := 16) hx hb dX5_write_43 (by decide) ?_
        refine lv_iload_n hx hb dX5_write_45 rfl (lv_at hl 4 rfl) ?_
        refine lv_imul hx hb dX5_write_46 ?_
        refine lv_iload_n hx hb dX5_write_47 rfl (lv_at hl 5 rfl) ?_
        refine lv_iadd hx hb dX5_write_48 ?_
        refine lv_iload hx hb dX5_write_49 (lv_at hl 0 rfl) ?_
        refine lv_iadd hx hb dX5_write_51 ?_
        refine lv_aload_n hx hb dX5_write_52 rfl (lv_at hl 2 rfl) ?_
        refine lv_iload_n hx hb dX5_write_53 rfl (lv_at hl 4 rfl) ?_
        refine lv_aload_n hx hb dX5_write_54 rfl (lv_at hl 2 rfl) ?_
        refine va_get (D := D) (ci := 4) (v := .ref (ad 3)) (C := RX5) (T := TX5) (N := 18) hx hb hts in_X5 hown hK hP 2 rfl rfl 3 (by decide) (hts _ q576) (fun _ h9 => h9) rfl dX5_write_55 ?_
        refine lv_iconst (v := 4) hx hb dX5_write_58 (by decide) ?_
        refine lv_iload_n hx hb dX5_write_59 rfl (lv_at hl 3 rfl) ?_
        refine lv_imul hx hb dX5_write_60 ?_
        refine lv_iload hx hb dX5_write_61 (lv_at hl 0 rfl) ?_
        refine lv_iadd hx hb dX5_write_63 ?_
        refine va_iald hx hb hK hP 1 1 rfl rfl (vin_nI (a := 4 * js0) (eq_add0 (eq_mul rfl rfl)) (by omega) (by omega)) dX5_write_64 ?_
        refine lv_topi (fun z_14 ez_14 => ?_)
        obtain rfl : z_14 = g (4 * js0) := ez_14.trans (cl_nI (a := 4 * js0) g (eq_add0 (eq_mul rfl rfl)) (by omega))
        refine lv_i2l (v := (g (4 * js0)).toInt64) hx hb dX5_write_65 rfl ?_
        refine k_calll (wr := [(ad 2, aL ca 96 sh), (ad 3, aI ca 64 g), (ad 1, aI ca 6 sz)]) (va_runV (As := [.int (nI jr0), .long ((g (4 * js0)).toInt64)]) (rest := [.int (((16 * (nI jr0)) + (nI ai)) + 0), .ref (ad 2)]) ⟨hx, hb, hml, hown, hts⟩ (ct_X5_cut hk l D ca H.size o ad nf mo kd jr0 ((g (4 * js0)).toInt64) (by omega)) (cwV 2 hts (lw_V q648 q650 qs7 q24 q651) rfl rfl rfl (by decide +kernel) ⟨Nat.le_of_ble_eq_true rfl, Nat.le_of_ble_eq_true rfl⟩) (k_preV hk hK hN hP hD [2, 3] (by decide) rfl trivial hP rfl (q0 := 2) rfl) rfl rfl hl.1 rfl (lv_room (Nat.le_of_ble_eq_true rfl)) dX5_write_66 ⟨Nat.le_of_ble_eq_true rfl, Nat.le_of_ble_eq_true rfl⟩) hP hD hS hA [2, 3] [0, 1, 4] rfl rfl (by decide) (by decide) (fun r_15 u_16 H locs w_17 hP hD hxw_17 hzw_17 hqw_17 hS => ?_)
        have hP : va_P D vwCl [(ad 2, aL ca 96 sh), (ad 3, aI ca 64 g), (ad 1, aI ca 6 sz), (o, mO ad nf mo), (ad 0, aI ca 6 kd)] H := hP
        have hD : va_D A [(ad 2, aL ca 96 sh), (ad 3, aI ca 64 g), (ad 1, aI ca 6 sz), (o, mO ad nf mo), (ad 0, aI ca 6 kd)] := hD
        obtain rfl : r_15 = m_cut kd jr0 ((g (4 * js0)).toInt64) := w_17
        refine va_last hx hb hK hP hD hS 0 2 rfl rfl (vin_nI (a := (16 * jr0) + ai) (eq_add0 (eq_add (eq_mul rfl rfl) rfl)) (by omega) (by omega)) dX5_write_69 (fun H locs hP hD hS => ?_)
        rw [cn_nI (i := ((16 * (nI jr0)) + (nI ai)) + 0) (a := (16 * jr0) + ai) (eq_add0 (eq_add (eq_mul rfl rfl) rfl)) (by omega)] at hP hD
        have hP : va_P D vwCl [(ad 2, aL ca 96 (vp_updL sh ((16 * jr0) + ai) (m_cut kd jr0 ((g (4 * js0)).toInt64)))), (ad 3, aI ca 64 g), (ad 1, aI ca 6 sz), (o, mO ad nf mo), (ad 0, aI ca 6 kd)] H := hP
        have hD : va_D A [(ad 2, aL ca 96 (vp_updL sh ((16 * jr0) + ai) (m_cut kd jr0 ((g (4 * js0)).toInt64)))), (ad 3, aI ca 64 g), (ad 1, aI ca 6 sz), (o, mO ad nf mo), (ad 0, aI ca 6 kd)] := hD
        refine lv_iinc (v := 1) (lv' := [(5, .int 1), (4, .int (m_ag kd sz jr0 (nI ai) 4)), (0, .ref o), (1, .int (nI js0)), (2, .int (nI jr0)), (3, .int (nI ai))]) hx hb dX5_write_70 hl (k := 0) rfl (by decide) (by decide) rfl (fun ls hl => ?_)
        refine lv_goto (tgt := 28) hx hb dX5_write_73 (by decide) ?_
        refine lv_iload hx hb dX5_write_28 (lv_at hl 0 rfl) ?_
        refine lv_iconst (v := 4) hx hb dX5_write_30 (by decide) ?_
        refine lv_icmp_ge (tgt := 76) hx hb dX5_write_31 (by decide) (fun c_18 => absurd c_18 (by decide)) (fun c_18 => ?_)
        refine lv_iload hx hb dX5_write_34 (lv_at hl 1 rfl) ?_
        refine lv_if_ne (tgt := 76) hx hb dX5_write_36 (by decide) (fun c_19 => absurd c_13 c_19) (fun c_19 => ?_)
        refine lv_aload_n hx hb dX5_write_39 rfl (lv_at hl 2 rfl) ?_
        refine va_get (D := D) (ci := 4) (v := .ref (ad 2)) (C := RX5) (T := TX5) (N := 18) hx hb hts in_X5 hown hK hP 3 rfl rfl 2 (by decide) (hts _ q575) (fun _ h9 => h9) rfl dX5_write_40 ?_
        refine lv_bipush (v := 16) hx hb dX5_write_43 (by decide) ?_
        refine lv_iload_n hx hb dX5_write_45 rfl (lv_at hl 4 rfl) ?_
        refine lv_imul hx hb dX5_write_46 ?_
        refine lv_iload_n hx hb dX5_write_47 rfl (lv_at hl 5 rfl) ?_
        refine lv_iadd hx hb dX5_write_48 ?_
        refine lv_iload hx hb dX5_write_49 (lv_at hl 0 rfl) ?_
        refine lv_iadd hx hb dX5_write_51 ?_
        refine lv_aload_n hx hb dX5_write_52 rfl (lv_at hl 2 rfl) ?_
        refine lv_iload_n hx hb dX5_write_53 rfl (lv_at hl 4 rfl) ?_
        refine lv_aload_n hx hb dX5_write_54 rfl (lv_at hl 2 rfl) ?_
        refine va_get (D := D) (ci := 4) (v := .ref (ad 3)) (C := RX5) (T := TX5) (N := 18) hx hb hts in_X5 hown hK hP 3 rfl rfl 3 (by decide) (hts _ q576) (fun _ h9 => h9) rfl dX5_write_55 ?_
        refine lv_iconst (v := 4) hx hb dX5_write_58 (by decide) ?_
        refine lv_iload_n hx hb dX5_write_59 rfl (lv_at hl 3 rfl) ?_
        refine lv_imul hx hb dX5_write_60 ?_
        refine lv_iload hx hb dX5_write_61 (lv_at hl 0 rfl) ?_
        refine lv_iadd hx hb dX5_write_63 ?_
        refine va_iald hx hb hK hP 1 1 rfl rfl (vin_nI (a := (4 * js0) + 1) (eq_add (eq_mul rfl rfl) rfl) (by omega) (by omega)) dX5_write_64 ?_
        refine lv_topi (fun z_20 ez_20 => ?_)
        obtain rfl : z_20 = g ((4 * js0) + 1) := ez_20.trans (cl_nI (a := (4 * js0) + 1) g (eq_add (eq_mul rfl rfl) rfl) (by omega))
        refine lv_i2l (v := (g ((4 * js0) + 1)).toInt64) hx hb dX5_write_65 rfl ?_
        refine k_calll (wr := [(ad 2, aL ca 96 (vp_updL sh ((16 * jr0) + ai) (m_cut kd jr0 ((g (4 * js0)).toInt64)))), (ad 3, aI ca 64 g), (ad 1, aI ca 6 sz)]) (va_runV (As := [.int (nI jr0), .long ((g ((4 * js0) + 1)).toInt64)]) (rest := [.int (((16 * (nI jr0)) + (nI ai)) + 1), .ref (ad 2)]) ⟨hx, hb, hml, hown, hts⟩ (ct_X5_cut hk l D ca H.size o ad nf mo kd jr0 ((g ((4 * js0) + 1)).toInt64) (by omega)) (cwV 2 hts (lw_V q648 q650 qs7 q24 q651) rfl rfl rfl (by decide +kernel) ⟨Nat.le_of_ble_eq_true rfl, Nat.le_of_ble_eq_true rfl⟩) (k_preV hk hK hN hP hD [3, 4] (by decide) rfl trivial hP rfl (q0 := 3) rfl) rfl rfl hl.1 rfl (lv_room (Nat.le_of_ble_eq_true rfl)) dX5_write_66 ⟨Nat.le_of_ble_eq_true rfl, Nat.le_of_ble_eq_true rfl⟩) hP hD hS hA [3, 4] [0, 1, 2] rfl rfl (by decide) (by decide) (fun r_21 u_22 H locs w_23 hP hD hxw_23 hzw_23 hqw_23 hS => ?_)
        have hP : va_P D vwCl [(ad 2, aL ca 96 (vp_updL sh ((16 * jr0) + ai) (m_cut kd jr0 ((g (4 * js0)).toInt64)))), (ad 3, aI ca 64 g), (ad 1, aI ca 6 sz), (o, mO ad nf mo), (ad 0, aI ca 6 kd)] H := hP
        have hD : va_D A [(ad 2, aL ca 96 (vp_updL sh ((16 * jr0) + ai) (m_cut kd jr0 ((g (4 * js0)).toInt64)))), (ad 3, aI ca 64 g), (ad 1, aI ca 6 sz), (o, mO ad nf mo), (ad 0, aI ca 6 kd)] := hD
        obtain rfl : r_21 = m_cut kd jr0 ((g ((4 * js0) + 1)).toInt64) := w_23
        refine va_last hx hb hK hP hD hS 0 2 rfl rfl (vin_nI (a := ((16 * jr0) + ai) + 1) (eq_add (eq_add (eq_mul rfl rfl) rfl) rfl) (by omega) (by omega)) dX5_write_69 (fun H locs hP hD hS => ?_)
        rw [cn_nI (i := ((16 * (nI jr0)) + (nI ai)) + 1) (a := ((16 * jr0) + ai) + 1) (eq_add (eq_add (eq_mul rfl rfl) rfl) rfl) (by omega)] at hP hD
        have hP : va_P D vwCl [(ad 2, aL ca 96 (vp_updL (vp_updL sh ((16 * jr0) + ai) (m_cut kd jr0 ((g (4 * js0)).toInt64))) (((16 * jr0) + ai) + 1) (m_cut kd jr0 ((g ((4 * js0) + 1)).toInt64)))), (ad 3, aI ca 64 g), (ad 1, aI ca 6 sz), (o, mO ad nf mo), (ad 0, aI ca 6 kd)] H := hP
        have hD : va_D A [(ad 2, aL ca 96 (vp_updL (vp_updL sh ((16 * jr0) + ai) (m_cut kd jr0 ((g (4 * js0)).toInt64))) (((16 * jr0) + ai) + 1) (m_cut kd jr0 ((g ((4 * js0) + 1)).toInt64)))), (ad 3, aI ca 64 g), (ad 1, aI ca 6 sz), (o, mO ad nf mo), (ad 0, aI ca 6 kd)] := hD
        refine lv_iinc (v := 2) (lv' := [(5, .int 2), (4, .int (m_ag kd sz jr0 (nI ai) 4)), (0, .ref o), (1, .int (nI js0)), (2, .int (nI jr0)), (3, .int (nI ai))]) hx hb dX5_write_70 hl (k := 0) rfl (by decide) (by decide) rfl (fun ls hl => ?_)
        refine lv_goto (tgt := 28) hx hb dX5_write_73 (by decide) ?_
        refine lv_iload hx hb dX5_write_28 (lv_at hl 0 rfl) ?_
        refine lv_iconst (v := 4) hx hb dX5_write_30 (by decide) ?_
        refine lv_icmp_ge (tgt := 76) hx hb dX5_write_31 (by decide) (fun c_24 => absurd c_24 (by decide)) (fun c_24 => ?_)
        refine lv_iload hx hb dX5_write_34 (lv_at hl 1 rfl) ?_
        refine lv_if_ne (tgt := 76) hx hb dX5_write_36 (by decide) (fun c_25 => absurd c_13 c_25) (fun c_25 => ?_)
        refine lv_aload_n hx hb dX5_write_39 rfl (lv_at hl 2 rfl) ?_
        refine va_get (D := D) (ci := 4) (v := .ref (ad 2)) (C := RX5) (T := TX5) (N := 18) hx hb hts in_X5 hown hK hP 3 rfl rfl 2 (by decide) (hts _ q575) (fun _ h9 => h9) rfl dX5_write_40 ?_
        refine lv_bipush (v := 16) hx hb dX5_write_43 (by decide) ?_
        refine lv_iload_n hx hb dX5_write_45 rfl (lv_at hl 4 rfl) ?_
        refine lv_imul hx hb dX5_write_46 ?_
        refine lv_iload_n hx hb dX5_write_47 rfl (lv_at hl 5 rfl) ?_
        refine lv_iadd hx hb dX5_write_48 ?_
        refine lv_iload hx hb dX5_write_49 (lv_at hl 0 rfl) ?_
        refine lv_iadd hx hb dX5_write_51 ?_
        refine lv_aload_n hx hb dX5_write_52 rfl (lv_at hl 2 rfl) ?_
        refine lv_iload_n hx hb dX5_write_53 rfl (lv_at hl 4 rfl) ?_
        refine lv_aload_n hx hb dX5_write_54 rfl (lv_at hl 2 rfl) ?_
        refine va_get (D := D) (ci := 4) (v := .ref (ad 3)) (C := RX5) (T := TX5) (N := 18) hx hb hts in_X5 hown hK hP 3 rfl rfl 3 (by decide) (hts _ q576) (fun _ h9 => h9) rfl dX5_write_55 ?_
        refine lv_iconst (v := 4) hx hb dX5_write_58 (by decide) ?_
        refine lv_iload_n hx hb dX5_write_59 rfl (lv_at hl 3 rfl) ?_
        refine lv_imul hx hb dX5_write_60 ?_
        refine lv_iload hx hb dX5_write_61 (lv_at hl 0 rfl) ?_
        refine lv_iadd hx hb dX5_write_63 ?_
        refine va_iald hx hb hK hP 1 1 rfl rfl (vin_nI (a := (4 * js0) + 2) (eq_add (eq_mul rfl rfl) rfl) (by omega) (by omega)) dX5_write_64 ?_
        refine lv_topi (fun z_26 ez_26 => ?_)
        obtain rfl : z_26 = g ((4 * js0) + 2) := ez_26.trans (cl_nI (a := (4 * js0) + 2) g (eq_add (eq_mul rfl rfl) rfl) (by omega))
        refine lv_i2l (v := (g ((4 * js0) + 2)).toInt64) hx hb dX5_write_65 rfl ?_
        refine k_calll (wr := [(ad 2, aL ca 96 (vp_updL (vp_updL sh ((16 * jr0) + ai) (m_cut kd jr0 ((g (4 * js0)).toInt64))) (((16 * jr0) + ai) + 1) (m_cut kd jr0 ((g ((4 * js0) + 1)).toInt64)))), (ad 3, aI ca 64 g), (ad 1, aI ca 6 sz)]) (va_runV (As := [.int (nI jr0), .long ((g ((4 * js0) + 2)).toInt64)]) (rest := [.int (((16 * (nI jr0)) + (nI ai)) + 2), .ref (ad 2)]) ⟨hx, hb, hml, hown, hts⟩ (ct_X5_cut hk l D ca H.size o ad nf mo kd jr0 ((g ((4 * js0) + 2)).toInt64) (by omega)) (cwV 2 hts (lw_V q648 q650 qs7 q24 q651) rfl rfl rfl (by decide +kernel) ⟨Nat.le_of_ble_eq_true rfl, Nat.le_of_ble_eq_true rfl⟩) (k_preV hk hK hN hP hD [3, 4] (by decide) rfl trivial hP rfl (q0 := 3) rfl) rfl rfl hl.1 rfl (lv_room (Nat.le_of_ble_eq_true rfl)) dX5_write_66 ⟨Nat.le_of_ble_eq_true rfl, Nat.le_of_ble_eq_true rfl⟩) hP hD hS hA [3, 4] [0, 1, 2] rfl rfl (by decide) (by decide) (fun r_27 u_28 H locs w_29 hP hD hxw_29 hzw_29 hqw_29 hS => ?_)
        have hP : va_P D vwCl [(ad 2, aL ca 96 (vp_updL (vp_updL sh ((16 * jr0) + ai) (m_cut kd jr0 ((g (4 * js0)).toInt64))) (((16 * jr0) + ai) + 1) (m_cut kd jr0 ((g ((4 * js0) + 1)).toInt64)))), (ad 3, aI ca 64 g), (ad 1, aI ca 6 sz), (o, mO ad nf mo), (ad 0, aI ca 6 kd)] H := hP
        have hD : va_D A [(ad 2, aL ca 96 (vp_updL (vp_updL sh ((16 * jr0) + ai) (m_cut kd jr0 ((g (4 * js0)).toInt64))) (((16 * jr0) + ai) + 1) (m_cut kd jr0 ((g ((4 * js0) + 1)).toInt64)))), (ad 3, aI ca 64 g), (ad 1, aI ca 6 sz), (o, mO ad nf mo), (ad 0, aI ca 6 kd)] := hD
        obtain rfl : r_27 = m_cut kd jr0 ((g ((4 * js0) + 2)).toInt64) := w_29
        refine va_last hx hb hK hP hD hS 0 2 rfl rfl (vin_nI (a := ((16 * jr0) + ai) + 2) (eq_add (eq_add (eq_mul rfl rfl) rfl) rfl) (by omega) (by omega)) dX5_write_69 (fun H locs hP hD hS => ?_)
        rw [cn_nI (i := ((16 * (nI jr0)) + (nI ai)) + 2) (a := ((16 * jr0) + ai) + 2) (eq_add (eq_add (eq_mul rfl rfl) rfl) rfl) (by omega)] at hP hD
        have hP : va_P D vwCl [(ad 2, aL ca 96 (vp_updL (vp_updL (vp_updL sh ((16 * jr0) + ai) (m_cut kd jr0 ((g (4 * js0)).toInt64))) (((16 * jr0) + ai) + 1) (m_cut kd jr0 ((g ((4 * js0) + 1)).toInt64))) (((16 * jr0) + ai) + 2) (m_cut kd jr0 ((g ((4 * js0) + 2)).toInt64)))), (ad 3, aI ca 64 g), (ad 1, aI ca 6 sz), (o, mO ad nf mo), (ad 0, aI ca 6 kd)] H := hP
        have hD : va_D A [(ad 2, aL ca 96 (vp_updL (vp_updL (vp_updL sh ((16 * jr0) + ai) (m_cut kd jr0 ((g (4 * js0)).toInt64))) (((16 * jr0) + ai) + 1) (m_cut kd jr0 ((g ((4 * js0) + 1)).toInt64))) (((16 * jr0) + ai) + 2) (m_cut kd jr0 ((g ((4 * js0) + 2)).toInt64)))), (ad 3, aI ca 64 g), (ad 1, aI ca 6 sz), (o, mO ad nf mo), (ad 0, aI ca 6 kd)] := hD
        refine lv_iinc (v := 3) (lv' := [(5, .int 3), (4, .int (m_ag kd sz jr0 (nI ai) 4)), (0, .ref o), (1, .int (nI js0)), (2, .int (nI jr0)), (3, .int (nI ai))]) hx hb dX5_write_70 hl (k := 0) rfl (by decide) (by decide) rfl (fun ls hl => ?_)
        refine lv_goto (tgt := 28) hx hb dX5_write_73 (by decide) ?_
        refine lv_iload hx hb dX5_write_28 (lv_at hl 0 rfl) ?_
        refine lv_iconst (v := 4) hx hb dX5_write_30 (by decide) ?_
        refine lv_icmp_ge (tgt := 76) hx hb dX5_write_31 (by decide) (fun c_30 => absurd c_30 (by decide)) (fun c_30 => ?_)
        refine lv_iload hx hb dX5_write_34 (lv_at hl 1 rfl) ?_
        refine lv_if_ne (tgt := 76) hx hb dX5_write_36 (by decide) (fun c_31 => absurd c_13 c_31) (fun c_31 => ?_)
        refine lv_aload_n hx hb dX5_write_39 rfl (lv_at hl 2 rfl) ?_
        refine va_get (D := D) (ci := 4) (v := .ref (ad 2)) (C := RX5) (T := TX5) (N := 18) hx hb hts in_X5 hown hK hP 3 rfl rfl 2 (by decide) (hts _ q575) (fun _ h9 => h9) rfl dX5_write_40 ?_
        refine lv_bipush (v := 16) hx hb dX5_write_43 (by decide) ?_
        refine lv_iload_n hx hb dX5_write_45 rfl (lv_at hl 4 rfl) ?_
        refine lv_imul hx hb dX5_write_46 ?_
        refine lv_iload_n hx hb dX5_write_47 rfl (lv_at hl 5 rfl) ?_
        refine lv_iadd hx hb dX5_write_48 ?_
        refine lv_iload hx hb dX5_write_49 (lv_at hl 0 rfl) ?_
        refine lv_iadd hx hb dX5_write_51 ?_
        refine lv_aload_n hx hb dX5_write_52 rfl (lv_at hl 2 rfl) ?_
        refine lv_iload_n hx hb dX5_write_53 rfl (lv_at hl 4 rfl) ?_
        refine lv_aload_n hx hb dX5_write_54 rfl (lv_at hl 2 rfl) ?_
        refine va_get (D := D) (ci := 4) (v := .ref (ad 3)) (C := RX5) (T := TX5) (N := 18) hx hb hts in_X5 hown hK hP 3 rfl rfl 3 (by decide) (hts _ q576) (fun _ h9 => h9) rfl dX5_write_55 ?_
        refine lv_iconst (v := 4) hx hb dX5_write_58 (by decide) ?_
        refine lv_iload_n hx hb dX5_write_59 rfl (lv_at hl 3 rfl) ?_
        refine lv_imul hx hb dX5_write_60 ?_
        refine lv_iload hx hb dX5_write_61 (lv_at hl 0 rfl) ?_
        refine lv_iadd hx hb dX5_write_63 ?_
        refine va_iald hx hb hK hP 1 1 rfl rfl (vin_nI (a := (4 * js0) + 3) (eq_add (eq_mul rfl rfl) rfl) (by omega) (by omega)) dX5_write_64 ?_
        refine lv_topi (fun z_32 ez_32 => ?_)
        obtain rfl : z_32 = g ((4 * js0) + 3) := ez_32.trans (cl_nI (a := (4 * js0) + 3) g (eq_add (eq_mul rfl rfl) rfl) (by omega))
        refine lv_i2l (v := (g ((4 * js0) + 3)).toInt64) hx hb dX5_write_65 rfl ?_
        refine k_calll (wr := [(ad 2, aL ca 96 (vp_updL (vp_updL (vp_updL sh ((16 * jr0) + ai) (m_cut kd jr0 ((g (4 * js0)).toInt64))) (((16 * jr0) + ai) + 1) (m_cut kd jr0 ((g ((4 * js0) + 1)).toInt64))) (((16 * jr0) + ai) + 2) (m_cut kd jr0 ((g ((4 * js0) + 2)).toInt64)))), (ad 3, aI ca 64 g), (ad 1, aI ca 6 sz)]) (va_runV (As := [.int (nI jr0), .long ((g ((4 * js0) + 3)).toInt64)]) (rest := [.int (((16 * (nI jr0)) + (nI ai)) + 3), .ref (ad 2)]) ⟨hx, hb, hml, hown, hts⟩ (ct_X5_cut hk l D ca H.size o ad nf mo kd jr0 ((g ((4 * js0) + 3)).toInt64) (by omega)) (cwV 2 hts (lw_V q648 q650 qs7 q24 q651) rfl rfl rfl (by decide +kernel) ⟨Nat.le_of_ble_eq_true rfl, Nat.le_of_ble_eq_true rfl⟩) (k_preV hk hK hN hP hD [3, 4] (by decide) rfl trivial hP rfl (q0 := 3) rfl) rfl rfl hl.1 rfl (lv_room (Nat.le_of_ble_eq_true rfl)) dX5_write_66 ⟨Nat.le_of_ble_eq_true rfl, Nat.le_of_ble_eq_true rfl⟩) hP hD hS hA [3, 4] [0, 1, 2] rfl rfl (by decide) (by decide) (fun r_33 u_34 H locs w_35 hP hD hxw_35 hzw_35 hqw_35 hS => ?_)
        have hP : va_P D vwCl [(ad 2, aL ca 96 (vp_updL (vp_updL (vp_updL sh ((16 * jr0) + ai) (m_cut kd jr0 ((g (4 * js0)).toInt64))) (((16 * jr0) + ai) + 1) (m_cut kd jr0 ((g ((4 * js0) + 1)).toInt64))) (((16 * jr0) + ai) + 2) (m_cut kd jr0 ((g ((4 * js0) + 2)).toInt64)))), (ad 3, aI ca 64 g), (ad 1, aI ca 6 sz), (o, mO ad nf mo), (ad 0, aI ca 6 kd)] H := hP
        have hD : va_D A [(ad 2, aL ca 96 (vp_updL (vp_updL (vp_updL sh ((16 * jr0) + ai) (m_cut kd jr0 ((g (4 * js0)).toInt64))) (((16 * jr0) + ai) + 1) (m_cut kd jr0 ((g ((4 * js0) + 1)).toInt64))) (((16 * jr0) + ai) + 2) (m_cut kd jr0 ((g ((4 * js0) + 2)).toInt64)))), (ad 3, aI ca 64 g), (ad 1, aI ca 6 sz), (o, mO ad nf mo), (ad 0, aI ca 6 kd)] := hD
        obtain rfl : r_33 = m_cut kd jr0 ((g ((4 * js0) + 3)).toInt64) := w_35
        refine va_last hx hb hK hP hD hS 0 2 rfl rfl (vin_nI (a := ((16 * jr0) + ai) + 3) (eq_add (eq_add (eq_mul rfl rfl) rfl) rfl) (by omega) (by omega)) dX5_write_69 (fun H locs hP hD hS => ?_)
        rw [cn_nI (i := ((16 * (nI jr0)) + (nI ai)) + 3) (a := ((16 * jr0) + ai) + 3) (eq_add (eq_add (eq_mul rfl rfl) rfl) rfl) (by omega)] at hP hD
        have hP : va_P D vwCl [(ad 2, aL ca 96 (vp_updL (vp_updL (vp_updL (vp_updL sh ((16 * jr0) + ai) (m_cut kd jr0 ((g (4 * js0)).toInt64))) (((16 * jr0) + ai) + 1) (m_cut kd jr0 ((g ((4 * js0) + 1)).toInt64))) (((16 * jr0) + ai) + 2) (m_cut kd jr0 ((g ((4 * js0) + 2)).toInt64))) (((16 * jr0) + ai) + 3) (m_cut kd jr0 ((g ((4 * js0) + 3)).toInt64)))), (ad 3, aI ca 64 g), (ad 1, aI ca 6 sz), (o, mO ad nf mo), (ad 0, aI ca 6 kd)] H := hP
        have hD : va_D A [(ad 2, aL ca 96 (vp_updL (vp_updL (vp_updL (vp_updL sh ((16 * jr0) + ai) (m_cut kd jr0 ((g (4 * js0)).toInt64))) (((16 * jr0) + ai) + 1) (m_cut kd jr0 ((g ((4 * js0) + 1)).toInt64))) (((16 * jr0) + ai) + 2) (m_cut kd jr0 ((g ((4 * js0) + 2)).toInt64))) (((16 * jr0) + ai) + 3) (m_cut kd jr0 ((g ((4 * js0) + 3)).toInt64)))), (ad 3, aI ca 64 g), (ad 1, aI ca 6 sz), (o, mO ad nf mo), (ad 0, aI ca 6 kd)] := hD
        refine lv_iinc (v := 4) (lv' := [(5, .int 4), (4, .int (m_ag kd sz jr0 (nI ai) 4)), (0, .ref o), (1, .int (nI js0)), (2, .int (nI jr0)), (3, .int (nI ai))]) hx hb dX5_write_70 hl (k := 0) rfl (by decide) (by decide) rfl (fun ls hl => ?_)
        refine lv_goto (tgt := 28) hx hb dX5_write_73 (by decide) ?_
        refine lv_iload hx hb dX5_write_28 (lv_at hl 0 rfl) ?_
        refine lv_iconst (v := 4) hx hb dX5_write_30 (by decide) ?_
        refine lv_icmp_ge (tgt := 76) hx hb dX5_write_31 (by decide) (fun c_36 => ?_) (fun c_36 => absurd (by decide) c_36)
        refine lv_iload hx hb dX5_write_76 (lv_at hl 1 rfl) ?_
        exact k_iret (vp_updL (vp_updL (vp_updL (vp_updL sh ((16 * jr0) + ai) (m_cut kd jr0 ((g (4 * js0)).toInt64))) (((16 * jr0) + ai) + 1) (m_cut kd jr0 ((g ((4 * js0) + 1)).toInt64))) (((16 * jr0) + ai) + 2) (m_cut kd jr0 ((g ((4 * js0) + 2)).toInt64))) (((16 * jr0) + ai) + 3) (m_cut kd jr0 ((g ((4 * js0) + 3)).toInt64))) hx hb hr hlocks (by simp [m_write, c_4, c_8, c_13, nI_clamp (show js0 < 2 ^ 31 by omega), nI_clamp (show jr0 < 2 ^ 31 by omega), nI_clamp (show ai < 2 ^ 31 by omega), w4, c4, rq]) (hP.sub [3, 4, 2, 0, 1] rfl) (hD.sub [3, 4, 2, 0, 1] (by decide) rfl) trivial hS (Nat.le_of_ble_eq_true rfl) (Nat.le_of_ble_eq_true rfl) dX5_write_78
    · have c_8 := bI_z0 c_8
      refine lv_iconst (v := (-1)) hx hb dX5_write_14 (by decide) ?_
      exact k_iret sh hx hb hr hlocks (by simp [m_write, c_4, c_8, nI_clamp (show js0 < 2 ^ 31 by omega), w4, c4, rq]) hP hD trivial hS (Nat.le_of_ble_eq_true rfl) (Nat.le_of_ble_eq_true rfl) dX5_write_15
set_option maxHeartbeats 4000000 in
set_option maxRecDepth 100000 in
theorem ct_X5_set {KN : State → Prop} (hk : KNok KN) (l : Launch) (D : va_G) (ca : Nat → ClassId) (zH : Nat) (o : Nat) (ad : Nat → Nat) (nf mo : Int32) (g : AI) (x : Q4) (s0 a0 b0 c0 d0 : Int32)  : Met l yX5_set (ws_ yX5_set cX5_set 6 (some .int)) ({ frames := 4, cells := 0, slots := 0, locals := 88 }) (va_Pc [.ref o, .int s0, .int a0, .int b0, .int c0, .int d0] (pr_ KN D ca [(o, mO ad nf mo), (ad 3, aI ca 64 g), (ad 8, a4 ca x)] zH (fun _ => True))) (qI D (fun (r : Int32) (u : AI × Q4) => (r, u.1) = m_set g s0 a0 b0 c0 d0) (fun u => [(o, mO ad nf mo), (ad 3, aI ca 64 u.1), (ad 8, a4 ca u.2)]) (fun u H => True) (va_A [(o, mO ad nf mo), (ad 3, aI ca 64 g), (ad 8, a4 ca x)] zH)) 0 0 (va_A [(o, mO ad nf mo), (ad 3, aI ca 64 g), (ad 8, a4 ca x)] zH) := by
  refine k_ofW (Qc := qI D (fun (r : Int32) (u : AI × Q4) => (r, u.1) = m_set g s0 a0 b0 c0 d0) (fun u => [(o, mO ad nf mo), (ad 3, aI ca 64 u.1), (ad 8, a4 ca u.2)]) (fun u H => True)) (by decide) (Nat.le_of_ble_eq_true rfl) ?_
  intro p e s m below meth c ls A H hH hx hb hr hts hown hlocks hnm hml hsz hP hD hK hN hA hAn hS hro hl
  have hl : lv_has ls 6 [(0, .ref o), (1, .int s0), (2, .int a0), (3, .int b0), (4, .int c0), (5, .int d0)] := hl
  refine lv_iload_n hx hb dX5_set_0 rfl (lv_at hl 1 rfl) ?_
  refine k_calli (wr := [(o, mO ad nf mo), (ad 3, aI ca 64 g), (ad 8, a4 ca x)]) (va_runS (As := [.int s0]) (rest := []) ⟨hx, hb, hml, hown, hts⟩ (ct_X5_isRegister hk l D ca H.size s0) (va_cwS 1 hts (lw_S q660 q661 q24 q662) rfl rfl rfl (by decide +kernel) ⟨Nat.le_of_ble_eq_true rfl, Nat.le_of_ble_eq_true rfl⟩) (k_pre hk hK hN hP hD [] (by decide) rfl trivial) rfl rfl hl.1 rfl (lv_room (Nat.le_of_ble_eq_true rfl)) dX5_set_1 ⟨Nat.le_of_ble_eq_true rfl, Nat.le_of_ble_eq_true rfl⟩) hP hD hS hA [] [0, 1, 2] rfl rfl (by decide) (by decide) (fun r_1 u_2 H locs w_3 hP hD hxw_3 hzw_3 hqw_3 hS => ?_)
  obtain rfl : r_1 = bI (p_in s0.toInt64 0 15) := w_3
  refine lv_if_ne (tgt := 9) hx hb dX5_set_4 (by decide) (fun c_4 => ?_) (fun c_4 => ?_)
  · have c_4 := bI_z1 c_4
    obtain ⟨js0, hjs0, rfl⟩ := in_nI (n := 16) (by decide) c_4
    refine lv_iload_n hx hb dX5_set_9 rfl (lv_at hl 2 rfl) ?_
    refine lv_i2l (v := a0.toInt64) hx hb dX5_set_10 rfl ?_
    refine lv_iload_n hx hb dX5_set_11 rfl (lv_at hl 3 rfl) ?_
    refine lv_i2l (v := b0.toInt64) hx hb dX5_set_12 rfl ?_
    refine lv_iload hx hb dX5_set_13 (lv_at hl 4 rfl) ?_
    refine lv_i2l (v := c0.toInt64) hx hb dX5_set_15 rfl ?_
    refine lv_iload hx hb dX5_set_16 (lv_at hl 5 rfl) ?_
    refine lv_i2l (v := d0.toInt64) hx hb dX5_set_18 rfl ?_
    refine k_calli (wr := [(o, mO ad nf mo), (ad 3, aI ca 64 g), (ad 8, a4 ca x)]) (va_runS (As := [.long a0.toInt64, .long b0.toInt64, .long c0.toInt64, .long d0.toInt64]) (rest := []) ⟨hx, hb, hml, hown, hts⟩ (ct_X5_isOne hk l D ca H.size a0.toInt64 b0.toInt64 c0.toInt64 d0.toInt64) (va_cwS 4 hts (lw_S q570 q571 q24 q572) rfl rfl rfl (by decide +kernel) ⟨Nat.le_of_ble_eq_true rfl, Nat.le_of_ble_eq_true rfl⟩) (k_pre hk hK hN hP hD [] (by decide) rfl trivial) rfl rfl hl.1 rfl (lv_room (Nat.le_of_ble_eq_true rfl)) dX5_set_19 ⟨Nat.le_of_ble_eq_true rfl, Nat.le_of_ble_eq_true rfl⟩) hP hD hS hA [] [0, 1, 2] rfl rfl (by decide) (by decide) (fun r_5 u_6 H locs w_7 hP hD hxw_7 hzw_7 hqw_7 hS => ?_)
    obtain rfl : r_5 = bI (p_one a0.toInt64 b0.toInt64 c0.toInt64 d0.toInt64) := w_7
    refine lv_if_ne (tgt := 28) hx hb dX5_set_22 (by decide) (fun c_8 => ?_) (fun c_8 => ?_)
    · have c_8 := bI_z1 c_8
      refine lv_aload_n hx hb dX5_set_28 rfl (lv_at hl 0 rfl) ?_
      refine va_get (D := D) (ci := 4) (v := .ref (ad 8)) (C := RX5) (T := TX5) (N := 18) hx hb hts in_X5 hown hK hP 0 rfl rfl 8 (by decide) (hts _ q581) (fun _ h9 => h9) rfl dX5_set_29 ?_
      refine lv_iconst (v := 0) hx hb dX5_set_32 (by decide) ?_
      refine lv_iload_n hx hb dX5_set_33 rfl (lv_at hl 2 rfl) ?_
      refine lv_i2l (v := a0.toInt64) hx hb dX5_set_34 rfl ?_
      refine va_last hx hb hK hP hD hS 2 2 rfl rfl (vin (by decide)) dX5_set_35 (fun H locs hP hD hS => ?_)
      rw [L4_s0] at hP hD
      have hP : va_P D vwCl [(o, mO ad nf mo), (ad 3, aI ca 64 g), (ad 8, a4 ca (a0.toInt64, x.2.1, x.2.2.1, x.2.2.2))] H := hP
      have hD : va_D A [(o, mO ad nf mo), (ad 3, aI ca 64 g), (ad 8, a4 ca (a0.toInt64, x.2.1, x.2.2.1, x.2.2.2))] := hD
      refine lv_aload_n hx hb dX5_set_36 rfl (lv_at hl 0 rfl) ?_
      refine va_get (D := D) (ci := 4) (v := .ref (ad 8)) (C := RX5) (T := TX5) (N := 18) hx hb hts in_X5 hown hK hP 0 rfl rfl 8 (by decide) (hts _ q581) (fun _ h9 => h9) rfl dX5_set_37 ?_
      refine lv_iconst (v := 1) hx hb dX5_set_40 (by decide) ?_
      refine lv_iload_n hx hb dX5_set_41 rfl (lv_at hl 3 rfl) ?_
      refine lv_i2l (v := b0.toInt64) hx hb dX5_set_42 rfl ?_
      refine va_last hx hb hK hP hD hS 2 2 rfl rfl (vin (by decide)) dX5_set_43 (fun H locs hP hD hS => ?_)
      rw [L4_s1] at hP hD
      have hP : va_P D vwCl [(o, mO ad nf mo), (ad 3, aI ca 64 g), (ad 8, a4 ca (a0.toInt64, b0.toInt64, x.2.2.1, x.2.2.2))] H := hP
      have hD : va_D A [(o, mO ad nf mo), (ad 3, aI ca 64 g), (ad 8, a4 ca (a0.toInt64, b0.toInt64, x.2.2.1, x.2.2.2))] := hD
      refine lv_aload_n hx hb dX5_set_44 rfl (lv_at hl 0 rfl) ?_
      refine va_get (D := D) (ci := 4) (v := .ref (ad 8)) (C := RX5) (T := TX5) (N := 18) hx hb hts in_X5 hown hK hP 0 rfl rfl 8 (by decide) (hts _ q581) (fun _ h9 => h9) rfl dX5_set_45 ?_
      refine lv_iconst (v := 2) hx hb dX5_set_48 (by decide) ?_
      refine lv_iload hx hb dX5_set_49 (lv_at hl 4 rfl) ?_
      refine lv_i2l (v := c0.toInt64) hx hb dX5_set_51 rfl ?_
      refine va_last hx hb hK hP hD hS 2 2 rfl rfl (vin (by decide)) dX5_set_52 (fun H locs hP hD hS => ?_)
      rw [L4_s2] at hP hD
      have hP : va_P D vwCl [(o, mO ad nf mo), (ad 3, aI ca 64 g), (ad 8, a4 ca (a0.toInt64, b0.toInt64, c0.toInt64, x.2.2.2))] H := hP
      have hD : va_D A [(o, mO ad nf mo), (ad 3, aI ca 64 g), (ad 8, a4 ca (a0.toInt64, b0.toInt64, c0.toInt64, x.2.2.2))] := hD
      refine lv_aload_n hx hb dX5_set_53 rfl (lv_at hl 0 rfl) ?_
      refine va_get (D := D) (ci := 4) (v := .ref (ad 8)) (C := RX5) (T := TX5) (N := 18) hx hb hts in_X5 hown hK hP 0 rfl rfl 8 (by decide) (hts _ q581) (fun _ h9 => h9) rfl dX5_set_54 ?_
      refine lv_iconst (v := 3) hx hb dX5_set_57 (by decide) ?_
      refine lv_iload hx hb dX5_set_58 (lv_at hl 5 rfl) ?_
      refine lv_i2l (v := d0.toInt64) hx hb dX5_set_60 rfl ?_
      refine va_last hx hb hK hP hD hS 2 2 rfl rfl (vin (by decide)) dX5_set_61 (fun H locs hP hD hS => ?_)
      rw [L4_s3] at hP hD
      have hP : va_P D vwCl [(o, mO ad nf mo), (ad 3, aI ca 64 g), (ad 8, a4 ca (a0.toInt64, b0.toInt64, c0.toInt64, d0.toInt64))] H := hP
      have hD : va_D A [(o, mO ad nf mo), (ad 3, aI ca 64 g), (ad 8, a4 ca (a0.toInt64, b0.toInt64, c0.toInt64, d0.toInt64))] := hD
      refine lv_aload_n hx hb dX5_set_62 rfl (lv_at hl 0 rfl) ?_
      refine lv_iload_n hx hb dX5_set_63 rfl (lv_at hl 1 rfl) ?_
      refine lv_aload_n hx hb dX5_set_64 rfl (lv_at hl 0 rfl) ?_
      refine va_get (D := D) (ci := 4) (v := .ref (ad 8)) (C := RX5) (T := TX5) (N := 18) hx hb hts in_X5 hown hK hP 0 rfl rfl 8 (by decide) (hts _ q581) (fun _ h9 => h9) rfl dX5_set_65 ?_
      refine k_calli (wr := []) (va_runV (As := [.int (nI js0), .ref (ad 8)]) (rest := []) ⟨hx, hb, hml, hown, hts⟩ (ct_X5_holds hk l D ca H.size o ad nf mo (ad 8) g (a0.toInt64, b0.toInt64, c0.toInt64, d0.toInt64) js0 (by omega)) (cwV 2 hts (lw_V q677 q679 qs8 q24 q680) rfl rfl rfl (by decide +kernel) ⟨Nat.le_of_ble_eq_true rfl, Nat.le_of_ble_eq_true rfl⟩) (k_preV hk hK hN hP hD [0, 1, 2] (by decide) rfl trivial hP rfl (q0 := 0) rfl) rfl rfl hl.1 rfl (lv_room (Nat.le_of_ble_eq_true rfl)) dX5_set_68 ⟨Nat.le_of_ble_eq_true rfl, Nat.le_of_ble_eq_true rfl⟩) hP hD hS hA [0, 1, 2] [] rfl rfl (by decide) (by decide) (fun r_9 u_10 H locs w_11 hP hD hxw_11 hzw_11 hqw_11 hS => ?_)
      have hP : va_P D vwCl [(o, mO ad nf mo), (ad 3, aI ca 64 u_10), (ad 8, a4 ca (a0.toInt64, b0.toInt64, c0.toInt64, d0.toInt64))] H := hP
      have hD : va_D A [(o, mO ad nf mo), (ad 3, aI ca 64 u_10), (ad 8, a4 ca (a0.toInt64, b0.toInt64, c0.toInt64, d0.toInt64))] := hD
      obtain ⟨rfl, rfl⟩ := w_11
      have hP : va_P D vwCl [(o, mO ad nf mo), (ad 3, aI ca 64 (h_g g js0 (a0.toInt64, b0.toInt64, c0.toInt64, d0.toInt64))), (ad 8, a4 ca (a0.toInt64, b0.toInt64, c0.toInt64, d0.toInt64))] H := hP
      have hD : va_D A [(o, mO ad nf mo), (ad 3, aI ca 64 (h_g g js0 (a0.toInt64, b0.toInt64, c0.toInt64, d0.toInt64))), (ad 8, a4 ca (a0.toInt64, b0.toInt64, c0.toInt64, d0.toInt64))] := hD
      exact k_iret ((h_g g js0 (a0.toInt64, b0.toInt64, c0.toInt64, d0.toInt64)), (a0.toInt64, b0.toInt64, c0.toInt64, d0.toInt64)) hx hb hr hlocks (by simp [m_set, c_4, c_8, nI_clamp (show js0 < 2 ^ 31 by omega)]) hP hD trivial hS (Nat.le_of_ble_eq_true rfl) (Nat.le_of_ble_eq_true rfl) dX5_set_71
    · have c_8 := bI_z0 c_8
      refine lv_bipush (v := (-2)) hx hb dX5_set_25 (by decide) ?_
      exact k_iret (g, x) hx hb hr hlocks (by simp [m_set, c_4, c_8, nI_clamp (show js0 < 2 ^ 31 by omega)]) hP hD trivial hS (Nat.le_of_ble_eq_true rfl) (Nat.le_of_ble_eq_true rfl) dX5_set_27
  · have c_4 := bI_z0 c_4
    refine lv_iconst (v := (-1)) hx hb dX5_set_7 (by decide) ?_
    exact k_iret (g, x) hx hb hr hlocks (by simp [m_set, c_4]) hP hD trivial hS (Nat.le_of_ble_eq_true rfl) (Nat.le_of_ble_eq_true rfl) dX5_set_8
