theorem alS_0 (n : Nat) (L : List Z4') : alS 0 n L = 0 := by
  induction L with
  | nil => rfl
  | cons q L ih => simp [alS, ih]
theorem getD_r {L K : List Z4'} {i : Nat} {z : Z4'} (h : L.length ≤ i) : (L ++ K).getD i z = K.getD (i - L.length) z := by
  rw [List.getD_eq_getElem?_getD, List.getD_eq_getElem?_getD, List.getElem?_append_right h]
set_option maxHeartbeats 4000000 in
set_option maxRecDepth 100000 in
theorem lp_X6_gy_c  {l : Launch} {D : va_G} {ca : Nat → ClassId} (lo : Nat) (n0 : Nat) (M : Nat) (T : Nat) (ww : Nat) (N : Int) (qq : Z4') (ya : Int) (yb : Int) (lf : Int) (R : List Z4') (hn0 : n0 ≤ 200) (hM28 : M ≤ 28) (hM0 : 4 * n0 < (M + 1) * (M + 1)) (hNn : N = 4 * (n0 : Int)) (hTb : T ≤ 2 ^ 20) (hww : ww < T) (hba : -(M : Int) ≤ ya ∧ ya ≤ M) (hbb : -(M : Int) ≤ yb ∧ yb ≤ M) (hlf : lf = N - ya * ya - yb * yb) {p : Program} {e : Env} {s : State} {m : MethodId} {below : List Frame} {meth : Method} {c : Code} {A : Nat → Prop} (hOut : ∀ (al : Nat), al ≤ ww → al + (R).length = T → (R).getD (ww - al) (0, 0, 0, 0) = qq → ∀ (H : Heap) (locs : List Loc) (ls : Array Slot), va_P D vwCl [(lo, .inr (5, [.int (nI n0), .int (nI M), .int (nI al), .int 0, .int (nI ww), .null]))] H → va_D A [(lo, .inr (5, [.int (nI n0), .int (nI M), .int (nI al), .int 0, .int (nI ww), .null]))] → va_S A s.heap H locs → lv_has ls 6 [(0, .ref lo), (1, .int 0), (2, .int (iZ ya)), (3, .int (iZ yb))] → W p l e ({ frames := 4, cells := 1, slots := 4, locals := 99 }) s m ([.ref lo, .int 0] : List Value).toArray below meth c H locs 0 0 (MQ below (qV D (fun (u : Nat) => True) (fun u => [(lo, .inr (5, [.int (nI n0), .int (nI M), .int (nI (ww + 1)), .int 0, .int (nI ww), .ref u])), (u, f4 (qz qq))]) (fun u H => True) A) ([.ref lo, .int 0] : List Value).toArray s 1 4 A) (F0 m 117 ls [])) (hx : p.tables.exec = Jvm.exec) (hb : c.code = cX6_go) (hr : meth.sig.returnType = none) (hts : ∀ w ∈ lw_all, w.before ([.ref lo, .int 0] : List Value).toArray s = true) (hown : s.vm.findClass yX6_go.cls = some m.cls) (hlocks : meth.locks = false) (hnm : meth.name = yX6_go.name) (hml : c.maxLocals = 6) (hK : va_K D vwCl (tysG ca) s) (hN : NW s) (hA : ∀ q, s.heap.size ≤ q → A q)  :
    ∀ (n : Nat) (yc : Int) (al : Nat), (-(M : Int) - 1 ≤ yc) → (yc ≤ M) → (al ≤ ww) → (al + (TC N M ya yb yc ++ R).length = T) → ((TC N M ya yb yc ++ R).getD (ww - al) (0, 0, 0, 0) = qq) → (yc + M + 1 < (n : Int)) →  ∀ (H : Heap) (locs : List Loc) (ls : Array Slot), va_P D vwCl [(lo, .inr (5, [.int (nI n0), .int (nI M), .int (nI al), .int 0, .int (nI ww), .null]))] H → va_D A [(lo, .inr (5, [.int (nI n0), .int (nI M), .int (nI al), .int 0, .int (nI ww), .null]))] → va_S A s.heap H locs → lv_has ls 6 [(5, .int (iZ yc)), (0, .ref lo), (1, .int 0), (2, .int (iZ ya)), (3, .int (iZ yb)), (4, .int (iZ lf))] → W p l e ({ frames := 4, cells := 1, slots := 4, locals := 99 }) s m ([.ref lo, .int 0] : List Value).toArray below meth c H locs 0 0 (MQ below (qV D (fun (u : Nat) => True) (fun u => [(lo, .inr (5, [.int (nI n0), .int (nI M), .int (nI (ww + 1)), .int 0, .int (nI ww), .ref u])), (u, f4 (qz qq))]) (fun u H => True) A) ([.ref lo, .int 0] : List Value).toArray s 1 4 A) (F0 m 64 ls []) := by
  intro n
  induction n with
  | zero =>
    intro yc al hc1 hc2 haw hT hq hfuel H locs ls hP hD hS hl 
    exact absurd hfuel (by omega)
  | succ n ih =>
    intro yc al hc1 hc2 haw hT hq hfuel H locs ls hP hD hS hl 
    have hk := NW_ok
    have hqa := sqz (a := ya) (by omega) (by omega)
    have hqb := sqz (a := yb) (by omega) (by omega)
    refine lv_iload hx hb dX6_go_64 (lv_at hl 0 rfl) ?_
    refine lv_aload_n hx hb dX6_go_66 rfl (lv_at hl 1 rfl) ?_
    refine va_get (D := D) (ci := 5) (v := .int (nI M)) (C := RX6) (T := TX6) (N := 6) hx hb hts in_X6 hown hK hP 0 rfl rfl 1 (by decide) (hts _ q510) (fun _ h9 => h9) rfl dX6_go_67 ?_
    refine lv_ineg hx hb dX6_go_70 ?_
    refine lv_topi (fun z_1 ez_1 => ?_)
    obtain rfl : z_1 = iZ (-((M : Nat) : Int)) := ez_1.trans (zneg (iZ_n _))
    refine lv_icmp_lt (tgt := 117) hx hb dX6_go_71 (by decide) (fun c_2 => ?_) (fun c_2 => ?_)
    · have c_2 := ltz_y (a := yc) (b := -((M : Nat) : Int)) rfl rfl (by omega) (by omega) c_2
      rw [TC_e (by omega), List.nil_append] at hT hq
      exact hOut al haw hT hq _ _ _ hP hD hS (lv_sub hl [1, 2, 3, 4] rfl)
    · have c_2 := ltz_no (a := yc) (b := -((M : Nat) : Int)) rfl rfl (by omega) (by omega) c_2
      refine lv_iload hx hb dX6_go_74 (lv_at hl 5 rfl) ?_
      refine lv_if_lt (tgt := 117) hx hb dX6_go_76 (by decide) (fun c_3 => ?_) (fun c_3 => ?_)
      · have c_3 := ltz_y (a := lf) (b := 0) rfl (by decide) (by omega) (by omega) c_3
        rw [TC_neg (by omega), List.nil_append] at hT hq
        exact hOut al haw hT hq _ _ _ hP hD hS (lv_sub hl [1, 2, 3, 4] rfl)
      · have c_3 := ltz_no (a := lf) (b := 0) rfl (by decide) (by omega) (by omega) c_3
        refine lv_iload_n hx hb dX6_go_79 rfl (lv_at hl 3 rfl) ?_
        refine lv_iload_n hx hb dX6_go_80 rfl (lv_at hl 4 rfl) ?_
        refine lv_isub hx hb dX6_go_81 ?_
        refine lv_topi (fun z_4 ez_4 => ?_)
        obtain rfl : z_4 = iZ (ya - yb) := ez_4.trans (zsub rfl rfl)
        refine lv_iconst (v := 2) hx hb dX6_go_82 (by decide) ?_
        refine lv_irem hx hb dX6_go_83 (by decide) ?_
        refine lv_topi (fun z_5 ez_5 => ?_)
        obtain rfl : z_5 = iZ (rm2 (ya - yb)) := ez_5.trans (remz2 rfl (by omega))
        have bz_5 := rm2_bd (ya - yb)
        refine lv_if_ne (tgt := 117) hx hb dX6_go_84 (by decide) (fun c_6 => ?_) (fun c_6 => ?_)
        · have c_6 := eqz_no (a := rm2 (ya - yb)) (b := 0) rfl (by decide) (by omega) (by omega) c_6
          rw [TC_par (fun z => c_6 ((rm2_0 _).mpr z)), List.nil_append] at hT hq
          exact hOut al haw hT hq _ _ _ hP hD hS (lv_sub hl [1, 2, 3, 4] rfl)
        · have c_6 := eqz_y (a := rm2 (ya - yb)) (b := 0) rfl (by decide) (by omega) (by omega) c_6
          refine lv_aload_n hx hb dX6_go_87 rfl (lv_at hl 1 rfl) ?_
          refine va_get (D := D) (ci := 5) (v := .null) (C := RX6) (T := TX6) (N := 6) hx hb hts in_X6 hown hK hP 0 rfl rfl 5 (by decide) (hts _ q515) (fun _ h9 => h9) rfl dX6_go_88 ?_
          refine lv_ifnonnullN hx hb dX6_go_91 ?_
          have hqc := sqz (a := yc) (by omega) (by omega)
          rw [TC_s (by omega), List.append_assoc] at hT hq
          rw [List.length_append, S3_len] at hT
          refine lv_aload_n hx hb dX6_go_94 rfl (lv_at hl 1 rfl) ?_
          refine lv_iload_n hx hb dX6_go_95 rfl (lv_at hl 3 rfl) ?_
          refine lv_iload_n hx hb dX6_go_96 rfl (lv_at hl 4 rfl) ?_
          refine lv_iload hx hb dX6_go_97 (lv_at hl 0 rfl) ?_
          refine lv_iload hx hb dX6_go_99 (lv_at hl 5 rfl) ?_
          refine lv_iload hx hb dX6_go_101 (lv_at hl 0 rfl) ?_
          refine lv_iload hx hb dX6_go_103 (lv_at hl 0 rfl) ?_
          refine lv_imul hx hb dX6_go_105 ?_
          refine lv_topi (fun z_7 ez_7 => ?_)
          obtain rfl : z_7 = iZ (yc * yc) := ez_7.trans (zmul rfl rfl)
          refine lv_isub hx hb dX6_go_106 ?_
          refine lv_topi (fun z_8 ez_8 => ?_)
          obtain rfl : z_8 = iZ (lf - (yc * yc)) := ez_8.trans (zsub rfl rfl)
          refine lv_iload_n hx hb dX6_go_107 rfl (lv_at hl 2 rfl) ?_
          rcases Nat.lt_or_ge ww (al + (ds N M ya yb yc).length) with hin | hin
          · refine k_callv (wr := []) (va_runV (As := [.int (iZ ya), .int (iZ yb), .int (iZ yc), .int (iZ (lf - (yc * yc))), .int 0]) (rest := []) ⟨hx, hb, hml, hown, hts⟩ (ct_X6_last_y l D ca H.size lo n0 M al 0 ww ya yb yc (lf - (yc * yc)) N hn0 (by omega) (by decide) (by omega) (by omega) (by omega) (by omega) (by omega) (by omega) ((rm2_0 _).mp c_6) (by rw [hNn]; omega) haw hin) (cwV 5 hts (lw_V q534 q536 qs4 q36 q537) rfl rfl rfl (by decide +kernel) ⟨Nat.le_of_ble_eq_true rfl, Nat.le_of_ble_eq_true rfl⟩) (k_preV hk hK hN hP hD [0] (by decide) rfl trivial hP rfl (q0 := 0) rfl) rfl rfl hl.1 rfl (lv_room (Nat.le_of_ble_eq_true rfl)) dX6_go_108 ⟨Nat.le_of_ble_eq_true rfl, Nat.le_of_ble_eq_true rfl⟩) hP hD hS hA [0] [] rfl rfl (by decide) (by decide) (fun u_10 H locs w_11 hP hD hxw_11 hzw_11 hqw_11 hS => ?_)
            have hP : va_P D vwCl [(lo, .inr (5, [.int (nI n0), .int (nI M), .int (nI (ww + 1)), .int 0, .int (nI ww), .ref u_10])), (u_10, f4 (qz ((S3 N M ya yb yc).getD (ww - al) (0, 0, 0, 0))))] H := hP
            have hD : va_D A [(lo, .inr (5, [.int (nI n0), .int (nI M), .int (nI (ww + 1)), .int 0, .int (nI ww), .ref u_10])), (u_10, f4 (qz ((S3 N M ya yb yc).getD (ww - al) (0, 0, 0, 0))))] := hD
            have hge : (S3 N M ya yb yc).getD (ww - al) (0, 0, 0, 0) = qq := by
              rw [← hq, List.getD_eq_getElem?_getD, List.getD_eq_getElem?_getD, List.getElem?_append_left (by rw [S3_len]; omega)]
            rw [hge] at hP hD
            have hP : va_P D vwCl [(lo, .inr (5, [.int (nI n0), .int (nI M), .int (nI (ww + 1)), .int 0, .int (nI ww), .ref u_10])), (u_10, f4 (qz qq))] H := hP
            have hD : va_D A [(lo, .inr (5, [.int (nI n0), .int (nI M), .int (nI (ww + 1)), .int 0, .int (nI ww), .ref u_10])), (u_10, f4 (qz qq))] := hD
            refine lv_iinc (v := iZ (yc - 1)) (lv' := [(5, .int (iZ (yc - 1))), (0, .ref lo), (1, .int 0), (2, .int (iZ ya)), (3, .int (iZ yb)), (4, .int (iZ lf))]) hx hb dX6_go_111 hl (k := 0) rfl ((zadd rfl (b := -1) (by decide)).trans (by rw [Int.sub_eq_add_neg])) (by decide) rfl (fun ls hl => ?_)
            refine lv_goto (tgt := 64) hx hb dX6_go_114 (by decide) ?_
            refine lv_iload hx hb dX6_go_64 (lv_at hl 0 rfl) ?_
            refine lv_aload_n hx hb dX6_go_66 rfl (lv_at hl 1 rfl) ?_
            refine va_get (D := D) (ci := 5) (v := .int (nI M)) (C := RX6) (T := TX6) (N := 6) hx hb hts in_X6 hown hK hP 0 rfl rfl 1 (by decide) (hts _ q510) (fun _ h9 => h9) rfl dX6_go_67 ?_
            refine lv_ineg hx hb dX6_go_70 ?_
            refine lv_topi (fun z_12 ez_12 => ?_)
            obtain rfl : z_12 = iZ (-((M : Nat) : Int)) := ez_12.trans (zneg (iZ_n _))
            refine lv_icmp_lt (tgt := 117) hx hb dX6_go_71 (by decide) (fun c_13 => ?_) (fun c_13 => ?_)
            · have c_13 := ltz_y (a := yc - 1) (b := -((M : Nat) : Int)) rfl rfl (by omega) (by omega) c_13
              refine lv_iinc (v := iZ (yb - 1)) (lv' := [(3, .int (iZ (yb - 1))), (5, .int (iZ (yc - 1))), (0, .ref lo), (1, .int 0), (2, .int (iZ ya)), (4, .int (iZ lf))]) hx hb dX6_go_117 hl (k := 4) rfl ((zadd rfl (b := -1) (by decide)).trans (by rw [Int.sub_eq_add_neg])) (by decide) rfl (fun ls hl => ?_)
              refine lv_goto (tgt := 26) hx hb dX6_go_120 (by decide) ?_
              refine lv_iload_n hx hb dX6_go_26 rfl (lv_at hl 0 rfl) ?_
              refine lv_aload_n hx hb dX6_go_27 rfl (lv_at hl 2 rfl) ?_
              refine va_get (D := D) (ci := 5) (v := .int (nI M)) (C := RX6) (T := TX6) (N := 6) hx hb hts in_X6 hown hK hP 0 rfl rfl 1 (by decide) (hts _ q510) (fun _ h9 => h9) rfl dX6_go_28 ?_
              refine lv_ineg hx hb dX6_go_31 ?_
              refine lv_topi (fun z_14 ez_14 => ?_)
              obtain rfl : z_14 = iZ (-((M : Nat) : Int)) := ez_14.trans (zneg (iZ_n _))
              refine lv_icmp_lt (tgt := 123) hx hb dX6_go_32 (by decide) (fun c_15 => ?_) (fun c_15 => ?_)
              · have c_15 := ltz_y (a := yb - 1) (b := -((M : Nat) : Int)) rfl rfl (by omega) (by omega) c_15
                refine lv_iinc (v := iZ (ya - 1)) (lv' := [(2, .int (iZ (ya - 1))), (3, .int (iZ (yb - 1))), (5, .int (iZ (yc - 1))), (0, .ref lo), (1, .int 0), (4, .int (iZ lf))]) hx hb dX6_go_123 hl (k := 4) rfl ((zadd rfl (b := -1) (by decide)).trans (by rw [Int.sub_eq_add_neg])) (by decide) rfl (fun ls hl => ?_)
                refine lv_goto (tgt := 5) hx hb dX6_go_126 (by decide) ?_
                refine lv_iload_n hx hb dX6_go_5 rfl (lv_at hl 0 rfl) ?_
                refine lv_aload_n hx hb dX6_go_6 rfl (lv_at hl 3 rfl) ?_
                refine va_get (D := D) (ci := 5) (v := .int (nI M)) (C := RX6) (T := TX6) (N := 6) hx hb hts in_X6 hown hK hP 0 rfl rfl 1 (by decide) (hts _ q510) (fun _ h9 => h9) rfl dX6_go_7 ?_
                refine lv_ineg hx hb dX6_go_10 ?_
                refine lv_topi (fun z_16 ez_16 => ?_)
                obtain rfl : z_16 = iZ (-((M : Nat) : Int)) := ez_16.trans (zneg (iZ_n _))
                refine lv_icmp_lt (tgt := 129) hx hb dX6_go_11 (by decide) (fun c_17 => ?_) (fun c_17 => ?_)
                · have c_17 := ltz_y (a := ya - 1) (b := -((M : Nat) : Int)) rfl rfl (by omega) (by omega) c_17
                  exact k_vret u_10 hx hb hr hlocks (trivial) hP hD trivial hS (Nat.le_of_ble_eq_true rfl) (Nat.le_of_ble_eq_true rfl) dX6_go_129
                · have c_17 := ltz_no (a := ya - 1) (b := -((M : Nat) : Int)) rfl rfl (by omega) (by omega) c_17
                  refine lv_aload_n hx hb dX6_go_14 rfl (lv_at hl 3 rfl) ?_
                  refine va_get (D := D) (ci := 5) (v := .ref u_10) (C := RX6) (T := TX6) (N := 6) hx hb hts in_X6 hown hK hP 0 rfl rfl 5 (by decide) (hts _ q515) (fun _ h9 => h9) rfl dX6_go_15 ?_
                  refine lv_ifnonnull (tgt := 129) hx hb dX6_go_18 (by decide) ?_
                  exact k_vret u_10 hx hb hr hlocks (trivial) hP hD trivial hS (Nat.le_of_ble_eq_true rfl) (Nat.le_of_ble_eq_true rfl) dX6_go_129
              · have c_15 := ltz_no (a := yb - 1) (b := -((M : Nat) : Int)) rfl rfl (by omega) (by omega) c_15
                refine lv_aload_n hx hb dX6_go_35 rfl (lv_at hl 2 rfl) ?_
                refine va_get (D := D) (ci := 5) (v := .ref u_10) (C := RX6) (T := TX6) (N := 6) hx hb hts in_X6 hown hK hP 0 rfl rfl 5 (by decide) (hts _ q515) (fun _ h9 => h9) rfl dX6_go_36 ?_
                refine lv_ifnonnull (tgt := 123) hx hb dX6_go_39 (by decide) ?_
                refine lv_iinc (v := iZ (ya - 1)) (lv' := [(2, .int (iZ (ya - 1))), (3, .int (iZ (yb - 1))), (5, .int (iZ (yc - 1))), (0, .ref lo), (1, .int 0), (4, .int (iZ lf))]) hx hb dX6_go_123 hl (k := 4) rfl ((zadd rfl (b := -1) (by decide)).trans (by rw [Int.sub_eq_add_neg])) (by decide) rfl (fun ls hl => ?_)
                refine lv_goto (tgt := 5) hx hb dX6_go_126 (by decide) ?_
                refine lv_iload_n hx hb dX6_go_5 rfl (lv_at hl 0 rfl) ?_
                refine lv_aload_n hx hb dX6_go_6 rfl (lv_at hl 3 rfl) ?_
                refine va_get (D := D) (ci := 5) (v := .int (nI M)) (C := RX6) (T := TX6) (N := 6) hx hb hts in_X6 hown hK hP 0 rfl rfl 1 (by decide) (hts _ q510) (fun _ h9 => h9) rfl dX6_go_7 ?_
                refine lv_ineg hx hb dX6_go_10 ?_
                refine lv_topi (fun z_18 ez_18 => ?_)
                obtain rfl : z_18 = iZ (-((M : Nat) : Int)) := ez_18.trans (zneg (iZ_n _))
                refine lv_icmp_lt (tgt := 129) hx hb dX6_go_11 (by decide) (fun c_19 => ?_) (fun c_19 => ?_)
                · have c_19 := ltz_y (a := ya - 1) (b := -((M : Nat) : Int)) rfl rfl (by omega) (by omega) c_19
                  exact k_vret u_10 hx hb hr hlocks (trivial) hP hD trivial hS (Nat.le_of_ble_eq_true rfl) (Nat.le_of_ble_eq_true rfl) dX6_go_129
                · have c_19 := ltz_no (a := ya - 1) (b := -((M : Nat) : Int)) rfl rfl (by omega) (by omega) c_19
                  refine lv_aload_n hx hb dX6_go_14 rfl (lv_at hl 3 rfl) ?_
                  refine va_get (D := D) (ci := 5) (v := .ref u_10) (C := RX6) (T := TX6) (N := 6) hx hb hts in_X6 hown hK hP 0 rfl rfl 5 (by decide) (hts _ q515) (fun _ h9 => h9) rfl dX6_go_15 ?_
                  refine lv_ifnonnull (tgt := 129) hx hb dX6_go_18 (by decide) ?_
                  exact k_vret u_10 hx hb hr hlocks (trivial) hP hD trivial hS (Nat.le_of_ble_eq_true rfl) (Nat.le_of_ble_eq_true rfl) dX6_go_129
            · have c_13 := ltz_no (a := yc - 1) (b := -((M : Nat) : Int)) rfl rfl (by omega) (by omega) c_13
              refine lv_iload hx hb dX6_go_74 (lv_at hl 5 rfl) ?_
              refine lv_if_lt (tgt := 117) hx hb dX6_go_76 (by decide) (fun c_20 => ?_) (fun c_20 => ?_)
              · have c_20 := ltz_y (a := lf) (b := 0) rfl (by decide) (by omega) (by omega) c_20
                refine lv_iinc (v := iZ (yb - 1)) (lv' := [(3, .int (iZ (yb - 1))), (5, .int (iZ (yc - 1))), (0, .ref lo), (1, .int 0), (2, .int (iZ ya)), (4, .int (iZ lf))]) hx hb dX6_go_117 hl (k := 4) rfl ((zadd rfl (b := -1) (by decide)).trans (by rw [Int.sub_eq_add_neg])) (by decide) rfl (fun ls hl => ?_)
                refine lv_goto (tgt := 26) hx hb dX6_go_120 (by decide) ?_
                refine lv_iload_n hx hb dX6_go_26 rfl (lv_at hl 0 rfl) ?_
                refine lv_aload_n hx hb dX6_go_27 rfl (lv_at hl 2 rfl) ?_
                refine va_get (D := D) (ci := 5) (v := .int (nI M)) (C := RX6) (T := TX6) (N := 6) hx hb hts in_X6 hown hK hP 0 rfl rfl 1 (by decide) (hts _ q510) (fun _ h9 => h9) rfl dX6_go_28 ?_
                refine lv_ineg hx hb dX6_go_31 ?_
                refine lv_topi (fun z_21 ez_21 => ?_)
                obtain rfl : z_21 = iZ (-((M : Nat) : Int)) := ez_21.trans (zneg (iZ_n _))
                refine lv_icmp_lt (tgt := 123) hx hb dX6_go_32 (by decide) (fun c_22 => ?_) (fun c_22 => ?_)
                · have c_22 := ltz_y (a := yb - 1) (b := -((M : Nat) : Int)) rfl rfl (by omega) (by omega) c_22
                  refine lv_iinc (v := iZ (ya - 1)) (lv' := [(2, .int (iZ (ya - 1))), (3, .int (iZ (yb - 1))), (5, .int (iZ (yc - 1))), (0, .ref lo), (1, .int 0), (4, .int (iZ lf))]) hx hb dX6_go_123 hl (k := 4) rfl ((zadd rfl (b := -1) (by decide)).trans (by rw [Int.sub_eq_add_neg])) (by decide) rfl (fun ls hl => ?_)
                  refine lv_goto (tgt := 5) hx hb dX6_go_126 (by decide) ?_
                  refine lv_iload_n hx hb dX6_go_5 rfl (lv_at hl 0 rfl) ?_
                  refine lv_aload_n hx hb dX6_go_6 rfl (lv_at hl 3 rfl) ?_
                  refine va_get (D := D) (ci := 5) (v := .int (nI M)) (C := RX6) (T := TX6) (N := 6) hx hb hts in_X6 hown hK hP 0 rfl rfl 1 (by decide) (hts _ q510) (fun _ h9 => h9) rfl dX6_go_7 ?_
                  refine lv_ineg hx hb dX6_go_10 ?_
                  refine lv_topi (fun z_23 ez_23 => ?_)
                  obtain rfl : z_23 = iZ (-((M : Nat) : Int)) := ez_23.trans (zneg (iZ_n _))
                  refine lv_icmp_lt (tgt := 129) hx hb dX6_go_11 (by decide) (fun c_24 => ?_) (fun c_24 => ?_)
                  · have c_24 := ltz_y (a := ya - 1) (b := -((M : Nat) : Int)) rfl rfl (by omega) (by omega) c_24
                    exact k_vret u_10 hx hb hr hlocks (trivial) hP hD trivial hS (Nat.le_of_ble_eq_true rfl) (Nat.le_of_ble_eq_true rfl) dX6_go_129
                  · have c_24 := ltz_no (a := ya - 1) (b := -((M : Nat) : Int)) rfl rfl (by omega) (by omega) c_24
                    refine lv_aload_n hx hb dX6_go_14 rfl (lv_at hl 3 rfl) ?_
                    refine va_get (D := D) (ci := 5) (v := .ref u_10) (C := RX6) (T := TX6) (N := 6) hx hb hts in_X6 hown hK hP 0 rfl rfl 5 (by decide) (hts _ q515) (fun _ h9 => h9) rfl dX6_go_15 ?_
                    refine lv_ifnonnull (tgt := 129) hx hb dX6_go_18 (by decide) ?_
                    exact k_vret u_10 hx hb hr hlocks (trivial) hP hD trivial hS (Nat.le_of_ble_eq_true rfl) (Nat.le_of_ble_eq_true rfl) dX6_go_129
                · have c_22 := ltz_no (a := yb - 1) (b := -((M : Nat) : Int)) rfl rfl (by omega) (by omega) c_22
                  refine lv_aload_n hx hb dX6_go_35 rfl (lv_at hl 2 rfl) ?_
                  refine va_get (D := D) (ci := 5) (v := .ref u_10) (C := RX6) (T := TX6) (N := 6) hx hb hts in_X6 hown hK hP 0 rfl rfl 5 (by decide) (hts _ q515) (fun _ h9 => h9) rfl dX6_go_36 ?_
                  refine lv_ifnonnull (tgt := 123) hx hb dX6_go_39 (by decide) ?_
                  refine lv_iinc (v := iZ (ya - 1)) (lv' := [(2, .int (iZ (ya - 1))), (3, .int (iZ (yb - 1))), (5, .int (iZ (yc - 1))), (0, .ref lo), (1, .int 0), (4, .int (iZ lf))]) hx hb dX6_go_123 hl (k := 4) rfl ((zadd rfl (b := -1) (by decide)).trans (by rw [Int.sub_eq_add_neg])) (by decide) rfl (fun ls hl => ?_)
                  refine lv_goto (tgt := 5) hx hb dX6_go_126 (by decide) ?_
                  refine lv_iload_n hx hb dX6_go_5 rfl (lv_at hl 0 rfl) ?_
                  refine lv_aload_n hx hb dX6_go_6 rfl (lv_at hl 3 rfl) ?_
                  refine va_get (D := D) (ci := 5) (v := .int (nI M)) (C := RX6) (T := TX6) (N := 6) hx hb hts in_X6 hown hK hP 0 rfl rfl 1 (by decide) (hts _ q510) (fun _ h9 => h9) rfl dX6_go_7 ?_
                  refine lv_ineg hx hb dX6_go_10 ?_
                  refine lv_topi (fun z_25 ez_25 => ?_)
                  obtain rfl : z_25 = iZ (-((M : Nat) : Int)) := ez_25.trans (zneg (iZ_n _))
                  refine lv_icmp_lt (tgt := 129) hx hb dX6_go_11 (by decide) (fun c_26 => ?_) (fun c_26 => ?_)
                  · have c_26 := ltz_y (a := ya - 1) (b := -((M : Nat) : Int)) rfl rfl (by omega) (by omega) c_26
                    exact k_vret u_10 hx hb hr hlocks (trivial) hP hD trivial hS (Nat.le_of_ble_eq_true rfl) (Nat.le_of_ble_eq_true rfl) dX6_go_129
                  · have c_26 := ltz_no (a := ya - 1) (b := -((M : Nat) : Int)) rfl rfl (by omega) (by omega) c_26
                    refine lv_aload_n hx hb dX6_go_14 rfl (lv_at hl 3 rfl) ?_
                    refine va_get (D := D) (ci := 5) (v := .ref u_10) (C := RX6) (T := TX6) (N := 6) hx hb hts in_X6 hown hK hP 0 rfl rfl 5 (by decide) (hts _ q515) (fun _ h9 => h9) rfl dX6_go_15 ?_
                    refine lv_ifnonnull (tgt := 129) hx hb dX6_go_18 (by decide) ?_
                    exact k_vret u_10 hx hb hr hlocks (trivial) hP hD trivial hS (Nat.le_of_ble_eq_true rfl) (Nat.le_of_ble_eq_true rfl) dX6_go_129
              · have c_20 := ltz_no (a := lf) (b := 0) rfl (by decide) (by omega) (by omega) c_20
                refine lv_iload_n hx hb dX6_go_79 rfl (lv_at hl 3 rfl) ?_
                refine lv_iload_n hx hb dX6_go_80 rfl (lv_at hl 4 rfl) ?_
                refine lv_isub hx hb dX6_go_81 ?_
                refine lv_topi (fun z_27 ez_27 => ?_)
                obtain rfl : z_27 = iZ (ya - yb) := ez_27.trans (zsub rfl rfl)
                refine lv_iconst (v := 2) hx hb dX6_go_82 (by decide) ?_
                refine lv_irem hx hb dX6_go_83 (by decide) ?_
                refine lv_topi (fun z_28 ez_28 => ?_)
                obtain rfl : z_28 = iZ (rm2 (ya - yb)) := ez_28.trans (remz2 rfl (by omega))
                have bz_28 := rm2_bd (ya - yb)
                refine lv_if_ne (tgt := 117) hx hb dX6_go_84 (by decide) (fun c_29 => ?_) (fun c_29 => ?_)
                · have c_29 := eqz_no (a := rm2 (ya - yb)) (b := 0) rfl (by decide) (by omega) (by omega) c_29
                  refine lv_iinc (v := iZ (yb - 1)) (lv' := [(3, .int (iZ (yb - 1))), (5, .int (iZ (yc - 1))), (0, .ref lo), (1, .int 0), (2, .int (iZ ya)), (4, .int (iZ lf))]) hx hb dX6_go_117 hl (k := 4) rfl ((zadd rfl (b := -1) (by decide)).trans (by rw [Int.sub_eq_add_neg])) (by decide) rfl (fun ls hl => ?_)
                  refine lv_goto (tgt := 26) hx hb dX6_go_120 (by decide) ?_
                  refine lv_iload_n hx hb dX6_go_26 rfl (lv_at hl 0 rfl) ?_
                  refine lv_aload_n hx hb dX6_go_27 rfl (lv_at hl 2 rfl) ?_
                  refine va_get (D := D) (ci := 5) (v := .int (nI M)) (C := RX6) (T := TX6) (N := 6) hx hb hts in_X6 hown hK hP 0 rfl rfl 1 (by decide) (hts _ q510) (fun _ h9 => h9) rfl dX6_go_28 ?_
                  refine lv_ineg hx hb dX6_go_31 ?_
                  refine lv_topi (fun z_30 ez_30 => ?_)
                  obtain rfl : z_30 = iZ (-((M : Nat) : Int)) := ez_30.trans (zneg (iZ_n _))
                  refine lv_icmp_lt (tgt := 123) hx hb dX6_go_32 (by decide) (fun c_31 => ?_) (fun c_31 => ?_)
                  · have c_31 := ltz_y (a := yb - 1) (b := -((M : Nat) : Int)) rfl rfl (by omega) (by omega) c_31
                    refine lv_iinc (v := iZ (ya - 1)) (lv' := [(2, .int (iZ (ya - 1))), (3, .int (iZ (yb - 1))), (5, .int (iZ (yc - 1))), (0, .ref lo), (1, .int 0), (4, .int (iZ lf))]) hx hb dX6_go_123 hl (k := 4) rfl ((zadd rfl (b := -1) (by decide)).trans (by rw [Int.sub_eq_add_neg])) (by decide) rfl (fun ls hl => ?_)
                    refine lv_goto (tgt := 5) hx hb dX6_go_126 (by decide) ?_
                    refine lv_iload_n hx hb dX6_go_5 rfl (lv_at hl 0 rfl) ?_
                    refine lv_aload_n hx hb dX6_go_6 rfl (lv_at hl 3 rfl) ?_
                    refine va_get (D := D) (ci := 5) (v := .int (nI M)) (C := RX6) (T := TX6) (N := 6) hx hb hts in_X6 hown hK hP 0 rfl rfl 1 (by decide) (hts _ q510) (fun _ h9 => h9) rfl dX6_go_7 ?_
                    refine lv_ineg hx hb dX6_go_10 ?_
                    refine lv_topi (fun z_32 ez_32 => ?_)
                    obtain rfl : z_32 = iZ (-((M : Nat) : Int)) := ez_32.trans (zneg (iZ_n _))
                    refine lv_icmp_lt (tgt := 129) hx hb dX6_go_11 (by decide) (fun c_33 => ?_) (fun c_33 => ?_)
                    · have c_33 := ltz_y (a := ya - 1) (b := -((M : Nat) : Int)) rfl rfl (by omega) (by omega) c_33
                      exact k_vret u_10 hx hb hr hlocks (trivial) hP hD trivial hS (Nat.le_of_ble_eq_true rfl) (Nat.le_of_ble_eq_true rfl) dX6_go_129
                    · have c_33 := ltz_no (a := ya - 1) (b := -((M : Nat) : Int)) rfl rfl (by omega) (by omega) c_33
                      refine lv_aload_n hx hb dX6_go_14 rfl (lv_at hl 3 rfl) ?_
                      refine va_get (D := D) (ci := 5) (v := .ref u_10) (C := RX6) (T := TX6) (N := 6) hx hb hts in_X6 hown hK hP 0 rfl rfl 5 (by decide) (hts _ q515) (fun _ h9 => h9) rfl dX6_go_15 ?_
                      refine lv_ifnonnull (tgt := 129) hx hb dX6_go_18 (by decide) ?_
                      exact k_vret u_10 hx hb hr hlocks (trivial) hP hD trivial hS (Nat.le_of_ble_eq_true rfl) (Nat.le_of_ble_eq_true rfl) dX6_go_129
                  · have c_31 := ltz_no (a := yb - 1) (b := -((M : Nat) : Int)) rfl rfl (by omega) (by omega) c_31
                    refine lv_aload_n hx hb dX6_go_35 rfl (lv_at hl 2 rfl) ?_
                    refine va_get (D := D) (ci := 5) (v := .ref u_10) (C := RX6) (T := TX6) (N := 6) hx hb hts in_X6 hown hK hP 0 rfl rfl 5 (by decide) (hts _ q515) (fun _ h9 => h9) rfl dX6_go_36 ?_
                    refine lv_ifnonnull (tgt := 123) hx hb dX6_go_39 (by decide) ?_
                    refine lv_iinc (v := iZ (ya - 1)) (lv' := [(2, .int (iZ (ya - 1))), (3, .int (iZ (yb - 1))), (5, .int (iZ (yc - 1))), (0, .ref lo), (1, .int 0), (4, .int (iZ lf))]) hx hb dX6_go_123 hl (k := 4) rfl ((zadd rfl (b := -1) (by decide)).trans (by rw [Int.sub_eq_add_neg])) (by decide) rfl (fun ls hl => ?_)
                    refine lv_goto (tgt := 5) hx hb dX6_go_126 (by decide) ?_
                    refine lv_iload_n hx hb dX6_go_5 rfl (lv_at hl 0 rfl) ?_
                    refine lv_aload_n hx hb dX6_go_6 rfl (lv_at hl 3 rfl) ?_
                    refine va_get (D := D) (ci := 5) (v := .int (nI M)) (C := RX6) (T := TX6) (N := 6) hx hb hts in_X6 hown hK hP 0 rfl rfl 1 (by decide) (hts _ q510) (fun _ h9 => h9) rfl dX6_go_7 ?_
                    refine lv_ineg hx hb dX6_go_10 ?_
                    refine lv_topi (fun z_34 ez_34 => ?_)
                    obtain rfl : z_34 = iZ (-((M : Nat) : Int)) := ez_34.trans (zneg (iZ_n _))
                    refine lv_icmp_lt (tgt := 129) hx hb dX6_go_11 (by decide) (fun c_35 => ?_) (fun c_35 => ?_)
                    · have c_35 := ltz_y (a := ya - 1) (b := -((M : Nat) : Int)) rfl rfl (by omega) (by omega) c_35
                      exact k_vret u_10 hx hb hr hlocks (trivial) hP hD trivial hS (Nat.le_of_ble_eq_true rfl) (Nat.le_of_ble_eq_true rfl) dX6_go_129
                    · have c_35 := ltz_no (a := ya - 1) (b := -((M : Nat) : Int)) rfl rfl (by omega) (by omega) c_35
                      refine lv_aload_n hx hb dX6_go_14 rfl (lv_at hl 3 rfl) ?_
                      refine va_get (D := D) (ci := 5) (v := .ref u_10) (C := RX6) (T := TX6) (N := 6) hx hb hts in_X6 hown hK hP 0 rfl rfl 5 (by decide) (hts _ q515) (fun _ h9 => h9) rfl dX6_go_15 ?_
                      refine lv_ifnonnull (tgt := 129) hx hb dX6_go_18 (by decide) ?_
                      exact k_vret u_10 hx hb hr hlocks (trivial) hP hD trivial hS (Nat.le_of_ble_eq_true rfl) (Nat.le_of_ble_eq_true rfl) dX6_go_129
                · have c_29 := eqz_y (a := rm2 (ya - yb)) (b := 0) rfl (by decide) (by omega) (by omega) c_29
                  refine lv_aload_n hx hb dX6_go_87 rfl (lv_at hl 1 rfl) ?_
                  refine va_get (D := D) (ci := 5) (v := .ref u_10) (C := RX6) (T := TX6) (N := 6) hx hb hts in_X6 hown hK hP 0 rfl rfl 5 (by decide) (hts _ q515) (fun _ h9 => h9) rfl dX6_go_88 ?_
                  refine lv_ifnonnull (tgt := 117) hx hb dX6_go_91 (by decide) ?_
                  refine lv_iinc (v := iZ (yb - 1)) (lv' := [(3, .int (iZ (yb - 1))), (5, .int (iZ (yc - 1))), (0, .ref lo), (1, .int 0), (2, .int (iZ ya)), (4, .int (iZ lf))]) hx hb dX6_go_117 hl (k := 4) rfl ((zadd rfl (b := -1) (by decide)).trans (by rw [Int.sub_eq_add_neg])) (by decide) rfl (fun ls hl => ?_)
                  refine lv_goto (tgt := 26) hx hb dX6_go_120 (by decide) ?_
                  refine lv_iload_n hx hb dX6_go_26 rfl (lv_at hl 0 rfl) ?_
                  refine lv_aload_n hx hb dX6_go_27 rfl (lv_at hl 2 rfl) ?_
                  refine va_get (D := D) (ci := 5) (v := .int (nI M)) (C := RX6) (T := TX6) (N := 6) hx hb hts in_X6 hown hK hP 0 rfl rfl 1 (by decide) (hts _ q510) (fun _ h9 => h9) rfl dX6_go_28 ?_
                  refine lv_ineg hx hb dX6_go_31 ?_
                  refine lv_topi (fun z_36 ez_36 => ?_)
                  obtain rfl : z_36 = iZ (-((M : Nat) : Int)) := ez_36.trans (zneg (iZ_n _))
                  refine lv_icmp_lt (tgt := 123) hx hb dX6_go_32 (by decide) (fun c_37 => ?_) (fun c_37 => ?_)
                  · have c_37 := ltz_y (a := yb - 1) (b := -((M : Nat) : Int)) rfl rfl (by omega) (by omega) c_37
                    refine lv_iinc (v := iZ (ya - 1)) (lv' := [(2, .int (iZ (ya - 1))), (3, .int (iZ (yb - 1))), (5, .int (iZ (yc - 1))), (0, .ref lo), (1, .int 0), (4, .int (iZ lf))]) hx hb dX6_go_123 hl (k := 4) rfl ((zadd rfl (b := -1) (by decide)).trans (by rw [Int.sub_eq_add_neg])) (by decide) rfl (fun ls hl => ?_)
                    refine lv_goto (tgt := 5) hx hb dX6_go_126 (by decide) ?_
                    refine lv_iload_n hx hb dX6_go_5 rfl (lv_at hl 0 rfl) ?_
                    refine lv_aload_n hx hb dX6_go_6 rfl (lv_at hl 3 rfl) ?_
                    refine va_get (D := D) (ci := 5) (v := .int (nI M)) (C := RX6) (T := TX6) (N := 6) hx hb hts in_X6 hown hK hP 0 rfl rfl 1 (by decide) (hts _ q510) (fun _ h9 => h9) rfl dX6_go_7 ?_
                    refine lv_ineg hx hb dX6_go_10 ?_
                    refine lv_topi (fun z_38 ez_38 => ?_)
                    obtain rfl : z_38 = iZ (-((M : Nat) : Int)) := ez_38.trans (zneg (iZ_n _))
                    refine lv_icmp_lt (tgt := 129) hx hb dX6_go_11 (by decide) (fun c_39 => ?_) (fun c_39 => ?_)
                    · have c_39 := ltz_y (a := ya - 1) (b := -((M : Nat) : Int)) rfl rfl (by omega) (by omega) c_39
                      exact k_vret u_10 hx hb hr hlocks (trivial) hP hD trivial hS (Nat.le_of_ble_eq_true rfl) (Nat.le_of_ble_eq_true rfl) dX6_go_129
                    · have c_39 := ltz_no (a := ya - 1) (b := -((M : Nat) : Int)) rfl rfl (by omega) (by omega) c_39
                      refine lv_aload_n hx hb dX6_go_14 rfl (lv_at hl 3 rfl) ?_
                      refine va_get (D := D) (ci := 5) (v := .ref u_10) (C := RX6) (T := TX6) (N := 6) hx hb hts in_X6 hown hK hP 0 rfl rfl 5 (by decide) (hts _ q515) (fun _ h9 => h9) rfl dX6_go_15 ?_
                      refine lv_ifnonnull (tgt := 129) hx hb dX6_go_18 (by decide) ?_
                      exact k_vret u_10 hx hb hr hlocks (trivial) hP hD trivial hS (Nat.le_of_ble_eq_true rfl) (Nat.le_of_ble_eq_true rfl) dX6_go_129
                  · have c_37 := ltz_no (a := yb - 1) (b := -((M : Nat) : Int)) rfl rfl (by omega) (by omega) c_37
                    refine lv_aload_n hx hb dX6_go_35 rfl (lv_at hl 2 rfl) ?_
                    refine va_get (D := D) (ci := 5) (v := .ref u_10) (C := RX6) (T := TX6) (N := 6) hx hb hts in_X6 hown hK hP 0 rfl rfl 5 (by decide) (hts _ q515) (fun _ h9 => h9) rfl dX6_go_36 ?_
                    refine lv_ifnonnull (tgt := 123) hx hb dX6_go_39 (by decide) ?_
                    refine lv_iinc (v := iZ (ya - 1)) (lv' := [(2, .int (iZ (ya - 1))), (3, .int (iZ (yb - 1))), (5, .int (iZ (yc - 1))), (0, .ref lo), (1, .int 0), (4, .int (iZ lf))]) hx hb dX6_go_123 hl (k := 4) rfl ((zadd rfl (b := -1) (by decide)).trans (by rw [Int.sub_eq_add_neg])) (by decide) rfl (fun ls hl => ?_)
                    refine lv_goto (tgt := 5) hx hb dX6_go_126 (by decide) ?_
                    refine lv_iload_n hx hb dX6_go_5 rfl (lv_at hl 0 rfl) ?_
                    refine lv_aload_n hx hb dX6_go_6 rfl (lv_at hl 3 rfl) ?_
                    refine va_get (D := D) (ci := 5) (v := .int (nI M)) (C := RX6) (T := TX6) (N := 6) hx hb hts in_X6 hown hK hP 0 rfl rfl 1 (by decide) (hts _ q510) (fun _ h9 => h9) rfl dX6_go_7 ?_
                    refine lv_ineg hx hb dX6_go_10 ?_
                    refine lv_topi (fun z_40 ez_40 => ?_)
                    obtain rfl : z_40 = iZ (-((M : Nat) : Int)) := ez_40.trans (zneg (iZ_n _))
                    refine lv_icmp_lt (tgt := 129) hx hb dX6_go_11 (by decide) (fun c_41 => ?_) (fun c_41 => ?_)
                    · have c_41 := ltz_y (a := ya - 1) (b := -((M : Nat) : Int)) rfl rfl (by omega) (by omega) c_41
                      exact k_vret u_10 hx hb hr hlocks (trivial) hP hD trivial hS (Nat.le_of_ble_eq_true rfl) (Nat.le_of_ble_eq_true rfl) dX6_go_129
                    · have c_41 := ltz_no (a := ya - 1) (b := -((M : Nat) : Int)) rfl rfl (by omega) (by omega) c_41
                      refine lv_aload_n hx hb dX6_go_14 rfl (lv_at hl 3 rfl) ?_
                      refine va_get (D := D) (ci := 5) (v := .ref u_10) (C := RX6) (T := TX6) (N := 6) hx hb hts in_X6 hown hK hP 0 rfl rfl 5 (by decide) (hts _ q515) (fun _ h9 => h9) rfl dX6_go_15 ?_
                      refine lv_ifnonnull (tgt := 129) hx hb dX6_go_18 (by decide) ?_
                      exact k_vret u_10 hx hb hr hlocks (trivial) hP hD trivial hS (Nat.le_of_ble_eq_true rfl) (Nat.le_of_ble_eq_true rfl) dX6_go_129
          · refine k_callv (wr := []) (va_runV (As := [.int (iZ ya), .int (iZ yb), .int (iZ yc), .int (iZ (lf - (yc * yc))), .int 0]) (rest := []) ⟨hx, hb, hml, hown, hts⟩ (ct_X6_last_n0 l D ca H.size lo n0 M al 0 (nI ww) ya yb yc (lf - (yc * yc)) N hn0 (by omega) (by decide) (by omega) (by omega) (by omega) (by omega) (by omega) (by omega) ((rm2_0 _).mp c_6) (by rw [hNn]; omega) (fun k hk9 z => absurd (eq_y (a := al + k) (b := ww) rfl rfl (by omega) (by omega) z) (by omega))) (cwV 5 hts (lw_V q534 q536 qs4 q36 q537) rfl rfl rfl (by decide +kernel) ⟨Nat.le_of_ble_eq_true rfl, Nat.le_of_ble_eq_true rfl⟩) (k_preV hk hK hN hP hD [0] (by decide) rfl trivial hP rfl (q0 := 0) rfl) rfl rfl hl.1 rfl (lv_room (Nat.le_of_ble_eq_true rfl)) dX6_go_108 ⟨Nat.le_of_ble_eq_true rfl, Nat.le_of_ble_eq_true rfl⟩) hP hD hS hA [0] [] rfl rfl (by decide) (by decide) (fun u_43 H locs w_44 hP hD hxw_44 hzw_44 hqw_44 hS => ?_)
            have hP : va_P D vwCl [(lo, .inr (5, [.int (nI n0), .int (nI M), .int (nI (al + (ds N M ya yb yc).length)), .int (nI (0 + alS 0 n0 (S3 N M ya yb yc))), .int (nI ww), .null]))] H := hP
            have hD : va_D A [(lo, .inr (5, [.int (nI n0), .int (nI M), .int (nI (al + (ds N M ya yb yc).length)), .int (nI (0 + alS 0 n0 (S3 N M ya yb yc))), .int (nI ww), .null]))] := hD
            rw [show nI (0 + alS 0 n0 (S3 N M ya yb yc)) = 0 from by rw [alS_0]; rfl] at hP hD
            have hP : va_P D vwCl [(lo, .inr (5, [.int (nI n0), .int (nI M), .int (nI (al + (ds N M ya yb yc).length)), .int 0, .int (nI ww), .null]))] H := hP
            have hD : va_D A [(lo, .inr (5, [.int (nI n0), .int (nI M), .int (nI (al + (ds N M ya yb yc).length)), .int 0, .int (nI ww), .null]))] := hD
            refine lv_iinc (v := iZ (yc - 1)) (lv' := [(5, .int (iZ (yc - 1))), (0, .ref lo), (1, .int 0), (2, .int (iZ ya)), (3, .int (iZ yb)), (4, .int (iZ lf))]) hx hb dX6_go_111 hl (k := 0) rfl ((zadd rfl (b := -1) (by decide)).trans (by rw [Int.sub_eq_add_neg])) (by decide) rfl (fun ls hl => ?_)
            refine lv_goto (tgt := 64) hx hb dX6_go_114 (by decide) ?_
            exact ih (yc - 1) _ (by omega) (by omega) (by omega) (by omega) (by have h9 := getD_r (K := TC N M ya yb (yc - 1) ++ R) (z := (0, 0, 0, 0)) (show (S3 N M ya yb yc).length ≤ ww - al by rw [S3_len]; omega); rw [S3_len, Nat.sub_sub] at h9; rw [← h9]; exact hq) (by omega) _ _ _ hP hD hS (lv_sub hl [0, 1, 2, 3, 4, 5] rfl) 
set_option maxHeartbeats 4000000 in
set_option maxRecDepth 100000 in
theorem lp_X6_gy_b  {l : Launch} {D : va_G} {ca : Nat → ClassId} (lo : Nat) (n0 : Nat) (M : Nat) (T : Nat) (ww : Nat) (N : Int) (qq : Z4') (ya : Int) (R : List Z4') (hn0 : n0 ≤ 200) (hM28 : M ≤ 28) (hM0 : 4 * n0 < (M + 1) * (M + 1)) (hNn : N = 4 * (n0 : Int)) (hTb : T ≤ 2 ^ 20) (hww : ww < T) (hba : -(M : Int) ≤ ya ∧ ya ≤ M) {p : Program} {e : Env} {s : State} {m : MethodId} {below : List Frame} {meth : Method} {c : Code} {A : Nat → Prop} (hOut : ∀ (al : Nat), al ≤ ww → al + (R).length = T → (R).getD (ww - al) (0, 0, 0, 0) = qq → ∀ (H : Heap) (locs : List Loc) (ls : Array Slot), va_P D vwCl [(lo, .inr (5, [.int (nI n0), .int (nI M), .int (nI al), .int 0, .int (nI ww), .null]))] H → va_D A [(lo, .inr (5, [.int (nI n0), .int (nI M), .int (nI al), .int 0, .int (nI ww), .null]))] → va_S A s.heap H locs → lv_has ls 6 [(0, .ref lo), (1, .int 0), (2, .int (iZ ya))] → W p l e ({ frames := 4, cells := 1, slots := 4, locals := 99 }) s m ([.ref lo, .int 0] : List Value).toArray below meth c H locs 0 0 (MQ below (qV D (fun (u : Nat) => True) (fun u => [(lo, .inr (5, [.int (nI n0), .int (nI M), .int (nI (ww + 1)), .int 0, .int (nI ww), .ref u])), (u, f4 (qz qq))]) (fun u H => True) A) ([.ref lo, .int 0] : List Value).toArray s 1 4 A) (F0 m 123 ls [])) (hx : p.tables.exec = Jvm.exec) (hb : c.code = cX6_go) (hr : meth.sig.returnType = none) (hts : ∀ w ∈ lw_all, w.before ([.ref lo, .int 0] : List Value).toArray s = true) (hown : s.vm.findClass yX6_go.cls = some m.cls) (hlocks : meth.locks = false) (hnm : meth.name = yX6_go.name) (hml : c.maxLocals = 6) (hK : va_K D vwCl (tysG ca) s) (hN : NW s) (hA : ∀ q, s.heap.size ≤ q → A q)  :
    ∀ (n : Nat) (yb : Int) (al : Nat), (-(M : Int) - 1 ≤ yb) → (yb ≤ M) → (al ≤ ww) → (al + (TB N M ya yb ++ R).length = T) → ((TB N M ya yb ++ R).getD (ww - al) (0, 0, 0, 0) = qq) → (yb + M + 1 < (n : Int)) →  ∀ (H : Heap) (locs : List Loc) (ls : Array Slot), va_P D vwCl [(lo, .inr (5, [.int (nI n0), .int (nI M), .int (nI al), .int 0, .int (nI ww), .null]))] H → va_D A [(lo, .inr (5, [.int (nI n0), .int (nI M), .int (nI al), .int 0, .int (nI ww), .null]))] → va_S A s.heap H locs → lv_has ls 6 [(3, .int (iZ yb)), (0, .ref lo), (1, .int 0), (2, .int (iZ ya))] → W p l e ({ frames := 4, cells := 1, slots := 4, locals := 99 }) s m ([.ref lo, .int 0] : List Value).toArray below meth c H locs 0 0 (MQ below (qV D (fun (u : Nat) => True) (fun u => [(lo, .inr (5, [.int (nI n0), .int (nI M), .int (nI (ww + 1)), .int 0, .int (nI ww), .ref u])), (u, f4 (qz qq))]) (fun u H => True) A) ([.ref lo, .int 0] : List Value).toArray s 1 4 A) (F0 m 26 ls []) := by
  intro n
  induction n with
  | zero =>
    intro yb al hb1 hb2 haw hT hq hfuel H locs ls hP hD hS hl 
    exact absurd hfuel (by omega)
  | succ n ih =>
    intro yb al hb1 hb2 haw hT hq hfuel H locs ls hP hD hS hl 
    have hk := NW_ok
    have hqa := sqz (a := ya) (by omega) (by omega)
    refine lv_iload_n hx hb dX6_go_26 rfl (lv_at hl 0 rfl) ?_
    refine lv_aload_n hx hb dX6_go_27 rfl (lv_at hl 1 rfl) ?_
    refine va_get (D := D) (ci := 5) (v := .int (nI M)) (C := RX6) (T := TX6) (N := 6) hx hb hts in_X6 hown hK hP 0 rfl rfl 1 (by decide) (hts _ q510) (fun _ h9 => h9) rfl dX6_go_28 ?_
    refine lv_ineg hx hb dX6_go_31 ?_
    refine lv_topi (fun z_1 ez_1 => ?_)
    obtain rfl : z_1 = iZ (-((M : Nat) : Int)) := ez_1.trans (zneg (iZ_n _))
    refine lv_icmp_lt (tgt := 123) hx hb dX6_go_32 (by decide) (fun c_2 => ?_) (fun c_2 => ?_)
    · have c_2 := ltz_y (a := yb) (b := -((M : Nat) : Int)) rfl rfl (by omega) (by omega) c_2
      rw [TB_e (by omega), List.nil_append] at hT hq
      exact hOut al haw hT hq _ _ _ hP hD hS (lv_sub hl [1, 2, 3] rfl)
    · have c_2 := ltz_no (a := yb) (b := -((M : Nat) : Int)) rfl rfl (by omega) (by omega) c_2
      refine lv_aload_n hx hb dX6_go_35 rfl (lv_at hl 1 rfl) ?_
      refine va_get (D := D) (ci := 5) (v := .null) (C := RX6) (T := TX6) (N := 6) hx hb hts in_X6 hown hK hP 0 rfl rfl 5 (by decide) (hts _ q515) (fun _ h9 => h9) rfl dX6_go_36 ?_
      refine lv_ifnonnullN hx hb dX6_go_39 ?_
      have hqb := sqz (a := yb) (by omega) (by omega)
      refine lv_iconst (v := 4) hx hb dX6_go_42 (by decide) ?_
      refine lv_aload_n hx hb dX6_go_43 rfl (lv_at hl 1 rfl) ?_
      refine va_get (D := D) (ci := 5) (v := .int (nI n0)) (C := RX6) (T := TX6) (N := 6) hx hb hts in_X6 hown hK hP 0 rfl rfl 0 (by decide) (hts _ q509) (fun _ h9 => h9) rfl dX6_go_44 ?_
      refine lv_imul hx hb dX6_go_47 ?_
      refine lv_topi (fun z_3 ez_3 => ?_)
      obtain rfl : z_3 = iZ (4 * ((n0 : Nat) : Int)) := ez_3.trans (zmul (by decide) (iZ_n _))
      refine lv_iload_n hx hb dX6_go_48 rfl (lv_at hl 3 rfl) ?_
      refine lv_iload_n hx hb dX6_go_49 rfl (lv_at hl 3 rfl) ?_
      refine lv_imul hx hb dX6_go_50 ?_
      refine lv_topi (fun z_4 ez_4 => ?_)
      obtain rfl : z_4 = iZ (ya * ya) := ez_4.trans (zmul rfl rfl)
      refine lv_isub hx hb dX6_go_51 ?_
      refine lv_topi (fun z_5 ez_5 => ?_)
      obtain rfl : z_5 = iZ ((4 * ((n0 : Nat) : Int)) - (ya * ya)) := ez_5.trans (zsub rfl rfl)
      refine lv_iload_n hx hb dX6_go_52 rfl (lv_at hl 0 rfl) ?_
      refine lv_iload_n hx hb dX6_go_53 rfl (lv_at hl 0 rfl) ?_
      refine lv_imul hx hb dX6_go_54 ?_
      refine lv_topi (fun z_6 ez_6 => ?_)
      obtain rfl : z_6 = iZ (yb * yb) := ez_6.trans (zmul rfl rfl)
      refine lv_isub hx hb dX6_go_55 ?_
      refine lv_topi (fun z_7 ez_7 => ?_)
      obtain rfl : z_7 = iZ (((4 * ((n0 : Nat) : Int)) - (ya * ya)) - (yb * yb)) := ez_7.trans (zsub rfl rfl)
      refine lv_istore (lv' := [(4, .int (iZ (((4 * ((n0 : Nat) : Int)) - (ya * ya)) - (yb * yb)))), (3, .int (iZ yb)), (0, .ref lo), (1, .int 0), (2, .int (iZ ya))]) hx hb dX6_go_56 hl (by decide) rfl (fun ls hl => ?_)
      refine lv_aload_n hx hb dX6_go_58 rfl (lv_at hl 2 rfl) ?_
      refine va_get (D := D) (ci := 5) (v := .int (nI M)) (C := RX6) (T := TX6) (N := 6) hx hb hts in_X6 hown hK hP 0 rfl rfl 1 (by decide) (hts _ q510) (fun _ h9 => h9) rfl dX6_go_59 ?_
      refine lv_topi (fun z_8 ez_8 => ?_)
      obtain rfl : z_8 = iZ ((M : Nat) : Int) := ez_8.trans (iZ_n M)
      refine lv_istore (lv' := [(5, .int (iZ ((M : Nat) : Int))), (4, .int (iZ (((4 * ((n0 : Nat) : Int)) - (ya * ya)) - (yb * yb)))), (3, .int (iZ yb)), (0, .ref lo), (1, .int 0), (2, .int (iZ ya))]) hx hb dX6_go_62 hl (by decide) rfl (fun ls hl => ?_)
      rw [TB_s (by omega), List.append_assoc] at hT hq
      refine lp_X6_gy_c lo n0 M T ww N qq ya yb (((4 * ((n0 : Nat) : Int)) - (ya * ya)) - (yb * yb)) (TB N M ya (yb - 1) ++ R) hn0 hM28 hM0 hNn hTb hww hba (by omega) (by omega) (fun al haw hT hq H locs ls hP hD hS hl => ?_) hx hb hr hts hown hlocks hnm hml hK hN hA  (((M : Int) + M + 2).toNat) ((M : Nat) : Int) al (by omega) (by omega) haw hT hq (by omega) _ _ _ hP hD hS (lv_sub hl [0, 3, 4, 5, 2, 1] rfl)
      refine lv_iinc (v := iZ (yb - 1)) (lv' := [(3, .int (iZ (yb - 1))), (0, .ref lo), (1, .int 0), (2, .int (iZ ya))]) hx hb dX6_go_117 hl (k := 3) rfl ((zadd rfl (b := -1) (by decide)).trans (by rw [Int.sub_eq_add_neg])) (by decide) rfl (fun ls hl => ?_)
      refine lv_goto (tgt := 26) hx hb dX6_go_120 (by decide) ?_
      exact ih (yb - 1) al (by omega) (by omega) haw hT hq (by omega) _ _ _ hP hD hS (lv_sub hl [0, 1, 2, 3] rfl) 
set_option maxHeartbeats 4000000 in
set_option maxRecDepth 100000 in
theorem lp_X6_gy_a  {l : Launch} {D : va_G} {ca : Nat → ClassId} (lo : Nat) (n0 : Nat) (M : Nat) (T : Nat) (ww : Nat) (N : Int) (qq : Z4') (hn0 : n0 ≤ 200) (hM28 : M ≤ 28) (hM0 : 4 * n0 < (M + 1) * (M + 1)) (hNn : N = 4 * (n0 : Int)) (hTb : T ≤ 2 ^ 20) (hww : ww < T) {p : Program} {e : Env} {s : State} {m : MethodId} {below : List Frame} {meth : Method} {c : Code} {A : Nat → Prop}  (hx : p.tables.exec = Jvm.exec) (hb : c.code = cX6_go) (hr : meth.sig.returnType = none) (hts : ∀ w ∈ lw_all, w.before ([.ref lo, .int 0] : List Value).toArray s = true) (hown : s.vm.findClass yX6_go.cls = some m.cls) (hlocks : meth.locks = false) (hnm : meth.name = yX6_go.name) (hml : c.maxLocals = 6) (hK : va_K D vwCl (tysG ca) s) (hN : NW s) (hA : ∀ q, s.heap.size ≤ q → A q)  :
    ∀ (n : Nat) (ya : Int) (al : Nat), (-(M : Int) - 1 ≤ ya) → (ya ≤ M) → (al ≤ ww) → (al + (TA N M ya).length = T) → ((TA N M ya).getD (ww - al) (0, 0, 0, 0) = qq) → (ya + M + 1 < (n : Int)) →  ∀ (H : Heap) (locs : List Loc) (ls : Array Slot), va_P D vwCl [(lo, .inr (5, [.int (nI n0), .int (nI M), .int (nI al), .int 0, .int (nI ww), .null]))] H → va_D A [(lo, .inr (5, [.int (nI n0), .int (nI M), .int (nI al), .int 0, .int (nI ww), .null]))] → va_S A s.heap H locs → lv_has ls 6 [(2, .int (iZ ya)), (0, .ref lo), (1, .int 0)] → W p l e ({ frames := 4, cells := 1, slots := 4, locals := 99 }) s m ([.ref lo, .int 0] : List Value).toArray below meth c H locs 0 0 (MQ below (qV D (fun (u : Nat) => True) (fun u => [(lo, .inr (5, [.int (nI n0), .int (nI M), .int (nI (ww + 1)), .int 0, .int (nI ww), .ref u])), (u, f4 (qz qq))]) (fun u H => True) A) ([.ref lo, .int 0] : List Value).toArray s 1 4 A) (F0 m 5 ls []) := by
  intro n
  induction n with
  | zero =>
    intro ya al ha1 ha2 haw hT hq hfuel H locs ls hP hD hS hl 
    exact absurd hfuel (by omega)
  | succ n ih =>
    intro ya al ha1 ha2 haw hT hq hfuel H locs ls hP hD hS hl 
    have hk := NW_ok
    refine lv_iload_n hx hb dX6_go_5 rfl (lv_at hl 0 rfl) ?_
    refine lv_aload_n hx hb dX6_go_6 rfl (lv_at hl 1 rfl) ?_
    refine va_get (D := D) (ci := 5) (v := .int (nI M)) (C := RX6) (T := TX6) (N := 6) hx hb hts in_X6 hown hK hP 0 rfl rfl 1 (by decide) (hts _ q510) (fun _ h9 => h9) rfl dX6_go_7 ?_
    refine lv_ineg hx hb dX6_go_10 ?_
    refine lv_topi (fun z_1 ez_1 => ?_)
    obtain rfl : z_1 = iZ (-((M : Nat) : Int)) := ez_1.trans (zneg (iZ_n _))
    refine lv_icmp_lt (tgt := 129) hx hb dX6_go_11 (by decide) (fun c_2 => ?_) (fun c_2 => ?_)
    · have c_2 := ltz_y (a := ya) (b := -((M : Nat) : Int)) rfl rfl (by omega) (by omega) c_2
      rw [TA_e (by omega)] at hT
      simp at hT
      omega
    · have c_2 := ltz_no (a := ya) (b := -((M : Nat) : Int)) rfl rfl (by omega) (by omega) c_2
      refine lv_aload_n hx hb dX6_go_14 rfl (lv_at hl 1 rfl) ?_
      refine va_get (D := D) (ci := 5) (v := .null) (C := RX6) (T := TX6) (N := 6) hx hb hts in_X6 hown hK hP 0 rfl rfl 5 (by decide) (hts _ q515) (fun _ h9 => h9) rfl dX6_go_15 ?_
      refine lv_ifnonnullN hx hb dX6_go_18 ?_
      refine lv_aload_n hx hb dX6_go_21 rfl (lv_at hl 1 rfl) ?_
      refine va_get (D := D) (ci := 5) (v := .int (nI M)) (C := RX6) (T := TX6) (N := 6) hx hb hts in_X6 hown hK hP 0 rfl rfl 1 (by decide) (hts _ q510) (fun _ h9 => h9) rfl dX6_go_22 ?_
      refine lv_topi (fun z_3 ez_3 => ?_)
      obtain rfl : z_3 = iZ ((M : Nat) : Int) := ez_3.trans (iZ_n M)
      refine lv_istore_n (lv' := [(3, .int (iZ ((M : Nat) : Int))), (2, .int (iZ ya)), (0, .ref lo), (1, .int 0)]) hx hb dX6_go_25 rfl hl (by decide) rfl (fun ls hl => ?_)
      rw [TA_s (by omega)] at hT hq
      refine lp_X6_gy_b lo n0 M T ww N qq ya (TA N M (ya - 1)) hn0 hM28 hM0 hNn hTb hww (by omega) (fun al haw hT hq H locs ls hP hD hS hl => ?_) hx hb hr hts hown hlocks hnm hml hK hN hA  (((M : Int) + M + 2).toNat) ((M : Nat) : Int) al (by omega) (by omega) haw hT hq (by omega) _ _ _ hP hD hS (lv_sub hl [0, 2, 3, 1] rfl)
      refine lv_iinc (v := iZ (ya - 1)) (lv' := [(2, .int (iZ (ya - 1))), (0, .ref lo), (1, .int 0)]) hx hb dX6_go_123 hl (k := 2) rfl ((zadd rfl (b := -1) (by decide)).trans (by rw [Int.sub_eq_add_neg])) (by decide) rfl (fun ls hl => ?_)
      refine lv_goto (tgt := 5) hx hb dX6_go_126 (by decide) ?_
      exact ih (ya - 1) al (by omega) (by omega) haw hT hq (by omega) _ _ _ hP hD hS (lv_sub hl [0, 1, 2] rfl) 
set_option maxHeartbeats 4000000 in
set_option maxRecDepth 100000 in
theorem ct_X6_go_y (l : Launch) (D : va_G) (ca : Nat → ClassId) (zH : Nat) (lo n0 M T ww : Nat) (N : Int) (qq : Z4') (hn0 : n0 ≤ 200) (hM28 : M ≤ 28) (hM0 : 4 * n0 < (M + 1) * (M + 1)) (hNn : N = 4 * (n0 : Int)) (hTb : T ≤ 2 ^ 20) (hww : ww < T) (hTT : (S0 N M).length = T) (hqq : (S0 N M).getD ww (0, 0, 0, 0) = qq) : Met l yX6_go (ws_ yX6_go cX6_go 6 none) ({ frames := 4, cells := 1, slots := 4, locals := 99 }) (va_Pc [.ref lo, .int 0] (pr_ NW D ca [(lo, .inr (5, [.int (nI n0), .int (nI M), .int 0, .int 0, .int (nI ww), .null]))] zH (fun _ => True))) (qV D (fun (u : Nat) => True) (fun u => [(lo, .inr (5, [.int (nI n0), .int (nI M), .int (nI (ww + 1)), .int 0, .int (nI ww), .ref u])), (u, f4 (qz qq))]) (fun u H => True) (va_A [(lo, .inr (5, [.int (nI n0), .int (nI M), .int 0, .int 0, .int (nI ww), .null]))] zH)) 1 4 (va_A [(lo, .inr (5, [.int (nI n0), .int (nI M), .int 0, .int 0, .int (nI ww), .null]))] zH) := by
  have hk := NW_ok
  refine k_ofW (Qc := qV D (fun (u : Nat) => True) (fun u => [(lo, .inr (5, [.int (nI n0), .int (nI M), .int (nI (ww + 1)), .int 0, .int (nI ww), .ref u])), (u, f4 (qz qq))]) (fun u H => True)) (by decide) (Nat.le_of_ble_eq_true rfl) ?_
  intro p e s m below meth c ls A H hH hx hb hr hts hown hlocks hnm hml hsz hP hD hK hN hA hAn hS hro hl
  have hl : lv_has ls 6 [(0, .ref lo), (1, .int 0)] := hl
  refine lv_aload_n hx hb dX6_go_0 rfl (lv_at hl 0 rfl) ?_
  refine va_get (D := D) (ci := 5) (v := .int (nI M)) (C := RX6) (T := TX6) (N := 6) hx hb hts in_X6 hown hK hP 0 rfl rfl 1 (by decide) (hts _ q510) (fun _ h9 => h9) rfl dX6_go_1 ?_
  refine lv_topi (fun z_1 ez_1 => ?_)
  obtain rfl : z_1 = iZ ((M : Nat) : Int) := ez_1.trans (iZ_n M)
  refine lv_istore_n (lv' := [(2, .int (iZ ((M : Nat) : Int))), (0, .ref lo), (1, .int 0)]) hx hb dX6_go_4 rfl hl (by decide) rfl (fun ls hl => ?_)
  exact lp_X6_gy_a lo n0 M T ww N qq hn0 hM28 hM0 hNn hTb hww  hx hb hr hts hown hlocks hnm hml hK hN hA  (((M : Int) + M + 2).toNat) ((M : Nat) : Int) 0 (by omega) (by omega) (by omega) (by rw [TA_0, hTT, Nat.zero_add]) (by rw [TA_0]; exact hqq) (by omega) _ _ _ hP hD hS (lv_sub hl [0, 1, 2] rfl) 
