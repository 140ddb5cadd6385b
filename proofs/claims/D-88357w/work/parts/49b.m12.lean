set_option maxHeartbeats 4000000 in
set_option maxRecDepth 100000 in
theorem lp_X5_gy_c {KN : State → Prop} (hk : KNok KN) {l : Launch} {D : va_G} {ca : Nat → ClassId} (o : Nat) (ad : Nat → Nat) (nf : Int32) (mo : Int32) (x : Q4) (n0 : Nat) (ww : Nat) (M : Nat) (T : Nat) (N : Int) (qq : Z4') (ya : Int) (yb : Int) (R : List Z4') (hn0 : n0 ≤ 200) (hM28 : M ≤ 28) (hM0 : 4 * n0 < (M + 1) * (M + 1)) (hNn : N = 4 * (n0 : Int)) (hTb : T ≤ 2 ^ 20) (hMM : M * M ≤ 4 * n0) (hwT : ww < T) (hqq : (S0 (4 * (n0 : Int)) M).getD ww (0, 0, 0, 0) = qq) (hba : -(M : Int) ≤ ya ∧ ya ≤ M) (hbb : -(M : Int) ≤ yb ∧ yb ≤ M) {p : Program} {e : Env} {s : State} {m : MethodId} {below : List Frame} {meth : Method} {c : Code} {A : Nat → Prop} (hOut : ∀ (cn : Nat) (xv : Q4), cn ≤ ww → cn + (R).length = T → (R).getD (ww - cn) (0, 0, 0, 0) = qq → ∀ (H : Heap) (locs : List Loc) (ls : Array Slot), va_P D vwCl [(o, mO ad nf mo), (ad 8, a4 ca xv)] H → va_D A [(o, mO ad nf mo), (ad 8, a4 ca xv)] → va_S A s.heap H locs → lv_has ls 14 [(0, .ref o), (1, .int (nI n0)), (2, .int (nI 0)), (3, .int (nI ww)), (4, .int (iZ N)), (5, .int (nI M)), (6, .int (nI cn)), (7, .int (iZ ya)), (8, .int (iZ yb))] → W p l e ({ frames := 2, cells := 0, slots := 0, locals := 53 }) s m ([.ref o, .int (nI n0), .int (nI 0), .int (nI ww)] : List Value).toArray below meth c H locs 0 0 (MQ below (qI D (fun (r : Int32) (u : Nat × Q4) => r = nI ww ∧ u.2 = qz ((S0 (4 * (n0 : Int)) u.1).getD ww (0, 0, 0, 0)) ∧ u.1 * u.1 ≤ 4 * n0 ∧ 4 * n0 < (u.1 + 1) * (u.1 + 1)) (fun u => [(o, mO ad nf mo), (ad 8, a4 ca u.2)]) (fun u H => True) A) ([.ref o, .int (nI n0), .int (nI 0), .int (nI ww)] : List Value).toArray s 0 0 A) (F0 m 285 ls [])) (hx : p.tables.exec = Jvm.exec) (hb : c.code = cX5_goThrough) (hr : meth.sig.returnType = (some .int)) (hts : ∀ w ∈ lw_all, w.before ([.ref o, .int (nI n0), .int (nI 0), .int (nI ww)] : List Value).toArray s = true) (hown : s.vm.findClass yX5_goThrough.cls = some m.cls) (hlocks : meth.locks = false) (hnm : meth.name = yX5_goThrough.name) (hml : c.maxLocals = 14) (hK : va_K D vwCl (tysG ca) s) (hN : KN s) (hA : ∀ q, s.heap.size ≤ q → A q)  :
    ∀ (n : Nat) (yc : Int) (cn : Nat) (xv : Q4), (-(M : Int) - 1 ≤ yc) → (yc ≤ M) → (cn ≤ ww) → (cn + (TC N M ya yb yc ++ R).length = T) → ((TC N M ya yb yc ++ R).getD (ww - cn) (0, 0, 0, 0) = qq) → (yc + M + 1 < (n : Int)) →  ∀ (H : Heap) (locs : List Loc) (ls : Array Slot), va_P D vwCl [(o, mO ad nf mo), (ad 8, a4 ca xv)] H → va_D A [(o, mO ad nf mo), (ad 8, a4 ca xv)] → va_S A s.heap H locs → lv_has ls 14 [(9, .int (iZ yc)), (0, .ref o), (1, .int (nI n0)), (2, .int (nI 0)), (3, .int (nI ww)), (4, .int (iZ N)), (5, .int (nI M)), (6, .int (nI cn)), (7, .int (iZ ya)), (8, .int (iZ yb))] → W p l e ({ frames := 2, cells := 0, slots := 0, locals := 53 }) s m ([.ref o, .int (nI n0), .int (nI 0), .int (nI ww)] : List Value).toArray below meth c H locs 0 0 (MQ below (qI D (fun (r : Int32) (u : Nat × Q4) => r = nI ww ∧ u.2 = qz ((S0 (4 * (n0 : Int)) u.1).getD ww (0, 0, 0, 0)) ∧ u.1 * u.1 ≤ 4 * n0 ∧ 4 * n0 < (u.1 + 1) * (u.1 + 1)) (fun u => [(o, mO ad nf mo), (ad 8, a4 ca u.2)]) (fun u H => True) A) ([.ref o, .int (nI n0), .int (nI 0), .int (nI ww)] : List Value).toArray s 0 0 A) (F0 m 43 ls []) := by
  intro n
  induction n with
  | zero =>
    intro yc cn xv hc1 hc2 hcw hT hq hfuel H locs ls hP hD hS hl 
    exact absurd hfuel (by omega)
  | succ n ih =>
    intro yc cn xv hc1 hc2 hcw hT hq hfuel H locs ls hP hD hS hl 
    have hqa := sqz (a := ya) (by omega) (by omega)
    have hqb := sqz (a := yb) (by omega) (by omega)
    refine lv_iload hx hb dX5_goThrough_43 (lv_at hl 0 rfl) ?_
    refine lv_iload hx hb dX5_goThrough_45 (lv_at hl 6 rfl) ?_
    refine lv_ineg hx hb dX5_goThrough_47 ?_
    refine lv_topi (fun z_1 ez_1 => ?_)
    obtain rfl : z_1 = iZ (-((M : Nat) : Int)) := ez_1.trans (zneg (iZ_n _))
    refine lv_icmp_lt (tgt := 285) hx hb dX5_goThrough_48 (by decide) (fun c_2 => ?_) (fun c_2 => ?_)
    · have c_2 := ltz_y (a := yc) (b := -((M : Nat) : Int)) rfl rfl (by omega) (by omega) c_2
      rw [TC_e (by omega), List.nil_append] at hT hq
      exact hOut cn xv hcw hT hq _ _ _ hP hD hS (lv_sub hl [1, 2, 3, 4, 5, 6, 7, 8, 9] rfl)
    · have c_2 := ltz_no (a := yc) (b := -((M : Nat) : Int)) rfl rfl (by omega) (by omega) c_2
      refine lv_iload hx hb dX5_goThrough_51 (lv_at hl 8 rfl) ?_
      refine lv_iload hx hb dX5_goThrough_53 (lv_at hl 8 rfl) ?_
      refine lv_imul hx hb dX5_goThrough_55 ?_
      refine lv_topi (fun z_3 ez_3 => ?_)
      obtain rfl : z_3 = iZ (ya * ya) := ez_3.trans (zmul rfl rfl)
      refine lv_iload hx hb dX5_goThrough_56 (lv_at hl 9 rfl) ?_
      refine lv_iload hx hb dX5_goThrough_58 (lv_at hl 9 rfl) ?_
      refine lv_imul hx hb dX5_goThrough_60 ?_
      refine lv_topi (fun z_4 ez_4 => ?_)
      obtain rfl : z_4 = iZ (yb * yb) := ez_4.trans (zmul rfl rfl)
      refine lv_iadd hx hb dX5_goThrough_61 ?_
      refine lv_topi (fun z_5 ez_5 => ?_)
      obtain rfl : z_5 = iZ ((ya * ya) + (yb * yb)) := ez_5.trans (zadd rfl rfl)
      refine lv_iload hx hb dX5_goThrough_62 (lv_at hl 5 rfl) ?_
      refine lv_icmp_gt (tgt := 285) hx hb dX5_goThrough_64 (by decide) (fun c_6 => ?_) (fun c_6 => ?_)
      · have c_6 := ltz_y (a := N) (b := (ya * ya) + (yb * yb)) rfl rfl (by omega) (by omega) c_6
        rw [TC_neg (by omega), List.nil_append] at hT hq
        exact hOut cn xv hcw hT hq _ _ _ hP hD hS (lv_sub hl [1, 2, 3, 4, 5, 6, 7, 8, 9] rfl)
      · have c_6 := ltz_no (a := N) (b := (ya * ya) + (yb * yb)) rfl rfl (by omega) (by omega) c_6
        have hqc := sqz (a := yc) (by omega) (by omega)
        rw [TC_s (by omega), List.append_assoc] at hT hq
        rw [List.length_append, S3_len] at hT
        refine lv_iload hx hb dX5_goThrough_67 (lv_at hl 5 rfl) ?_
        refine lv_iload hx hb dX5_goThrough_69 (lv_at hl 8 rfl) ?_
        refine lv_iload hx hb dX5_goThrough_71 (lv_at hl 8 rfl) ?_
        refine lv_imul hx hb dX5_goThrough_73 ?_
        refine lv_topi (fun z_7 ez_7 => ?_)
        obtain rfl : z_7 = iZ (ya * ya) := ez_7.trans (zmul rfl rfl)
        refine lv_isub hx hb dX5_goThrough_74 ?_
        refine lv_topi (fun z_8 ez_8 => ?_)
        obtain rfl : z_8 = iZ (N - (ya * ya)) := ez_8.trans (zsub rfl rfl)
        refine lv_iload hx hb dX5_goThrough_75 (lv_at hl 9 rfl) ?_
        refine lv_iload hx hb dX5_goThrough_77 (lv_at hl 9 rfl) ?_
        refine lv_imul hx hb dX5_goThrough_79 ?_
        refine lv_topi (fun z_9 ez_9 => ?_)
        obtain rfl : z_9 = iZ (yb * yb) := ez_9.trans (zmul rfl rfl)
        refine lv_isub hx hb dX5_goThrough_80 ?_
        refine lv_topi (fun z_10 ez_10 => ?_)
        obtain rfl : z_10 = iZ ((N - (ya * ya)) - (yb * yb)) := ez_10.trans (zsub rfl rfl)
        refine lv_iload hx hb dX5_goThrough_81 (lv_at hl 0 rfl) ?_
        refine lv_iload hx hb dX5_goThrough_83 (lv_at hl 0 rfl) ?_
        refine lv_imul hx hb dX5_goThrough_85 ?_
        refine lv_topi (fun z_11 ez_11 => ?_)
        obtain rfl : z_11 = iZ (yc * yc) := ez_11.trans (zmul rfl rfl)
        refine lv_isub hx hb dX5_goThrough_86 ?_
        refine lv_topi (fun z_12 ez_12 => ?_)
        obtain rfl : z_12 = iZ (((N - (ya * ya)) - (yb * yb)) - (yc * yc)) := ez_12.trans (zsub rfl rfl)
        refine lv_istore (lv' := [(10, .int (iZ (((N - (ya * ya)) - (yb * yb)) - (yc * yc)))), (9, .int (iZ yc)), (0, .ref o), (1, .int (nI n0)), (2, .int (nI 0)), (3, .int (nI ww)), (4, .int (iZ N)), (5, .int (nI M)), (6, .int (nI cn)), (7, .int (iZ ya)), (8, .int (iZ yb))]) hx hb dX5_goThrough_87 hl (by decide) rfl (fun ls hl => ?_)
        refine lv_iload hx hb dX5_goThrough_89 (lv_at hl 0 rfl) ?_
        refine lv_if_ge (tgt := 98) hx hb dX5_goThrough_91 (by decide) (fun c_13 => ?_) (fun c_13 => ?_)
        · have c_13 := lez_y (a := 0) (b := ((N - (ya * ya)) - (yb * yb)) - (yc * yc)) (by decide) rfl (by omega) (by omega) c_13
          refine lv_iload hx hb dX5_goThrough_98 (lv_at hl 0 rfl) ?_
          refine lv_topi (fun z_14 ez_14 => ?_)
          obtain rfl : z_14 = nI (((N - (ya * ya)) - (yb * yb)) - (yc * yc)).toNat := ez_14.trans (iZ_nn (by omega))
          refine k_calli (wr := [(o, mO ad nf mo), (ad 8, a4 ca xv)]) (va_runS (As := [.int (nI (((N - (ya * ya)) - (yb * yb)) - (yc * yc)).toNat)]) (rest := []) ⟨hx, hb, hml, hown, hts⟩ (ct_X5_rootOf hk l D ca H.size ((((N - (ya * ya)) - (yb * yb)) - (yc * yc)).toNat) (by omega)) (va_cwS 1 hts (lw_S q788 q789 q24 q790) rfl rfl rfl (by decide +kernel) ⟨Nat.le_of_ble_eq_true rfl, Nat.le_of_ble_eq_true rfl⟩) (k_pre hk hK hN hP hD [] (by decide) rfl trivial) rfl rfl hl.1 rfl (lv_room (Nat.le_of_ble_eq_true rfl)) dX5_goThrough_100 ⟨Nat.le_of_ble_eq_true rfl, Nat.le_of_ble_eq_true rfl⟩) hP hD hS hA [] [0, 1] rfl rfl (by decide) (by decide) (fun r_15 u_16 H locs w_17 hP hD hxw_17 hzw_17 hqw_17 hS => ?_)
          obtain ⟨ew_17, hr1w_17, hr2w_17⟩ := w_17
          subst ew_17
          have hrd : u_16 ≤ 28 := root_le (b := 28) hr1w_17 (by omega)
          have hrs := sqz (a := ((u_16 : Nat) : Int)) (by omega) (by omega)
          refine lv_istore (lv' := [(11, .int (nI u_16)), (10, .int (iZ (((N - (ya * ya)) - (yb * yb)) - (yc * yc)))), (9, .int (iZ yc)), (0, .ref o), (1, .int (nI n0)), (2, .int (nI 0)), (3, .int (nI ww)), (4, .int (iZ N)), (5, .int (nI M)), (6, .int (nI cn)), (7, .int (iZ ya)), (8, .int (iZ yb))]) hx hb dX5_goThrough_103 hl (by decide) rfl (fun ls hl => ?_)
          refine lv_iconst (v := 0) hx hb dX5_goThrough_105 (by decide) ?_
          refine lv_istore (lv' := [(12, .int 0), (11, .int (nI u_16)), (10, .int (iZ (((N - (ya * ya)) - (yb * yb)) - (yc * yc)))), (9, .int (iZ yc)), (0, .ref o), (1, .int (nI n0)), (2, .int (nI 0)), (3, .int (nI ww)), (4, .int (iZ N)), (5, .int (nI M)), (6, .int (nI cn)), (7, .int (iZ ya)), (8, .int (iZ yb))]) hx hb dX5_goThrough_106 hl (by decide) rfl (fun ls hl => ?_)
          refine lv_iload hx hb dX5_goThrough_108 (lv_at hl 0 rfl) ?_
          refine lv_iconst (v := 2) hx hb dX5_goThrough_110 (by decide) ?_
          refine lv_icmp_ge (tgt := 279) hx hb dX5_goThrough_111 (by decide) (fun c_18 => absurd c_18 (by decide)) (fun c_18 => ?_)
          refine lv_iload hx hb dX5_goThrough_114 (lv_at hl 1 rfl) ?_
          refine lv_if_lt (tgt := 279) hx hb dX5_goThrough_116 (by decide) (fun c_19 => absurd c_19 (fun z => absurd (lt_y (a := u_16) (b := 0) rfl rfl (by omega) (by decide) z) (Nat.not_lt_zero _))) (fun c_19 => ?_)
          refine lv_iload hx hb dX5_goThrough_119 (lv_at hl 1 rfl) ?_
          refine lv_iload hx hb dX5_goThrough_121 (lv_at hl 1 rfl) ?_
          refine lv_imul hx hb dX5_goThrough_123 ?_
          refine lv_topi (fun z_20 ez_20 => ?_)
          obtain rfl : z_20 = iZ (((u_16 : Nat) : Int) * ((u_16 : Nat) : Int)) := ez_20.trans (zmul (iZ_n _) (iZ_n _))
          refine lv_iload hx hb dX5_goThrough_124 (lv_at hl 2 rfl) ?_
          refine lv_icmp_ne (tgt := 279) hx hb dX5_goThrough_126 (by decide) (fun c_21 => ?_) (fun c_21 => ?_)
          · have c_21 := eqz_no (a := ((u_16 : Nat) : Int) * ((u_16 : Nat) : Int)) (b := ((N - (ya * ya)) - (yb * yb)) - (yc * yc)) rfl rfl (by omega) (by omega) c_21
            refine lv_iinc (v := iZ (yc - 1)) (lv' := [(9, .int (iZ (yc - 1))), (12, .int 0), (11, .int (nI u_16)), (10, .int (iZ (((N - (ya * ya)) - (yb * yb)) - (yc * yc)))), (0, .ref o), (1, .int (nI n0)), (2, .int (nI 0)), (3, .int (nI ww)), (4, .int (iZ N)), (5, .int (nI M)), (6, .int (nI cn)), (7, .int (iZ ya)), (8, .int (iZ yb))]) hx hb dX5_goThrough_279 hl (k := 3) rfl ((zadd rfl (b := -1) (by decide)).trans (by rw [Int.sub_eq_add_neg])) (by decide) rfl (fun ls hl => ?_)
            refine lv_goto (tgt := 43) hx hb dX5_goThrough_282 (by decide) ?_
            have hds : ds N M ya yb yc = [] := ds_root (lf := ((N - (ya * ya)) - (yb * yb)) - (yc * yc)) (by omega) hr1w_17 hr2w_17 (by omega) c_21
            have hlen : (ds N M ya yb yc).length = 0 := by rw [hds]; rfl
            have h9 := getD_r (K := TC N M ya yb (yc - 1) ++ R) (z := (0, 0, 0, 0)) (show (S3 N M ya yb yc).length ≤ ww - cn by rw [S3_len]; omega)
            rw [S3_len, hlen] at h9
            exact ih (yc - 1) cn xv (by omega) (by omega) (by omega) (by omega) (by rw [show ww - (cn) = ww - cn - 0 by omega, ← h9]; exact hq) (by omega) _ _ _ hP hD hS (lv_sub hl [0, 4, 5, 6, 7, 8, 9, 10, 11, 12] rfl) 
          · have c_21 := eqz_y (a := ((u_16 : Nat) : Int) * ((u_16 : Nat) : Int)) (b := ((N - (ya * ya)) - (yb * yb)) - (yc * yc)) rfl rfl (by omega) (by omega) c_21
            refine lv_aload_n hx hb dX5_goThrough_129 rfl (lv_at hl 4 rfl) ?_
            refine va_get (D := D) (ci := 4) (v := .ref (ad 8)) (C := RX5) (T := TX5) (N := 18) hx hb hts in_X5 hown hK hP 0 rfl rfl 8 (by decide) (hts _ q581) (fun _ h9 => h9) rfl dX5_goThrough_130 ?_
            refine lv_iconst (v := 0) hx hb dX5_goThrough_133 (by decide) ?_
            refine lv_iload hx hb dX5_goThrough_134 (lv_at hl 11 rfl) ?_
            refine lv_i2l (v := (iZ ya).toInt64) hx hb dX5_goThrough_136 rfl ?_
            refine va_last hx hb hK hP hD hS 1 2 rfl rfl (vin (by decide)) dX5_goThrough_137 (fun H locs hP hD hS => ?_)
            rw [L4_s0] at hP hD
            have hP : va_P D vwCl [(o, mO ad nf mo), (ad 8, a4 ca ((iZ ya).toInt64, xv.2.1, xv.2.2.1, xv.2.2.2))] H := hP
            have hD : va_D A [(o, mO ad nf mo), (ad 8, a4 ca ((iZ ya).toInt64, xv.2.1, xv.2.2.1, xv.2.2.2))] := hD
            refine lv_aload_n hx hb dX5_goThrough_138 rfl (lv_at hl 4 rfl) ?_
            refine va_get (D := D) (ci := 4) (v := .ref (ad 8)) (C := RX5) (T := TX5) (N := 18) hx hb hts in_X5 hown hK hP 0 rfl rfl 8 (by decide) (hts _ q581) (fun _ h9 => h9) rfl dX5_goThrough_139 ?_
            refine lv_iconst (v := 1) hx hb dX5_goThrough_142 (by decide) ?_
            refine lv_iload hx hb dX5_goThrough_143 (lv_at hl 12 rfl) ?_
            refine lv_i2l (v := (iZ yb).toInt64) hx hb dX5_goThrough_145 rfl ?_
            refine va_last hx hb hK hP hD hS 1 2 rfl rfl (vin (by decide)) dX5_goThrough_146 (fun H locs hP hD hS => ?_)
            rw [L4_s1] at hP hD
            have hP : va_P D vwCl [(o, mO ad nf mo), (ad 8, a4 ca ((iZ ya).toInt64, (iZ yb).toInt64, xv.2.2.1, xv.2.2.2))] H := hP
            have hD : va_D A [(o, mO ad nf mo), (ad 8, a4 ca ((iZ ya).toInt64, (iZ yb).toInt64, xv.2.2.1, xv.2.2.2))] := hD
            refine lv_aload_n hx hb dX5_goThrough_147 rfl (lv_at hl 4 rfl) ?_
            refine va_get (D := D) (ci := 4) (v := .ref (ad 8)) (C := RX5) (T := TX5) (N := 18) hx hb hts in_X5 hown hK hP 0 rfl rfl 8 (by decide) (hts _ q581) (fun _ h9 => h9) rfl dX5_goThrough_148 ?_
            refine lv_iconst (v := 2) hx hb dX5_goThrough_151 (by decide) ?_
            refine lv_iload hx hb dX5_goThrough_152 (lv_at hl 3 rfl) ?_
            refine lv_i2l (v := (iZ yc).toInt64) hx hb dX5_goThrough_154 rfl ?_
            refine va_last hx hb hK hP hD hS 1 2 rfl rfl (vin (by decide)) dX5_goThrough_155 (fun H locs hP hD hS => ?_)
            rw [L4_s2] at hP hD
            have hP : va_P D vwCl [(o, mO ad nf mo), (ad 8, a4 ca ((iZ ya).toInt64, (iZ yb).toInt64, (iZ yc).toInt64, xv.2.2.2))] H := hP
            have hD : va_D A [(o, mO ad nf mo), (ad 8, a4 ca ((iZ ya).toInt64, (iZ yb).toInt64, (iZ yc).toInt64, xv.2.2.2))] := hD
            refine lv_aload_n hx hb dX5_goThrough_156 rfl (lv_at hl 4 rfl) ?_
            refine va_get (D := D) (ci := 4) (v := .ref (ad 8)) (C := RX5) (T := TX5) (N := 18) hx hb hts in_X5 hown hK hP 0 rfl rfl 8 (by decide) (hts _ q581) (fun _ h9 => h9) rfl dX5_goThrough_157 ?_
            refine lv_iconst (v := 3) hx hb dX5_goThrough_160 (by decide) ?_
            refine lv_iload hx hb dX5_goThrough_161 (lv_at hl 0 rfl) ?_
            refine lv_if_ne (tgt := 172) hx hb dX5_goThrough_163 (by decide) (fun c_22 => absurd (by decide) c_22) (fun c_22 => ?_)
            refine lv_iload hx hb dX5_goThrough_166 (lv_at hl 1 rfl) ?_
            refine lv_topi (fun z_23 ez_23 => ?_)
            obtain rfl : z_23 = iZ ((u_16 : Nat) : Int) := ez_23.trans (iZ_n u_16)
            refine lv_i2l (v := (iZ ((u_16 : Nat) : Int)).toInt64) hx hb dX5_goThrough_168 rfl ?_
            refine lv_goto (tgt := 176) hx hb dX5_goThrough_169 (by decide) ?_
            refine va_last hx hb hK hP hD hS 1 2 rfl rfl (vin (by decide)) dX5_goThrough_176 (fun H locs hP hD hS => ?_)
            rw [L4_s3] at hP hD
            have hP : va_P D vwCl [(o, mO ad nf mo), (ad 8, a4 ca ((iZ ya).toInt64, (iZ yb).toInt64, (iZ yc).toInt64, (iZ ((u_16 : Nat) : Int)).toInt64))] H := hP
            have hD : va_D A [(o, mO ad nf mo), (ad 8, a4 ca ((iZ ya).toInt64, (iZ yb).toInt64, (iZ yc).toInt64, (iZ ((u_16 : Nat) : Int)).toInt64))] := hD
            refine lv_iload hx hb dX5_goThrough_177 (lv_at hl 11 rfl) ?_
            refine lv_i2l (v := (iZ ya).toInt64) hx hb dX5_goThrough_179 rfl ?_
            refine lv_iload hx hb dX5_goThrough_180 (lv_at hl 12 rfl) ?_
            refine lv_i2l (v := (iZ yb).toInt64) hx hb dX5_goThrough_182 rfl ?_
            refine lv_iload hx hb dX5_goThrough_183 (lv_at hl 3 rfl) ?_
            refine lv_i2l (v := (iZ yc).toInt64) hx hb dX5_goThrough_185 rfl ?_
            refine lv_iload hx hb dX5_goThrough_186 (lv_at hl 1 rfl) ?_
            refine lv_topi (fun z_24 ez_24 => ?_)
            obtain rfl : z_24 = iZ ((u_16 : Nat) : Int) := ez_24.trans (iZ_n u_16)
            refine lv_i2l (v := (iZ ((u_16 : Nat) : Int)).toInt64) hx hb dX5_goThrough_188 rfl ?_
            refine k_calli (wr := [(o, mO ad nf mo), (ad 8, a4 ca ((iZ ya).toInt64, (iZ yb).toInt64, (iZ yc).toInt64, (iZ ((u_16 : Nat) : Int)).toInt64))]) (va_runS (As := [.long ((iZ ya).toInt64), .long ((iZ yb).toInt64), .long ((iZ yc).toInt64), .long ((iZ ((u_16 : Nat) : Int)).toInt64)]) (rest := []) ⟨hx, hb, hml, hown, hts⟩ (ct_X5_isOne hk l D ca H.size ((iZ ya).toInt64) ((iZ yb).toInt64) ((iZ yc).toInt64) ((iZ ((u_16 : Nat) : Int)).toInt64)) (va_cwS 4 hts (lw_S q570 q571 q24 q572) rfl rfl rfl (by decide +kernel) ⟨Nat.le_of_ble_eq_true rfl, Nat.le_of_ble_eq_true rfl⟩) (k_pre hk hK hN hP hD [] (by decide) rfl trivial) rfl rfl hl.1 rfl (lv_room (Nat.le_of_ble_eq_true rfl)) dX5_goThrough_189 ⟨Nat.le_of_ble_eq_true rfl, Nat.le_of_ble_eq_true rfl⟩) hP hD hS hA [] [0, 1] rfl rfl (by decide) (by decide) (fun r_25 u_26 H locs w_27 hP hD hxw_27 hzw_27 hqw_27 hS => ?_)
            obtain rfl : r_25 = bI (p_one ((iZ ya).toInt64) ((iZ yb).toInt64) ((iZ yc).toInt64) ((iZ ((u_16 : Nat) : Int)).toInt64)) := w_27
            refine lv_if_eq (tgt := 241) hx hb dX5_goThrough_192 (by decide) (fun c_28 => ?_) (fun c_28 => ?_)
            · have c_28 := bI_z0 c_28
              refine lv_iconst (v := 0) hx hb dX5_goThrough_241 (by decide) ?_
              refine lv_istore (lv' := [(13, .int 0), (12, .int 0), (11, .int (nI u_16)), (10, .int (iZ (((N - (ya * ya)) - (yb * yb)) - (yc * yc)))), (9, .int (iZ yc)), (0, .ref o), (1, .int (nI n0)), (2, .int (nI 0)), (3, .int (nI ww)), (4, .int (iZ N)), (5, .int (nI M)), (6, .int (nI cn)), (7, .int (iZ ya)), (8, .int (iZ yb))]) hx hb dX5_goThrough_242 hl (by decide) rfl (fun ls hl => ?_)
              refine lv_iload hx hb dX5_goThrough_244 (lv_at hl 0 rfl) ?_
              refine lv_if_eq (tgt := 258) hx hb dX5_goThrough_246 (by decide) (fun c_29 => ?_) (fun c_29 => absurd (by decide) c_29)
              refine lv_iload hx hb dX5_goThrough_258 (lv_at hl 11 rfl) ?_
              refine lv_iload hx hb dX5_goThrough_260 (lv_at hl 0 rfl) ?_
              refine lv_if_eq (tgt := 269) hx hb dX5_goThrough_262 (by decide) (fun c_30 => ?_) (fun c_30 => absurd (by decide) c_30)
              refine lv_iconst (v := 0) hx hb dX5_goThrough_269 (by decide) ?_
              refine lv_iadd hx hb dX5_goThrough_270 ?_
              refine lv_topi (fun z_31 ez_31 => ?_)
              obtain rfl : z_31 = nI cn := ez_31.trans (eq_add0 rfl)
              refine lv_istore (lv' := [(6, .int (nI cn)), (13, .int 0), (12, .int 0), (11, .int (nI u_16)), (10, .int (iZ (((N - (ya * ya)) - (yb * yb)) - (yc * yc)))), (9, .int (iZ yc)), (0, .ref o), (1, .int (nI n0)), (2, .int (nI 0)), (3, .int (nI ww)), (4, .int (iZ N)), (5, .int (nI M)), (7, .int (iZ ya)), (8, .int (iZ yb))]) hx hb dX5_goThrough_271 hl (by decide) rfl (fun ls hl => ?_)
              refine lv_iinc (v := 1) (lv' := [(12, .int 1), (6, .int (nI cn)), (13, .int 0), (11, .int (nI u_16)), (10, .int (iZ (((N - (ya * ya)) - (yb * yb)) - (yc * yc)))), (9, .int (iZ yc)), (0, .ref o), (1, .int (nI n0)), (2, .int (nI 0)), (3, .int (nI ww)), (4, .int (iZ N)), (5, .int (nI M)), (7, .int (iZ ya)), (8, .int (iZ yb))]) hx hb dX5_goThrough_273 hl (k := 2) rfl (by decide) (by decide) rfl (fun ls hl => ?_)
              refine lv_goto (tgt := 108) hx hb dX5_goThrough_276 (by decide) ?_
              refine lv_iload hx hb dX5_goThrough_108 (lv_at hl 0 rfl) ?_
              refine lv_iconst (v := 2) hx hb dX5_goThrough_110 (by decide) ?_
              refine lv_icmp_ge (tgt := 279) hx hb dX5_goThrough_111 (by decide) (fun c_32 => absurd c_32 (by decide)) (fun c_32 => ?_)
              refine lv_iload hx hb dX5_goThrough_114 (lv_at hl 3 rfl) ?_
              refine lv_if_lt (tgt := 279) hx hb dX5_goThrough_116 (by decide) (fun c_33 => absurd c_33 (fun z => absurd (lt_y (a := u_16) (b := 0) rfl rfl (by omega) (by decide) z) (Nat.not_lt_zero _))) (fun c_33 => ?_)
              refine lv_iload hx hb dX5_goThrough_119 (lv_at hl 3 rfl) ?_
              refine lv_iload hx hb dX5_goThrough_121 (lv_at hl 3 rfl) ?_
              refine lv_imul hx hb dX5_goThrough_123 ?_
              refine lv_topi (fun z_34 ez_34 => ?_)
              obtain rfl : z_34 = iZ (((u_16 : Nat) : Int) * ((u_16 : Nat) : Int)) := ez_34.trans (zmul (iZ_n _) (iZ_n _))
              refine lv_iload hx hb dX5_goThrough_124 (lv_at hl 4 rfl) ?_
              refine lv_icmp_ne (tgt := 279) hx hb dX5_goThrough_126 (by decide) (fun c_35 => absurd (show iZ (((u_16 : Nat) : Int) * ((u_16 : Nat) : Int)) = iZ (((N - (ya * ya)) - (yb * yb)) - (yc * yc)) from congrArg iZ c_21) c_35) (fun c_35 => ?_)
              refine lv_aload_n hx hb dX5_goThrough_129 rfl (lv_at hl 6 rfl) ?_
              refine va_get (D := D) (ci := 4) (v := .ref (ad 8)) (C := RX5) (T := TX5) (N := 18) hx hb hts in_X5 hown hK hP 0 rfl rfl 8 (by decide) (hts _ q581) (fun _ h9 => h9) rfl dX5_goThrough_130 ?_
              refine lv_iconst (v := 0) hx hb dX5_goThrough_133 (by decide) ?_
              refine lv_iload hx hb dX5_goThrough_134 (lv_at hl 12 rfl) ?_
              refine lv_i2l (v := (iZ ya).toInt64) hx hb dX5_goThrough_136 rfl ?_
              refine va_last hx hb hK hP hD hS 1 2 rfl rfl (vin (by decide)) dX5_goThrough_137 (fun H locs hP hD hS => ?_)
              rw [L4_s0] at hP hD
              have hP : va_P D vwCl [(o, mO ad nf mo), (ad 8, a4 ca ((iZ ya).toInt64, (iZ yb).toInt64, (iZ yc).toInt64, (iZ ((u_16 : Nat) : Int)).toInt64))] H := hP
              have hD : va_D A [(o, mO ad nf mo), (ad 8, a4 ca ((iZ ya).toInt64, (iZ yb).toInt64, (iZ yc).toInt64, (iZ ((u_16 : Nat) : Int)).toInt64))] := hD
              refine lv_aload_n hx hb dX5_goThrough_138 rfl (lv_at hl 6 rfl) ?_
              refine va_get (D := D) (ci := 4) (v := .ref (ad 8)) (C := RX5) (T := TX5) (N := 18) hx hb hts in_X5 hown hK hP 0 rfl rfl 8 (by decide) (hts _ q581) (fun _ h9 => h9) rfl dX5_goThrough_139 ?_
              refine lv_iconst (v := 1) hx hb dX5_goThrough_142 (by decide) ?_
              refine lv_iload hx hb dX5_goThrough_143 (lv_at hl 13 rfl) ?_
              refine lv_i2l (v := (iZ yb).toInt64) hx hb dX5_goThrough_145 rfl ?_
              refine va_last hx hb hK hP hD hS 1 2 rfl rfl (vin (by decide)) dX5_goThrough_146 (fun H locs hP hD hS => ?_)
              rw [L4_s1] at hP hD
              have hP : va_P D vwCl [(o, mO ad nf mo), (ad 8, a4 ca ((iZ ya).toInt64, (iZ yb).toInt64, (iZ yc).toInt64, (iZ ((u_16 : Nat) : Int)).toInt64))] H := hP
              have hD : va_D A [(o, mO ad nf mo), (ad 8, a4 ca ((iZ ya).toInt64, (iZ yb).toInt64, (iZ yc).toInt64, (iZ ((u_16 : Nat) : Int)).toInt64))] := hD
              refine lv_aload_n hx hb dX5_goThrough_147 rfl (lv_at hl 6 rfl) ?_
              refine va_get (D := D) (ci := 4) (v := .ref (ad 8)) (C := RX5) (T := TX5) (N := 18) hx hb hts in_X5 hown hK hP 0 rfl rfl 8 (by decide) (hts _ q581) (fun _ h9 => h9) rfl dX5_goThrough_148 ?_
              refine lv_iconst (v := 2) hx hb dX5_goThrough_151 (by decide) ?_
              refine lv_iload hx hb dX5_goThrough_152 (lv_at hl 5 rfl) ?_
              refine lv_i2l (v := (iZ yc).toInt64) hx hb dX5_goThrough_154 rfl ?_
              refine va_last hx hb hK hP hD hS 1 2 rfl rfl (vin (by decide)) dX5_goThrough_155 (fun H locs hP hD hS => ?_)
              rw [L4_s2] at hP hD
              have hP : va_P D vwCl [(o, mO ad nf mo), (ad 8, a4 ca ((iZ ya).toInt64, (iZ yb).toInt64, (iZ yc).toInt64, (iZ ((u_16 : Nat) : Int)).toInt64))] H := hP
              have hD : va_D A [(o, mO ad nf mo), (ad 8, a4 ca ((iZ ya).toInt64, (iZ yb).toInt64, (iZ yc).toInt64, (iZ ((u_16 : Nat) : Int)).toInt64))] := hD
              refine lv_aload_n hx hb dX5_goThrough_156 rfl (lv_at hl 6 rfl) ?_
              refine va_get (D := D) (ci := 4) (v := .ref (ad 8)) (C := RX5) (T := TX5) (N := 18) hx hb hts in_X5 hown hK hP 0 rfl rfl 8 (by decide) (hts _ q581) (fun _ h9 => h9) rfl dX5_goThrough_157 ?_
              refine lv_iconst (v := 3) hx hb dX5_goThrough_160 (by decide) ?_
              refine lv_iload hx hb dX5_goThrough_161 (lv_at hl 0 rfl) ?_
              refine lv_if_ne (tgt := 172) hx hb dX5_goThrough_163 (by decide) (fun c_36 => ?_) (fun c_36 => absurd c_36 (by decide))
              refine lv_iload hx hb dX5_goThrough_172 (lv_at hl 3 rfl) ?_
              refine lv_ineg hx hb dX5_goThrough_174 ?_
              refine lv_topi (fun z_37 ez_37 => ?_)
              obtain rfl : z_37 = iZ (-((u_16 : Nat) : Int)) := ez_37.trans (zneg (iZ_n _))
              refine lv_i2l (v := (iZ (-((u_16 : Nat) : Int))).toInt64) hx hb dX5_goThrough_175 rfl ?_
              refine va_last hx hb hK hP hD hS 1 2 rfl rfl (vin (by decide)) dX5_goThrough_176 (fun H locs hP hD hS => ?_)
              rw [L4_s3] at hP hD
              have hP : va_P D vwCl [(o, mO ad nf mo), (ad 8, a4 ca ((iZ ya).toInt64, (iZ yb).toInt64, (iZ yc).toInt64, (iZ (-((u_16 : Nat) : Int))).toInt64))] H := hP
              have hD : va_D A [(o, mO ad nf mo), (ad 8, a4 ca ((iZ ya).toInt64, (iZ yb).toInt64, (iZ yc).toInt64, (iZ (-((u_16 : Nat) : Int))).toInt64))] := hD
              refine lv_iload hx hb dX5_goThrough_177 (lv_at hl 12 rfl) ?_
              refine lv_i2l (v := (iZ ya).toInt64) hx hb dX5_goThrough_179 rfl ?_
              refine lv_iload hx hb dX5_goThrough_180 (lv_at hl 13 rfl) ?_
              refine lv_i2l (v := (iZ yb).toInt64) hx hb dX5_goThrough_182 rfl ?_
              refine lv_iload hx hb dX5_goThrough_183 (lv_at hl 5 rfl) ?_
              refine lv_i2l (v := (iZ yc).toInt64) hx hb dX5_goThrough_185 rfl ?_
              refine lv_iload hx hb dX5_goThrough_186 (lv_at hl 3 rfl) ?_
              refine lv_topi (fun z_38 ez_38 => ?_)
              obtain rfl : z_38 = iZ ((u_16 : Nat) : Int) := ez_38.trans (iZ_n u_16)
              refine lv_i2l (v := (iZ ((u_16 : Nat) : Int)).toInt64) hx hb dX5_goThrough_188 rfl ?_
              refine k_calli (wr := [(o, mO ad nf mo), (ad 8, a4 ca ((iZ ya).toInt64, (iZ yb).toInt64, (iZ yc).toInt64, (iZ (-((u_16 : Nat) : Int))).toInt64))]) (va_runS (As := [.long ((iZ ya).toInt64), .long ((iZ yb).toInt64), .long ((iZ yc).toInt64), .long ((iZ ((u_16 : Nat) : Int)).toInt64)]) (rest := []) ⟨hx, hb, hml, hown, hts⟩ (ct_X5_isOne hk l D ca H.size ((iZ ya).toInt64) ((iZ yb).toInt64) ((iZ yc).toInt64) ((iZ ((u_16 : Nat) : Int)).toInt64)) (va_cwS 4 hts (lw_S q570 q571 q24 q572) rfl rfl rfl (by decide +kernel) ⟨Nat.le_of_ble_eq_true rfl, Nat.le_of_ble_eq_true rfl⟩) (k_pre hk hK hN hP hD [] (by decide) rfl trivial) rfl rfl hl.1 rfl (lv_room (Nat.le_of_ble_eq_true rfl)) dX5_goThrough_189 ⟨Nat.le_of_ble_eq_true rfl, Nat.le_of_ble_eq_true rfl⟩) hP hD hS hA [] [0, 1] rfl rfl (by decide) (by decide) (fun r_39 u_40 H locs w_41 hP hD hxw_41 hzw_41 hqw_41 hS => ?_)
              obtain rfl : r_39 = bI (p_one ((iZ ya).toInt64) ((iZ yb).toInt64) ((iZ yc).toInt64) ((iZ ((u_16 : Nat) : Int)).toInt64)) := w_41
              refine lv_if_eq (tgt := 241) hx hb dX5_goThrough_192 (by decide) (fun c_42 => ?_) (fun c_42 => absurd (by rw [c_28]; rfl) c_42)
              refine lv_iconst (v := 0) hx hb dX5_goThrough_241 (by decide) ?_
              refine lv_istore (lv' := [(13, .int 0), (12, .int 1), (6, .int (nI cn)), (11, .int (nI u_16)), (10, .int (iZ (((N - (ya * ya)) - (yb * yb)) - (yc * yc)))), (9, .int (iZ yc)), (0, .ref o), (1, .int (nI n0)), (2, .int (nI 0)), (3, .int (nI ww)), (4, .int (iZ N)), (5, .int (nI M)), (7, .int (iZ ya)), (8, .int (iZ yb))]) hx hb dX5_goThrough_242 hl (by decide) rfl (fun ls hl => ?_)
              refine lv_iload hx hb dX5_goThrough_244 (lv_at hl 0 rfl) ?_
              refine lv_if_eq (tgt := 258) hx hb dX5_goThrough_246 (by decide) (fun c_43 => ?_) (fun c_43 => absurd (by decide) c_43)
              refine lv_iload hx hb dX5_goThrough_258 (lv_at hl 2 rfl) ?_
              refine lv_iload hx hb dX5_goThrough_260 (lv_at hl 0 rfl) ?_
              refine lv_if_eq (tgt := 269) hx hb dX5_goThrough_262 (by decide) (fun c_44 => ?_) (fun c_44 => absurd (by decide) c_44)
              refine lv_iconst (v := 0) hx hb dX5_goThrough_269 (by decide) ?_
              refine lv_iadd hx hb dX5_goThrough_270 ?_
              refine lv_topi (fun z_45 ez_45 => ?_)
              obtain rfl : z_45 = nI cn := ez_45.trans (eq_add0 rfl)
              refine lv_istore (lv' := [(6, .int (nI cn)), (13, .int 0), (12, .int 1), (11, .int (nI u_16)), (10, .int (iZ (((N - (ya * ya)) - (yb * yb)) - (yc * yc)))), (9, .int (iZ yc)), (0, .ref o), (1, .int (nI n0)), (2, .int (nI 0)), (3, .int (nI ww)), (4, .int (iZ N)), (5, .int (nI M)), (7, .int (iZ ya)), (8, .int (iZ yb))]) hx hb dX5_goThrough_271 hl (by decide) rfl (fun ls hl => ?_)
              refine lv_iinc (v := 2) (lv' := [(12, .int 2), (6, .int (nI cn)), (13, .int 0), (11, .int (nI u_16)), (10, .int (iZ (((N - (ya * ya)) - (yb * yb)) - (yc * yc)))), (9, .int (iZ yc)), (0, .ref o), (1, .int (nI n0)), (2, .int (nI 0)), (3, .int (nI ww)), (4, .int (iZ N)), (5, .int (nI M)), (7, .int (iZ ya)), (8, .int (iZ yb))]) hx hb dX5_goThrough_273 hl (k := 2) rfl (by decide) (by decide) rfl (fun ls hl => ?_)
              refine lv_goto (tgt := 108) hx hb dX5_goThrough_276 (by decide) ?_
              refine lv_iload hx hb dX5_goThrough_108 (lv_at hl 0 rfl) ?_
              refine lv_iconst (v := 2) hx hb dX5_goThrough_110 (by decide) ?_
              refine lv_icmp_ge (tgt := 279) hx hb dX5_goThrough_111 (by decide) (fun c_46 => ?_) (fun c_46 => absurd (by decide) c_46)
              refine lv_iinc (v := iZ (yc - 1)) (lv' := [(9, .int (iZ (yc - 1))), (12, .int 2), (6, .int (nI cn)), (13, .int 0), (11, .int (nI u_16)), (10, .int (iZ (((N - (ya * ya)) - (yb * yb)) - (yc * yc)))), (0, .ref o), (1, .int (nI n0)), (2, .int (nI 0)), (3, .int (nI ww)), (4, .int (iZ N)), (5, .int (nI M)), (7, .int (iZ ya)), (8, .int (iZ yb))]) hx hb dX5_goThrough_279 hl (k := 5) rfl ((zadd rfl (b := -1) (by decide)).trans (by rw [Int.sub_eq_add_neg])) (by decide) rfl (fun ls hl => ?_)
              refine lv_goto (tgt := 43) hx hb dX5_goThrough_282 (by decide) ?_
              have hpp := one_par (a := ya) (b := yb) (c := yc) (d := ((u_16 : Nat) : Int)) (by omega) (by omega) (by omega) (by omega)
              have hds : ds N M ya yb yc = [] := ds_none (fun d9 => okQ_f (fun z9 => by have hz9 := sq_inj (x := d9) (d := ((u_16 : Nat) : Int)) (by omega) (by omega); rw [c_28] at hpp; have hn9 : ¬ ((ya - yb) % 2 = 0 ∧ (ya - yc) % 2 = 0 ∧ (ya - ((u_16 : Nat) : Int)) % 2 = 0) := (fun q9 => absurd (hpp.mpr q9) (by decide)); exact hn9 ⟨z9.2.1, z9.2.2.1, by rcases hz9 with e9 | e9 <;> (rw [e9] at z9; omega)⟩))
              have hlen : (ds N M ya yb yc).length = 0 := by rw [hds]; rfl
              have h9 := getD_r (K := TC N M ya yb (yc - 1) ++ R) (z := (0, 0, 0, 0)) (show (S3 N M ya yb yc).length ≤ ww - cn by rw [S3_len]; omega)
              rw [S3_len, hlen] at h9
              exact ih (yc - 1) cn ((iZ ya).toInt64, (iZ yb).toInt64, (iZ yc).toInt64, (iZ (-((u_16 : Nat) : Int))).toInt64) (by omega) (by omega) (by omega) (by omega) (by rw [show ww - (cn) = ww - cn - 0 by omega, ← h9]; exact hq) (by omega) _ _ _ hP hD hS (lv_sub hl [0, 6, 7, 8, 9, 10, 11, 2, 12, 13] rfl) 
            · have c_28 := bI_z1 c_28
              refine lv_iload hx hb dX5_goThrough_195 (lv_at hl 0 rfl) ?_
              refine lv_if_eq (tgt := 205) hx hb dX5_goThrough_197 (by decide) (fun c_47 => ?_) (fun c_47 => absurd (by decide) c_47)
              refine lv_iload_n hx hb dX5_goThrough_205 rfl (lv_at hl 6 rfl) ?_
              refine lv_if_eq (tgt := 237) hx hb dX5_goThrough_206 (by decide) (fun c_48 => ?_) (fun c_48 => absurd rfl c_48)
              refine lv_iconst (v := 1) hx hb dX5_goThrough_237 (by decide) ?_
              refine lv_goto (tgt := 242) hx hb dX5_goThrough_238 (by decide) ?_
              refine lv_istore (lv' := [(13, .int 1), (12, .int 0), (11, .int (nI u_16)), (10, .int (iZ (((N - (ya * ya)) - (yb * yb)) - (yc * yc)))), (9, .int (iZ yc)), (0, .ref o), (1, .int (nI n0)), (2, .int (nI 0)), (3, .int (nI ww)), (4, .int (iZ N)), (5, .int (nI M)), (6, .int (nI cn)), (7, .int (iZ ya)), (8, .int (iZ yb))]) hx hb dX5_goThrough_242 hl (by decide) rfl (fun ls hl => ?_)
              refine lv_iload hx hb dX5_goThrough_244 (lv_at hl 0 rfl) ?_
              refine lv_if_eq (tgt := 258) hx hb dX5_goThrough_246 (by decide) (fun c_49 => absurd c_49 (by decide)) (fun c_49 => ?_)
              refine lv_iload hx hb dX5_goThrough_249 (lv_at hl 11 rfl) ?_
              refine lv_iload_n hx hb dX5_goThrough_251 rfl (lv_at hl 8 rfl) ?_
              refine lv_icmp_ne (tgt := 258) hx hb dX5_goThrough_252 (by decide) (fun c_50 => ?_) (fun c_50 => ?_)
              · have c_50 := eq_no (a := cn) (b := ww) rfl rfl (by omega) (by omega) c_50
                refine lv_iload hx hb dX5_goThrough_258 (lv_at hl 11 rfl) ?_
                refine lv_iload hx hb dX5_goThrough_260 (lv_at hl 0 rfl) ?_
                refine lv_if_eq (tgt := 269) hx hb dX5_goThrough_262 (by decide) (fun c_51 => absurd c_51 (by decide)) (fun c_51 => ?_)
                refine lv_iconst (v := 1) hx hb dX5_goThrough_265 (by decide) ?_
                refine lv_goto (tgt := 270) hx hb dX5_goThrough_266 (by decide) ?_
                refine lv_iadd hx hb dX5_goThrough_270 ?_
                refine lv_topi (fun z_52 ez_52 => ?_)
                obtain rfl : z_52 = nI (cn + 1) := ez_52.trans (eq_add rfl rfl)
                refine lv_istore (lv' := [(6, .int (nI (cn + 1))), (13, .int 1), (12, .int 0), (11, .int (nI u_16)), (10, .int (iZ (((N - (ya * ya)) - (yb * yb)) - (yc * yc)))), (9, .int (iZ yc)), (0, .ref o), (1, .int (nI n0)), (2, .int (nI 0)), (3, .int (nI ww)), (4, .int (iZ N)), (5, .int (nI M)), (7, .int (iZ ya)), (8, .int (iZ yb))]) hx hb dX5_goThrough_271 hl (by decide) rfl (fun ls hl => ?_)
                refine lv_iinc (v := 1) (lv' := [(12, .int 1), (6, .int (nI (cn + 1))), (13, .int 1), (11, .int (nI u_16)), (10, .int (iZ (((N - (ya * ya)) - (yb * yb)) - (yc * yc)))), (9, .int (iZ yc)), (0, .ref o), (1, .int (nI n0)), (2, .int (nI 0)), (3, .int (nI ww)), (4, .int (iZ N)), (5, .int (nI M)), (7, .int (iZ ya)), (8, .int (iZ yb))]) hx hb dX5_goThrough_273 hl (k := 2) rfl (by decide) (by decide) rfl (fun ls hl => ?_)
                refine lv_goto (tgt := 108) hx hb dX5_goThrough_276 (by decide) ?_
                refine lv_iload hx hb dX5_goThrough_108 (lv_at hl 0 rfl) ?_
                refine lv_iconst (v := 2) hx hb dX5_goThrough_110 (by decide) ?_
                refine lv_icmp_ge (tgt := 279) hx hb dX5_goThrough_111 (by decide) (fun c_53 => absurd c_53 (by decide)) (fun c_53 => ?_)
                refine lv_iload hx hb dX5_goThrough_114 (lv_at hl 3 rfl) ?_
                refine lv_if_lt (tgt := 279) hx hb dX5_goThrough_116 (by decide) (fun c_54 => absurd c_54 (fun z => absurd (lt_y (a := u_16) (b := 0) rfl rfl (by omega) (by decide) z) (Nat.not_lt_zero _))) (fun c_54 => ?_)
                refine lv_iload hx hb dX5_goThrough_119 (lv_at hl 3 rfl) ?_
                refine lv_iload hx hb dX5_goThrough_121 (lv_at hl 3 rfl) ?_
                refine lv_imul hx hb dX5_goThrough_123 ?_
                refine lv_topi (fun z_55 ez_55 => ?_)
                obtain rfl : z_55 = iZ (((u_16 : Nat) : Int) * ((u_16 : Nat) : Int)) := ez_55.trans (zmul (iZ_n _) (iZ_n _))
                refine lv_iload hx hb dX5_goThrough_124 (lv_at hl 4 rfl) ?_
                refine lv_icmp_ne (tgt := 279) hx hb dX5_goThrough_126 (by decide) (fun c_56 => absurd (show iZ (((u_16 : Nat) : Int) * ((u_16 : Nat) : Int)) = iZ (((N - (ya * ya)) - (yb * yb)) - (yc * yc)) from congrArg iZ c_21) c_56) (fun c_56 => ?_)
                refine lv_aload_n hx hb dX5_goThrough_129 rfl (lv_at hl 6 rfl) ?_
                refine va_get (D := D) (ci := 4) (v := .ref (ad 8)) (C := RX5) (T := TX5) (N := 18) hx hb hts in_X5 hown hK hP 0 rfl rfl 8 (by decide) (hts _ q581) (fun _ h9 => h9) rfl dX5_goThrough_130 ?_
                refine lv_iconst (v := 0) hx hb dX5_goThrough_133 (by decide) ?_
                refine lv_iload hx hb dX5_goThrough_134 (lv_at hl 12 rfl) ?_
                refine lv_i2l (v := (iZ ya).toInt64) hx hb dX5_goThrough_136 rfl ?_
                refine va_last hx hb hK hP hD hS 1 2 rfl rfl (vin (by decide)) dX5_goThrough_137 (fun H locs hP hD hS => ?_)
                rw [L4_s0] at hP hD
                have hP : va_P D vwCl [(o, mO ad nf mo), (ad 8, a4 ca ((iZ ya).toInt64, (iZ yb).toInt64, (iZ yc).toInt64, (iZ ((u_16 : Nat) : Int)).toInt64))] H := hP
                have hD : va_D A [(o, mO ad nf mo), (ad 8, a4 ca ((iZ ya).toInt64, (iZ yb).toInt64, (iZ yc).toInt64, (iZ ((u_16 : Nat) : Int)).toInt64))] := hD
                refine lv_aload_n hx hb dX5_goThrough_138 rfl (lv_at hl 6 rfl) ?_
                refine va_get (D := D) (ci := 4) (v := .ref (ad 8)) (C := RX5) (T := TX5) (N := 18) hx hb hts in_X5 hown hK hP 0 rfl rfl 8 (by decide) (hts _ q581) (fun _ h9 => h9) rfl dX5_goThrough_139 ?_
                refine lv_iconst (v := 1) hx hb dX5_goThrough_142 (by decide) ?_
                refine lv_iload hx hb dX5_goThrough_143 (lv_at hl 13 rfl) ?_
                refine lv_i2l (v := (iZ yb).toInt64) hx hb dX5_goThrough_145 rfl ?_
                refine va_last hx hb hK hP hD hS 1 2 rfl rfl (vin (by decide)) dX5_goThrough_146 (fun H locs hP hD hS => ?_)
                rw [L4_s1] at hP hD
                have hP : va_P D vwCl [(o, mO ad nf mo), (ad 8, a4 ca ((iZ ya).toInt64, (iZ yb).toInt64, (iZ yc).toInt64, (iZ ((u_16 : Nat) : Int)).toInt64))] H := hP
                have hD : va_D A [(o, mO ad nf mo), (ad 8, a4 ca ((iZ ya).toInt64, (iZ yb).toInt64, (iZ yc).toInt64, (iZ ((u_16 : Nat) : Int)).toInt64))] := hD
                refine lv_aload_n hx hb dX5_goThrough_147 rfl (lv_at hl 6 rfl) ?_
                refine va_get (D := D) (ci := 4) (v := .ref (ad 8)) (C := RX5) (T := TX5) (N := 18) hx hb hts in_X5 hown hK hP 0 rfl rfl 8 (by decide) (hts _ q581) (fun _ h9 => h9) rfl dX5_goThrough_148 ?_
                refine lv_iconst (v := 2) hx hb dX5_goThrough_151 (by decide) ?_
                refine lv_iload hx hb dX5_goThrough_152 (lv_at hl 5 rfl) ?_
                refine lv_i2l (v := (iZ yc).toInt64) hx hb dX5_goThrough_154 rfl ?_
                refine va_last hx hb hK hP hD hS 1 2 rfl rfl (vin (by decide)) dX5_goThrough_155 (fun H locs hP hD hS => ?_)
                rw [L4_s2] at hP hD
                have hP : va_P D vwCl [(o, mO ad nf mo), (ad 8, a4 ca ((iZ ya).toInt64, (iZ yb).toInt64, (iZ yc).toInt64, (iZ ((u_16 : Nat) : Int)).toInt64))] H := hP
                have hD : va_D A [(o, mO ad nf mo), (ad 8, a4 ca ((iZ ya).toInt64, (iZ yb).toInt64, (iZ yc).toInt64, (iZ ((u_16 : Nat) : Int)).toInt64))] := hD
                refine lv_aload_n hx hb dX5_goThrough_156 rfl (lv_at hl 6 rfl) ?_
                refine va_get (D := D) (ci := 4) (v := .ref (ad 8)) (C := RX5) (T := TX5) (N := 18) hx hb hts in_X5 hown hK hP 0 rfl rfl 8 (by decide) (hts _ q581) (fun _ h9 => h9) rfl dX5_goThrough_157 ?_
                refine lv_iconst (v := 3) hx hb dX5_goThrough_160 (by decide) ?_
                refine lv_iload hx hb dX5_goThrough_161 (lv_at hl 0 rfl) ?_
                refine lv_if_ne (tgt := 172) hx hb dX5_goThrough_163 (by decide) (fun c_57 => ?_) (fun c_57 => absurd c_57 (by decide))
                refine lv_iload hx hb dX5_goThrough_172 (lv_at hl 3 rfl) ?_
                refine lv_ineg hx hb dX5_goThrough_174 ?_
                refine lv_topi (fun z_58 ez_58 => ?_)
                obtain rfl : z_58 = iZ (-((u_16 : Nat) : Int)) := ez_58.trans (zneg (iZ_n _))
                refine lv_i2l (v := (iZ (-((u_16 : Nat) : Int))).toInt64) hx hb dX5_goThrough_175 rfl ?_
                refine va_last hx hb hK hP hD hS 1 2 rfl rfl (vin (by decide)) dX5_goThrough_176 (fun H locs hP hD hS => ?_)
                rw [L4_s3] at hP hD
                have hP : va_P D vwCl [(o, mO ad nf mo), (ad 8, a4 ca ((iZ ya).toInt64, (iZ yb).toInt64, (iZ yc).toInt64, (iZ (-((u_16 : Nat) : Int))).toInt64))] H := hP
                have hD : va_D A [(o, mO ad nf mo), (ad 8, a4 ca ((iZ ya).toInt64, (iZ yb).toInt64, (iZ yc).toInt64, (iZ (-((u_16 : Nat) : Int))).toInt64))] := hD
                refine lv_iload hx hb dX5_goThrough_177 (lv_at hl 12 rfl) ?_
                refine lv_i2l (v := (iZ ya).toInt64) hx hb dX5_goThrough_179 rfl ?_
                refine lv_iload hx hb dX5_goThrough_180 (lv_at hl 13 rfl) ?_
                refine lv_i2l (v := (iZ yb).toInt64) hx hb dX5_goThrough_182 rfl ?_
                refine lv_iload hx hb dX5_goThrough_183 (lv_at hl 5 rfl) ?_
                refine lv_i2l (v := (iZ yc).toInt64) hx hb dX5_goThrough_185 rfl ?_
                refine lv_iload hx hb dX5_goThrough_186 (lv_at hl 3 rfl) ?_
                refine lv_topi (fun z_59 ez_59 => ?_)
                obtain rfl : z_59 = iZ ((u_16 : Nat) : Int) := ez_59.trans (iZ_n u_16)
                refine lv_i2l (v := (iZ ((u_16 : Nat) : Int)).toInt64) hx hb dX5_goThrough_188 rfl ?_
                refine k_calli (wr := [(o, mO ad nf mo), (ad 8, a4 ca ((iZ ya).toInt64, (iZ yb).toInt64, (iZ yc).toInt64, (iZ (-((u_16 : Nat) : Int))).toInt64))]) (va_runS (As := [.long ((iZ ya).toInt64), .long ((iZ yb).toInt64), .long ((iZ yc).toInt64), .long ((iZ ((u_16 : Nat) : Int)).toInt64)]) (rest := []) ⟨hx, hb, hml, hown, hts⟩ (ct_X5_isOne hk l D ca H.size ((iZ ya).toInt64) ((iZ yb).toInt64) ((iZ yc).toInt64) ((iZ ((u_16 : Nat) : Int)).toInt64)) (va_cwS 4 hts (lw_S q570 q571 q24 q572) rfl rfl rfl (by decide +kernel) ⟨Nat.le_of_ble_eq_true rfl, Nat.le_of_ble_eq_true rfl⟩) (k_pre hk hK hN hP hD [] (by decide) rfl trivial) rfl rfl hl.1 rfl (lv_room (Nat.le_of_ble_eq_true rfl)) dX5_goThrough_189 ⟨Nat.le_of_ble_eq_true rfl, Nat.le_of_ble_eq_true rfl⟩) hP hD hS hA [] [0, 1] rfl rfl (by decide) (by decide) (fun r_60 u_61 H locs w_62 hP hD hxw_62 hzw_62 hqw_62 hS => ?_)
                obtain rfl : r_60 = bI (p_one ((iZ ya).toInt64) ((iZ yb).toInt64) ((iZ yc).toInt64) ((iZ ((u_16 : Nat) : Int)).toInt64)) := w_62
                refine lv_if_eq (tgt := 241) hx hb dX5_goThrough_192 (by decide) (fun c_63 => absurd c_63 (by rw [c_28]; decide)) (fun c_63 => ?_)
                refine lv_iload hx hb dX5_goThrough_195 (lv_at hl 0 rfl) ?_
                refine lv_if_eq (tgt := 205) hx hb dX5_goThrough_197 (by decide) (fun c_64 => absurd c_64 (by decide)) (fun c_64 => ?_)
                refine lv_iload hx hb dX5_goThrough_200 (lv_at hl 3 rfl) ?_
                refine lv_if_le (tgt := 241) hx hb dX5_goThrough_202 (by decide) (fun c_65 => ?_) (fun c_65 => ?_)
                · have c_65 := le_y (a := u_16) (b := 0) rfl rfl (by omega) (by omega) c_65
                  refine lv_iconst (v := 0) hx hb dX5_goThrough_241 (by decide) ?_
                  refine lv_istore (lv' := [(13, .int 0), (12, .int 1), (6, .int (nI (cn + 1))), (11, .int (nI u_16)), (10, .int (iZ (((N - (ya * ya)) - (yb * yb)) - (yc * yc)))), (9, .int (iZ yc)), (0, .ref o), (1, .int (nI n0)), (2, .int (nI 0)), (3, .int (nI ww)), (4, .int (iZ N)), (5, .int (nI M)), (7, .int (iZ ya)), (8, .int (iZ yb))]) hx hb dX5_goThrough_242 hl (by decide) rfl (fun ls hl => ?_)
                  refine lv_iload hx hb dX5_goThrough_244 (lv_at hl 0 rfl) ?_
                  refine lv_if_eq (tgt := 258) hx hb dX5_goThrough_246 (by decide) (fun c_66 => ?_) (fun c_66 => absurd (by decide) c_66)
                  refine lv_iload hx hb dX5_goThrough_258 (lv_at hl 2 rfl) ?_
                  refine lv_iload hx hb dX5_goThrough_260 (lv_at hl 0 rfl) ?_
                  refine lv_if_eq (tgt := 269) hx hb dX5_goThrough_262 (by decide) (fun c_67 => ?_) (fun c_67 => absurd (by decide) c_67)
                  refine lv_iconst (v := 0) hx hb dX5_goThrough_269 (by decide) ?_
                  refine lv_iadd hx hb dX5_goThrough_270 ?_
                  refine lv_topi (fun z_68 ez_68 => ?_)
                  obtain rfl : z_68 = nI (cn + 1) := ez_68.trans (eq_add0 rfl)
                  refine lv_istore (lv' := [(6, .int (nI (cn + 1))), (13, .int 0), (12, .int 1), (11, .int (nI u_16)), (10, .int (iZ (((N - (ya * ya)) - (yb * yb)) - (yc * yc)))), (9, .int (iZ yc)), (0, .ref o), (1, .int (nI n0)), (2, .int (nI 0)), (3, .int (nI ww)), (4, .int (iZ N)), (5, .int (nI M)), (7, .int (iZ ya)), (8, .int (iZ yb))]) hx hb dX5_goThrough_271 hl (by decide) rfl (fun ls hl => ?_)
                  refine lv_iinc (v := 2) (lv' := [(12, .int 2), (6, .int (nI (cn + 1))), (13, .int 0), (11, .int (nI u_16)), (10, .int (iZ (((N - (ya * ya)) - (yb * yb)) - (yc * yc)))), (9, .int (iZ yc)), (0, .ref o), (1, .int (nI n0)), (2, .int (nI 0)), (3, .int (nI ww)), (4, .int (iZ N)), (5, .int (nI M)), (7, .int (iZ ya)), (8, .int (iZ yb))]) hx hb dX5_goThrough_273 hl (k := 2) rfl (by decide) (by decide) rfl (fun ls hl => ?_)
                  refine lv_goto (tgt := 108) hx hb dX5_goThrough_276 (by decide) ?_
                  refine lv_iload hx hb dX5_goThrough_108 (lv_at hl 0 rfl) ?_
                  refine lv_iconst (v := 2) hx hb dX5_goThrough_110 (by decide) ?_
                  refine lv_icmp_ge (tgt := 279) hx hb dX5_goThrough_111 (by decide) (fun c_69 => ?_) (fun c_69 => absurd (by decide) c_69)
                  refine lv_iinc (v := iZ (yc - 1)) (lv' := [(9, .int (iZ (yc - 1))), (12, .int 2), (6, .int (nI (cn + 1))), (13, .int 0), (11, .int (nI u_16)), (10, .int (iZ (((N - (ya * ya)) - (yb * yb)) - (yc * yc)))), (0, .ref o), (1, .int (nI n0)), (2, .int (nI 0)), (3, .int (nI ww)), (4, .int (iZ N)), (5, .int (nI M)), (7, .int (iZ ya)), (8, .int (iZ yb))]) hx hb dX5_goThrough_279 hl (k := 5) rfl ((zadd rfl (b := -1) (by decide)).trans (by rw [Int.sub_eq_add_neg])) (by decide) rfl (fun ls hl => ?_)
                  refine lv_goto (tgt := 43) hx hb dX5_goThrough_282 (by decide) ?_
                  have hpp := one_par (a := ya) (b := yb) (c := yc) (d := ((u_16 : Nat) : Int)) (by omega) (by omega) (by omega) (by omega)
                  have hpq := hpp.mp c_28
                  have hds := ds_sq (M := M) (N := N) (a := ya) (b := yb) (c := yc) (lf := ((N - (ya * ya)) - (yb * yb)) - (yc * yc)) (by omega) hpq.1 hpq.2.1 (by rw [hNn]; omega) (d := u_16) (by rw [Int.natCast_mul]; omega) (by omega)
                  rw [if_neg (show ¬ 0 < u_16 by omega)] at hds
                  have hlen : (ds N M ya yb yc).length = 1 := by rw [hds]; rfl
                  have h9 := getD_r (K := TC N M ya yb (yc - 1) ++ R) (z := (0, 0, 0, 0)) (show (S3 N M ya yb yc).length ≤ ww - cn by rw [S3_len]; omega)
                  rw [S3_len, hlen] at h9
                  exact ih (yc - 1) (cn + 1) ((iZ ya).toInt64, (iZ yb).toInt64, (iZ yc).toInt64, (iZ (-((u_16 : Nat) : Int))).toInt64) (by omega) (by omega) (by omega) (by omega) (by rw [show ww - (cn + 1) = ww - cn - 1 by omega, ← h9]; exact hq) (by omega) _ _ _ hP hD hS (lv_sub hl [0, 6, 7, 8, 9, 10, 11, 2, 12, 13] rfl) 
                · have c_65 := le_no (a := u_16) (b := 0) rfl rfl (by omega) (by omega) c_65
                  refine lv_iload_n hx hb dX5_goThrough_205 rfl (lv_at hl 8 rfl) ?_
                  refine lv_if_eq (tgt := 237) hx hb dX5_goThrough_206 (by decide) (fun c_70 => ?_) (fun c_70 => absurd rfl c_70)
                  refine lv_iconst (v := 1) hx hb dX5_goThrough_237 (by decide) ?_
                  refine lv_goto (tgt := 242) hx hb dX5_goThrough_238 (by decide) ?_
                  refine lv_istore (lv' := [(13, .int 1), (12, .int 1), (6, .int (nI (cn + 1))), (11, .int (nI u_16)), (10, .int (iZ (((N - (ya * ya)) - (yb * yb)) - (yc * yc)))), (9, .int (iZ yc)), (0, .ref o), (1, .int (nI n0)), (2, .int (nI 0)), (3, .int (nI ww)), (4, .int (iZ N)), (5, .int (nI M)), (7, .int (iZ ya)), (8, .int (iZ yb))]) hx hb dX5_goThrough_242 hl (by decide) rfl (fun ls hl => ?_)
                  refine lv_iload hx hb dX5_goThrough_244 (lv_at hl 0 rfl) ?_
                  refine lv_if_eq (tgt := 258) hx hb dX5_goThrough_246 (by decide) (fun c_71 => absurd c_71 (by decide)) (fun c_71 => ?_)
                  refine lv_iload hx hb dX5_goThrough_249 (lv_at hl 2 rfl) ?_
                  refine lv_iload_n hx hb dX5_goThrough_251 rfl (lv_at hl 9 rfl) ?_
                  refine lv_icmp_ne (tgt := 258) hx hb dX5_goThrough_252 (by decide) (fun c_72 => ?_) (fun c_72 => ?_)
                  · have c_72 := eq_no (a := cn + 1) (b := ww) rfl rfl (by omega) (by omega) c_72
                    refine lv_iload hx hb dX5_goThrough_258 (lv_at hl 2 rfl) ?_
                    refine lv_iload hx hb dX5_goThrough_260 (lv_at hl 0 rfl) ?_
                    refine lv_if_eq (tgt := 269) hx hb dX5_goThrough_262 (by decide) (fun c_73 => absurd c_73 (by decide)) (fun c_73 => ?_)
                    refine lv_iconst (v := 1) hx hb dX5_goThrough_265 (by decide) ?_
                    refine lv_goto (tgt := 270) hx hb dX5_goThrough_266 (by decide) ?_
                    refine lv_iadd hx hb dX5_goThrough_270 ?_
                    refine lv_topi (fun z_74 ez_74 => ?_)
                    obtain rfl : z_74 = nI ((cn + 1) + 1) := ez_74.trans (eq_add rfl rfl)
                    refine lv_istore (lv' := [(6, .int (nI ((cn + 1) + 1))), (13, .int 1), (12, .int 1), (11, .int (nI u_16)), (10, .int (iZ (((N - (ya * ya)) - (yb * yb)) - (yc * yc)))), (9, .int (iZ yc)), (0, .ref o), (1, .int (nI n0)), (2, .int (nI 0)), (3, .int (nI ww)), (4, .int (iZ N)), (5, .int (nI M)), (7, .int (iZ ya)), (8, .int (iZ yb))]) hx hb dX5_goThrough_271 hl (by decide) rfl (fun ls hl => ?_)
                    refine lv_iinc (v := 2) (lv' := [(12, .int 2), (6, .int (nI ((cn + 1) + 1))), (13, .int 1), (11, .int (nI u_16)), (10, .int (iZ (((N - (ya * ya)) - (yb * yb)) - (yc * yc)))), (9, .int (iZ yc)), (0, .ref o), (1, .int (nI n0)), (2, .int (nI 0)), (3, .int (nI ww)), (4, .int (iZ N)), (5, .int (nI M)), (7, .int (iZ ya)), (8, .int (iZ yb))]) hx hb dX5_goThrough_273 hl (k := 2) rfl (by decide) (by decide) rfl (fun ls hl => ?_)
                    refine lv_goto (tgt := 108) hx hb dX5_goThrough_276 (by decide) ?_
                    refine lv_iload hx hb dX5_goThrough_108 (lv_at hl 0 rfl) ?_
                    refine lv_iconst (v := 2) hx hb dX5_goThrough_110 (by decide) ?_
                    refine lv_icmp_ge (tgt := 279) hx hb dX5_goThrough_111 (by decide) (fun c_75 => ?_) (fun c_75 => absurd (by decide) c_75)
                    refine lv_iinc (v := iZ (yc - 1)) (lv' := [(9, .int (iZ (yc - 1))), (12, .int 2), (6, .int (nI ((cn + 1) + 1))), (13, .int 1), (11, .int (nI u_16)), (10, .int (iZ (((N - (ya * ya)) - (yb * yb)) - (yc * yc)))), (0, .ref o), (1, .int (nI n0)), (2, .int (nI 0)), (3, .int (nI ww)), (4, .int (iZ N)), (5, .int (nI M)), (7, .int (iZ ya)), (8, .int (iZ yb))]) hx hb dX5_goThrough_279 hl (k := 5) rfl ((zadd rfl (b := -1) (by decide)).trans (by rw [Int.sub_eq_add_neg])) (by decide) rfl (fun ls hl => ?_)
                    refine lv_goto (tgt := 43) hx hb dX5_goThrough_282 (by decide) ?_
                    have hpp := one_par (a := ya) (b := yb) (c := yc) (d := ((u_16 : Nat) : Int)) (by omega) (by omega) (by omega) (by omega)
                    have hpq := hpp.mp c_28
                    have hds := ds_sq (M := M) (N := N) (a := ya) (b := yb) (c := yc) (lf := ((N - (ya * ya)) - (yb * yb)) - (yc * yc)) (by omega) hpq.1 hpq.2.1 (by rw [hNn]; omega) (d := u_16) (by rw [Int.natCast_mul]; omega) (by omega)
                    rw [if_pos (show 0 < u_16 by omega)] at hds
                    have hlen : (ds N M ya yb yc).length = 2 := by rw [hds]; rfl
                    have h9 := getD_r (K := TC N M ya yb (yc - 1) ++ R) (z := (0, 0, 0, 0)) (show (S3 N M ya yb yc).length ≤ ww - cn by rw [S3_len]; omega)
                    rw [S3_len, hlen] at h9
                    exact ih (yc - 1) ((cn + 1) + 1) ((iZ ya).toInt64, (iZ yb).toInt64, (iZ yc).toInt64, (iZ (-((u_16 : Nat) : Int))).toInt64) (by omega) (by omega) (by omega) (by omega) (by rw [show ww - ((cn + 1) + 1) = ww - cn - 2 by omega, ← h9]; exact hq) (by omega) _ _ _ hP hD hS (lv_sub hl [0, 6, 7, 8, 9, 10, 11, 2, 12, 13] rfl) 
                  · have c_72 := eq_y (a := cn + 1) (b := ww) rfl rfl (by omega) (by omega) c_72
                    refine lv_iload hx hb dX5_goThrough_255 (lv_at hl 2 rfl) ?_
                    have hpp := one_par (a := ya) (b := yb) (c := yc) (d := ((u_16 : Nat) : Int)) (by omega) (by omega) (by omega) (by omega)
                    have hpq := hpp.mp c_28
                    have hds := ds_sq (M := M) (N := N) (a := ya) (b := yb) (c := yc) (lf := ((N - (ya * ya)) - (yb * yb)) - (yc * yc)) (by omega) hpq.1 hpq.2.1 (by rw [hNn]; omega) (d := u_16) (by rw [Int.natCast_mul]; omega) (by omega)
                    have hcn : ww - cn = 1 := by omega
                    have he : (ya, yb, yc, -((u_16 : Nat) : Int)) = qq := by
                      rw [← hq, hcn, S3, hds, if_pos (show 0 < u_16 by omega)]; rfl
                    exact k_iret (M, ((iZ ya).toInt64, (iZ yb).toInt64, (iZ yc).toInt64, (iZ (-((u_16 : Nat) : Int))).toInt64)) hx hb hr hlocks (⟨congrArg nI (by omega), by show _ = qz _; rw [hqq, ← he]; rfl, hMM, hM0⟩) hP hD trivial hS (Nat.le_of_ble_eq_true rfl) (Nat.le_of_ble_eq_true rfl) dX5_goThrough_257
              · have c_50 := eq_y (a := cn) (b := ww) rfl rfl (by omega) (by omega) c_50
                refine lv_iload hx hb dX5_goThrough_255 (lv_at hl 11 rfl) ?_
                have hpp := one_par (a := ya) (b := yb) (c := yc) (d := ((u_16 : Nat) : Int)) (by omega) (by omega) (by omega) (by omega)
                have hpq := hpp.mp c_28
                have hds := ds_sq (M := M) (N := N) (a := ya) (b := yb) (c := yc) (lf := ((N - (ya * ya)) - (yb * yb)) - (yc * yc)) (by omega) hpq.1 hpq.2.1 (by rw [hNn]; omega) (d := u_16) (by rw [Int.natCast_mul]; omega) (by omega)
                have hcn : ww - cn = 0 := by omega
                have he : (ya, yb, yc, ((u_16 : Nat) : Int)) = qq := by
                  rw [← hq, hcn, S3, hds]
                  by_cases h0 : 0 < u_16
                  · rw [if_pos h0]; rfl
                  · rw [if_neg h0]
                    have h0 : u_16 = 0 := by omega
                    rw [h0]; rfl
                exact k_iret (M, ((iZ ya).toInt64, (iZ yb).toInt64, (iZ yc).toInt64, (iZ ((u_16 : Nat) : Int)).toInt64)) hx hb hr hlocks (⟨congrArg nI (by omega), by show _ = qz _; rw [hqq, ← he]; rfl, hMM, hM0⟩) hP hD trivial hS (Nat.le_of_ble_eq_true rfl) (Nat.le_of_ble_eq_true rfl) dX5_goThrough_257
        · have c_13 := lez_no (a := 0) (b := ((N - (ya * ya)) - (yb * yb)) - (yc * yc)) (by decide) rfl (by omega) (by omega) c_13
          refine lv_iconst (v := (-1)) hx hb dX5_goThrough_94 (by decide) ?_
          refine lv_goto (tgt := 103) hx hb dX5_goThrough_95 (by decide) ?_
          refine lv_istore (lv' := [(11, .int (-1)), (10, .int (iZ (((N - (ya * ya)) - (yb * yb)) - (yc * yc)))), (9, .int (iZ yc)), (0, .ref o), (1, .int (nI n0)), (2, .int (nI 0)), (3, .int (nI ww)), (4, .int (iZ N)), (5, .int (nI M)), (6, .int (nI cn)), (7, .int (iZ ya)), (8, .int (iZ yb))]) hx hb dX5_goThrough_103 hl (by decide) rfl (fun ls hl => ?_)
          refine lv_iconst (v := 0) hx hb dX5_goThrough_105 (by decide) ?_
          refine lv_istore (lv' := [(12, .int 0), (11, .int (-1)), (10, .int (iZ (((N - (ya * ya)) - (yb * yb)) - (yc * yc)))), (9, .int (iZ yc)), (0, .ref o), (1, .int (nI n0)), (2, .int (nI 0)), (3, .int (nI ww)), (4, .int (iZ N)), (5, .int (nI M)), (6, .int (nI cn)), (7, .int (iZ ya)), (8, .int (iZ yb))]) hx hb dX5_goThrough_106 hl (by decide) rfl (fun ls hl => ?_)
          refine lv_iload hx hb dX5_goThrough_108 (lv_at hl 0 rfl) ?_
          refine lv_iconst (v := 2) hx hb dX5_goThrough_110 (by decide) ?_
          refine lv_icmp_ge (tgt := 279) hx hb dX5_goThrough_111 (by decide) (fun c_76 => absurd c_76 (by decide)) (fun c_76 => ?_)
          refine lv_iload hx hb dX5_goThrough_114 (lv_at hl 1 rfl) ?_
          refine lv_if_lt (tgt := 279) hx hb dX5_goThrough_116 (by decide) (fun c_77 => ?_) (fun c_77 => absurd (by decide) c_77)
          refine lv_iinc (v := iZ (yc - 1)) (lv' := [(9, .int (iZ (yc - 1))), (12, .int 0), (11, .int (-1)), (10, .int (iZ (((N - (ya * ya)) - (yb * yb)) - (yc * yc)))), (0, .ref o), (1, .int (nI n0)), (2, .int (nI 0)), (3, .int (nI ww)), (4, .int (iZ N)), (5, .int (nI M)), (6, .int (nI cn)), (7, .int (iZ ya)), (8, .int (iZ yb))]) hx hb dX5_goThrough_279 hl (k := 3) rfl ((zadd rfl (b := -1) (by decide)).trans (by rw [Int.sub_eq_add_neg])) (by decide) rfl (fun ls hl => ?_)
          refine lv_goto (tgt := 43) hx hb dX5_goThrough_282 (by decide) ?_
          have hds : ds N M ya yb yc = [] := ds_neg (lf := ((N - (ya * ya)) - (yb * yb)) - (yc * yc)) (by omega) (by omega)
          have hlen : (ds N M ya yb yc).length = 0 := by rw [hds]; rfl
          have h9 := getD_r (K := TC N M ya yb (yc - 1) ++ R) (z := (0, 0, 0, 0)) (show (S3 N M ya yb yc).length ≤ ww - cn by rw [S3_len]; omega)
          rw [S3_len, hlen] at h9
          exact ih (yc - 1) cn xv (by omega) (by omega) (by omega) (by omega) (by rw [show ww - (cn) = ww - cn - 0 by omega, ← h9]; exact hq) (by omega) _ _ _ hP hD hS (lv_sub hl [0, 4, 5, 6, 7, 8, 9, 10, 11, 12] rfl) 
set_option maxHeartbeats 4000000 in
set_option maxRecDepth 100000 in
theorem lp_X5_gy_b {KN : State → Prop} (hk : KNok KN) {l : Launch} {D : va_G} {ca : Nat → ClassId} (o : Nat) (ad : Nat → Nat) (nf : Int32) (mo : Int32) (x : Q4) (n0 : Nat) (ww : Nat) (M : Nat) (T : Nat) (N : Int) (qq : Z4') (ya : Int) (R : List Z4') (hn0 : n0 ≤ 200) (hM28 : M ≤ 28) (hM0 : 4 * n0 < (M + 1) * (M + 1)) (hNn : N = 4 * (n0 : Int)) (hTb : T ≤ 2 ^ 20) (hMM : M * M ≤ 4 * n0) (hwT : ww < T) (hqq : (S0 (4 * (n0 : Int)) M).getD ww (0, 0, 0, 0) = qq) (hba : -(M : Int) ≤ ya ∧ ya ≤ M) {p : Program} {e : Env} {s : State} {m : MethodId} {below : List Frame} {meth : Method} {c : Code} {A : Nat → Prop} (hOut : ∀ (cn : Nat) (xv : Q4), cn ≤ ww → cn + (R).length = T → (R).getD (ww - cn) (0, 0, 0, 0) = qq → ∀ (H : Heap) (locs : List Loc) (ls : Array Slot), va_P D vwCl [(o, mO ad nf mo), (ad 8, a4 ca xv)] H → va_D A [(o, mO ad nf mo), (ad 8, a4 ca xv)] → va_S A s.heap H locs → lv_has ls 14 [(0, .ref o), (1, .int (nI n0)), (2, .int (nI 0)), (3, .int (nI ww)), (4, .int (iZ N)), (5, .int (nI M)), (6, .int (nI cn)), (7, .int (iZ ya))] → W p l e ({ frames := 2, cells := 0, slots := 0, locals := 53 }) s m ([.ref o, .int (nI n0), .int (nI 0), .int (nI ww)] : List Value).toArray below meth c H locs 0 0 (MQ below (qI D (fun (r : Int32) (u : Nat × Q4) => r = nI ww ∧ u.2 = qz ((S0 (4 * (n0 : Int)) u.1).getD ww (0, 0, 0, 0)) ∧ u.1 * u.1 ≤ 4 * n0 ∧ 4 * n0 < (u.1 + 1) * (u.1 + 1)) (fun u => [(o, mO ad nf mo), (ad 8, a4 ca u.2)]) (fun u H => True) A) ([.ref o, .int (nI n0), .int (nI 0), .int (nI ww)] : List Value).toArray s 0 0 A) (F0 m 291 ls [])) (hx : p.tables.exec = Jvm.exec) (hb : c.code = cX5_goThrough) (hr : meth.sig.returnType = (some .int)) (hts : ∀ w ∈ lw_all, w.before ([.ref o, .int (nI n0), .int (nI 0), .int (nI ww)] : List Value).toArray s = true) (hown : s.vm.findClass yX5_goThrough.cls = some m.cls) (hlocks : meth.locks = false) (hnm : meth.name = yX5_goThrough.name) (hml : c.maxLocals = 14) (hK : va_K D vwCl (tysG ca) s) (hN : KN s) (hA : ∀ q, s.heap.size ≤ q → A q)  :
    ∀ (n : Nat) (yb : Int) (cn : Nat) (xv : Q4), (-(M : Int) - 1 ≤ yb) → (yb ≤ M) → (cn ≤ ww) → (cn + (TB N M ya yb ++ R).length = T) → ((TB N M ya yb ++ R).getD (ww - cn) (0, 0, 0, 0) = qq) → (yb + M + 1 < (n : Int)) →  ∀ (H : Heap) (locs : List Loc) (ls : Array Slot), va_P D vwCl [(o, mO ad nf mo), (ad 8, a4 ca xv)] H → va_D A [(o, mO ad nf mo), (ad 8, a4 ca xv)] → va_S A s.heap H locs → lv_has ls 14 [(8, .int (iZ yb)), (0, .ref o), (1, .int (nI n0)), (2, .int (nI 0)), (3, .int (nI ww)), (4, .int (iZ N)), (5, .int (nI M)), (6, .int (nI cn)), (7, .int (iZ ya))] → W p l e ({ frames := 2, cells := 0, slots := 0, locals := 53 }) s m ([.ref o, .int (nI n0), .int (nI 0), .int (nI ww)] : List Value).toArray below meth c H locs 0 0 (MQ below (qI D (fun (r : Int32) (u : Nat × Q4) => r = nI ww ∧ u.2 = qz ((S0 (4 * (n0 : Int)) u.1).getD ww (0, 0, 0, 0)) ∧ u.1 * u.1 ≤ 4 * n0 ∧ 4 * n0 < (u.1 + 1) * (u.1 + 1)) (fun u => [(o, mO ad nf mo), (ad 8, a4 ca u.2)]) (fun u H => True) A) ([.ref o, .int (nI n0), .int (nI 0), .int (nI ww)] : List Value).toArray s 0 0 A) (F0 m 31 ls []) := by
  intro n
  induction n with
  | zero =>
    intro yb cn xv hb1 hb2 hcw hT hq hfuel H locs ls hP hD hS hl 
    exact absurd hfuel (by omega)
  | succ n ih =>
    intro yb cn xv hb1 hb2 hcw hT hq hfuel H locs ls hP hD hS hl 
    refine lv_iload hx hb dX5_goThrough_31 (lv_at hl 0 rfl) ?_
    refine lv_iload hx hb dX5_goThrough_33 (lv_at hl 6 rfl) ?_
    refine lv_ineg hx hb dX5_goThrough_35 ?_
    refine lv_topi (fun z_1 ez_1 => ?_)
    obtain rfl : z_1 = iZ (-((M : Nat) : Int)) := ez_1.trans (zneg (iZ_n _))
    refine lv_icmp_lt (tgt := 291) hx hb dX5_goThrough_36 (by decide) (fun c_2 => ?_) (fun c_2 => ?_)
    · have c_2 := ltz_y (a := yb) (b := -((M : Nat) : Int)) rfl rfl (by omega) (by omega) c_2
      rw [TB_e (by omega), List.nil_append] at hT hq
      exact hOut cn xv hcw hT hq _ _ _ hP hD hS (lv_sub hl [1, 2, 3, 4, 5, 6, 7, 8] rfl)
    · have c_2 := ltz_no (a := yb) (b := -((M : Nat) : Int)) rfl rfl (by omega) (by omega) c_2
      refine lv_iload hx hb dX5_goThrough_39 (lv_at hl 6 rfl) ?_
      refine lv_topi (fun z_3 ez_3 => ?_)
      obtain rfl : z_3 = iZ ((M : Nat) : Int) := ez_3.trans (iZ_n M)
      refine lv_istore (lv' := [(9, .int (iZ ((M : Nat) : Int))), (8, .int (iZ yb)), (0, .ref o), (1, .int (nI n0)), (2, .int (nI 0)), (3, .int (nI ww)), (4, .int (iZ N)), (5, .int (nI M)), (6, .int (nI cn)), (7, .int (iZ ya))]) hx hb dX5_goThrough_41 hl (by decide) rfl (fun ls hl => ?_)
      rw [TB_s (by omega), List.append_assoc] at hT hq
      refine lp_X5_gy_c hk o ad nf mo x n0 ww M T N qq ya yb (TB N M ya (yb - 1) ++ R) hn0 hM28 hM0 hNn hTb hMM hwT hqq hba (by omega) (fun cn xv hcw hT hq H locs ls hP hD hS hl => ?_) hx hb hr hts hown hlocks hnm hml hK hN hA  (((M : Int) + M + 2).toNat) ((M : Nat) : Int) cn xv (by omega) (by omega) hcw hT hq (by omega) _ _ _ hP hD hS (lv_sub hl [0, 2, 3, 4, 5, 6, 7, 8, 9, 1] rfl)
      refine lv_iinc (v := iZ (yb - 1)) (lv' := [(8, .int (iZ (yb - 1))), (0, .ref o), (1, .int (nI n0)), (2, .int (nI 0)), (3, .int (nI ww)), (4, .int (iZ N)), (5, .int (nI M)), (6, .int (nI cn)), (7, .int (iZ ya))]) hx hb dX5_goThrough_285 hl (k := 8) rfl ((zadd rfl (b := -1) (by decide)).trans (by rw [Int.sub_eq_add_neg])) (by decide) rfl (fun ls hl => ?_)
      refine lv_goto (tgt := 31) hx hb dX5_goThrough_288 (by decide) ?_
      exact ih (yb - 1) cn xv (by omega) (by omega) hcw hT hq (by omega) _ _ _ hP hD hS (lv_sub hl [0, 1, 2, 3, 4, 5, 6, 7, 8] rfl) 
set_option maxHeartbeats 4000000 in
set_option maxRecDepth 100000 in
theorem lp_X5_gy_a {KN : State → Prop} (hk : KNok KN) {l : Launch} {D : va_G} {ca : Nat → ClassId} (o : Nat) (ad : Nat → Nat) (nf : Int32) (mo : Int32) (x : Q4) (n0 : Nat) (ww : Nat) (M : Nat) (T : Nat) (N : Int) (qq : Z4') (hn0 : n0 ≤ 200) (hM28 : M ≤ 28) (hM0 : 4 * n0 < (M + 1) * (M + 1)) (hNn : N = 4 * (n0 : Int)) (hTb : T ≤ 2 ^ 20) (hMM : M * M ≤ 4 * n0) (hwT : ww < T) (hqq : (S0 (4 * (n0 : Int)) M).getD ww (0, 0, 0, 0) = qq) {p : Program} {e : Env} {s : State} {m : MethodId} {below : List Frame} {meth : Method} {c : Code} {A : Nat → Prop}  (hx : p.tables.exec = Jvm.exec) (hb : c.code = cX5_goThrough) (hr : meth.sig.returnType = (some .int)) (hts : ∀ w ∈ lw_all, w.before ([.ref o, .int (nI n0), .int (nI 0), .int (nI ww)] : List Value).toArray s = true) (hown : s.vm.findClass yX5_goThrough.cls = some m.cls) (hlocks : meth.locks = false) (hnm : meth.name = yX5_goThrough.name) (hml : c.maxLocals = 14) (hK : va_K D vwCl (tysG ca) s) (hN : KN s) (hA : ∀ q, s.heap.size ≤ q → A q)  :
    ∀ (n : Nat) (ya : Int) (cn : Nat) (xv : Q4), (-(M : Int) - 1 ≤ ya) → (ya ≤ M) → (cn ≤ ww) → (cn + (TA N M ya).length = T) → ((TA N M ya).getD (ww - cn) (0, 0, 0, 0) = qq) → (ya + M + 1 < (n : Int)) →  ∀ (H : Heap) (locs : List Loc) (ls : Array Slot), va_P D vwCl [(o, mO ad nf mo), (ad 8, a4 ca xv)] H → va_D A [(o, mO ad nf mo), (ad 8, a4 ca xv)] → va_S A s.heap H locs → lv_has ls 14 [(7, .int (iZ ya)), (0, .ref o), (1, .int (nI n0)), (2, .int (nI 0)), (3, .int (nI ww)), (4, .int (iZ N)), (5, .int (nI M)), (6, .int (nI cn))] → W p l e ({ frames := 2, cells := 0, slots := 0, locals := 53 }) s m ([.ref o, .int (nI n0), .int (nI 0), .int (nI ww)] : List Value).toArray below meth c H locs 0 0 (MQ below (qI D (fun (r : Int32) (u : Nat × Q4) => r = nI ww ∧ u.2 = qz ((S0 (4 * (n0 : Int)) u.1).getD ww (0, 0, 0, 0)) ∧ u.1 * u.1 ≤ 4 * n0 ∧ 4 * n0 < (u.1 + 1) * (u.1 + 1)) (fun u => [(o, mO ad nf mo), (ad 8, a4 ca u.2)]) (fun u H => True) A) ([.ref o, .int (nI n0), .int (nI 0), .int (nI ww)] : List Value).toArray s 0 0 A) (F0 m 19 ls []) := by
  intro n
  induction n with
  | zero =>
    intro ya cn xv ha1 ha2 hcw hT hq hfuel H locs ls hP hD hS hl 
    exact absurd hfuel (by omega)
  | succ n ih =>
    intro ya cn xv ha1 ha2 hcw hT hq hfuel H locs ls hP hD hS hl 
    refine lv_iload hx hb dX5_goThrough_19 (lv_at hl 0 rfl) ?_
    refine lv_iload hx hb dX5_goThrough_21 (lv_at hl 6 rfl) ?_
    refine lv_ineg hx hb dX5_goThrough_23 ?_
    refine lv_topi (fun z_1 ez_1 => ?_)
    obtain rfl : z_1 = iZ (-((M : Nat) : Int)) := ez_1.trans (zneg (iZ_n _))
    refine lv_icmp_lt (tgt := 297) hx hb dX5_goThrough_24 (by decide) (fun c_2 => ?_) (fun c_2 => ?_)
    · have c_2 := ltz_y (a := ya) (b := -((M : Nat) : Int)) rfl rfl (by omega) (by omega) c_2
      rw [TA_e (by omega)] at hT
      simp at hT
      omega
    · have c_2 := ltz_no (a := ya) (b := -((M : Nat) : Int)) rfl rfl (by omega) (by omega) c_2
      refine lv_iload hx hb dX5_goThrough_27 (lv_at hl 6 rfl) ?_
      refine lv_topi (fun z_3 ez_3 => ?_)
      obtain rfl : z_3 = iZ ((M : Nat) : Int) := ez_3.trans (iZ_n M)
      refine lv_istore (lv' := [(8, .int (iZ ((M : Nat) : Int))), (7, .int (iZ ya)), (0, .ref o), (1, .int (nI n0)), (2, .int (nI 0)), (3, .int (nI ww)), (4, .int (iZ N)), (5, .int (nI M)), (6, .int (nI cn))]) hx hb dX5_goThrough_29 hl (by decide) rfl (fun ls hl => ?_)
      rw [TA_s (by omega)] at hT hq
      refine lp_X5_gy_b hk o ad nf mo x n0 ww M T N qq ya (TA N M (ya - 1)) hn0 hM28 hM0 hNn hTb hMM hwT hqq (by omega) (fun cn xv hcw hT hq H locs ls hP hD hS hl => ?_) hx hb hr hts hown hlocks hnm hml hK hN hA  (((M : Int) + M + 2).toNat) ((M : Nat) : Int) cn xv (by omega) (by omega) hcw hT hq (by omega) _ _ _ hP hD hS (lv_sub hl [0, 2, 3, 4, 5, 6, 7, 8, 1] rfl)
      refine lv_iinc (v := iZ (ya - 1)) (lv' := [(7, .int (iZ (ya - 1))), (0, .ref o), (1, .int (nI n0)), (2, .int (nI 0)), (3, .int (nI ww)), (4, .int (iZ N)), (5, .int (nI M)), (6, .int (nI cn))]) hx hb dX5_goThrough_291 hl (k := 7) rfl ((zadd rfl (b := -1) (by decide)).trans (by rw [Int.sub_eq_add_neg])) (by decide) rfl (fun ls hl => ?_)
      refine lv_goto (tgt := 19) hx hb dX5_goThrough_294 (by decide) ?_
      exact ih (ya - 1) cn xv (by omega) (by omega) hcw hT hq (by omega) _ _ _ hP hD hS (lv_sub hl [0, 1, 2, 3, 4, 5, 6, 7] rfl) 
set_option maxHeartbeats 4000000 in
set_option maxRecDepth 100000 in
theorem ct_X5_go_y {KN : State → Prop} (hk : KNok KN) (l : Launch) (D : va_G) (ca : Nat → ClassId) (zH : Nat) (o : Nat) (ad : Nat → Nat) (nf mo : Int32) (x : Q4) (n0 ww : Nat) (hn1 : 1 ≤ n0) (hn0 : n0 ≤ 200) (hww : ww < 24 * dvS n0 2 n0) : Met l yX5_goThrough (ws_ yX5_goThrough cX5_goThrough 14 (some .int)) ({ frames := 2, cells := 0, slots := 0, locals := 53 }) (va_Pc [.ref o, .int (nI n0), .int (nI 0), .int (nI ww)] (pr_ KN D ca [(o, mO ad nf mo), (ad 8, a4 ca x)] zH (fun _ => True))) (qI D (fun (r : Int32) (u : Nat × Q4) => r = nI ww ∧ u.2 = qz ((S0 (4 * (n0 : Int)) u.1).getD ww (0, 0, 0, 0)) ∧ u.1 * u.1 ≤ 4 * n0 ∧ 4 * n0 < (u.1 + 1) * (u.1 + 1)) (fun u => [(o, mO ad nf mo), (ad 8, a4 ca u.2)]) (fun u H => True) (va_A [(o, mO ad nf mo), (ad 8, a4 ca x)] zH)) 0 0 (va_A [(o, mO ad nf mo), (ad 8, a4 ca x)] zH) := by
  refine k_ofW (Qc := qI D (fun (r : Int32) (u : Nat × Q4) => r = nI ww ∧ u.2 = qz ((S0 (4 * (n0 : Int)) u.1).getD ww (0, 0, 0, 0)) ∧ u.1 * u.1 ≤ 4 * n0 ∧ 4 * n0 < (u.1 + 1) * (u.1 + 1)) (fun u => [(o, mO ad nf mo), (ad 8, a4 ca u.2)]) (fun u H => True)) (by decide) (Nat.le_of_ble_eq_true rfl) ?_
  intro p e s m below meth c ls A H hH hx hb hr hts hown hlocks hnm hml hsz hP hD hK hN hA hAn hS hro hl
  have hl : lv_has ls 14 [(0, .ref o), (1, .int (nI n0)), (2, .int (nI 0)), (3, .int (nI ww))] := hl
  refine lv_iconst (v := 4) hx hb dX5_goThrough_0 (by decide) ?_
  refine lv_iload_n hx hb dX5_goThrough_1 rfl (lv_at hl 1 rfl) ?_
  refine lv_imul hx hb dX5_goThrough_2 ?_
  refine lv_topi (fun z_1 ez_1 => ?_)
  obtain rfl : z_1 = iZ (4 * ((n0 : Nat) : Int)) := ez_1.trans (zmul (by decide) (iZ_n _))
  refine lv_istore (lv' := [(4, .int (iZ (4 * ((n0 : Nat) : Int)))), (0, .ref o), (1, .int (nI n0)), (2, .int (nI 0)), (3, .int (nI ww))]) hx hb dX5_goThrough_3 hl (by decide) rfl (fun ls hl => ?_)
  refine lv_iload hx hb dX5_goThrough_5 (lv_at hl 0 rfl) ?_
  refine lv_topi (fun z_2 ez_2 => ?_)
  obtain rfl : z_2 = nI (4 * n0) := ez_2.trans (i4n n0)
  refine k_calli (wr := [(o, mO ad nf mo), (ad 8, a4 ca x)]) (va_runS (As := [.int (nI (4 * n0))]) (rest := []) ⟨hx, hb, hml, hown, hts⟩ (ct_X5_rootOf hk l D ca H.size (4 * n0) (by omega)) (va_cwS 1 hts (lw_S q788 q789 q24 q790) rfl rfl rfl (by decide +kernel) ⟨Nat.le_of_ble_eq_true rfl, Nat.le_of_ble_eq_true rfl⟩) (k_pre hk hK hN hP hD [] (by decide) rfl trivial) rfl rfl hl.1 rfl (lv_room (Nat.le_of_ble_eq_true rfl)) dX5_goThrough_7 ⟨Nat.le_of_ble_eq_true rfl, Nat.le_of_ble_eq_true rfl⟩) hP hD hS hA [] [0, 1] rfl rfl (by decide) (by decide) (fun r_3 u_4 H locs w_5 hP hD hxw_5 hzw_5 hqw_5 hS => ?_)
  obtain ⟨ew_5, hr1w_5, hr2w_5⟩ := w_5
  subst ew_5
  refine lv_istore (lv' := [(5, .int (nI u_4)), (4, .int (iZ (4 * ((n0 : Nat) : Int)))), (0, .ref o), (1, .int (nI n0)), (2, .int (nI 0)), (3, .int (nI ww))]) hx hb dX5_goThrough_10 hl (by decide) rfl (fun ls hl => ?_)
  have hM28 : u_4 ≤ 28 := root_le (b := 28) hr1w_5 (by omega)
  obtain ⟨hS1, hS2, hS3⟩ := S0_T hn1 hn0 hM28 hr2w_5
  refine lv_iconst (v := 0) hx hb dX5_goThrough_12 (by decide) ?_
  refine lv_istore (lv' := [(6, .int 0), (5, .int (nI u_4)), (4, .int (iZ (4 * ((n0 : Nat) : Int)))), (0, .ref o), (1, .int (nI n0)), (2, .int (nI 0)), (3, .int (nI ww))]) hx hb dX5_goThrough_13 hl (by decide) rfl (fun ls hl => ?_)
  refine lv_iload hx hb dX5_goThrough_15 (lv_at hl 1 rfl) ?_
  refine lv_topi (fun z_6 ez_6 => ?_)
  obtain rfl : z_6 = iZ ((u_4 : Nat) : Int) := ez_6.trans (iZ_n u_4)
  refine lv_istore (lv' := [(7, .int (iZ ((u_4 : Nat) : Int))), (6, .int 0), (5, .int (nI u_4)), (4, .int (iZ (4 * ((n0 : Nat) : Int)))), (0, .ref o), (1, .int (nI n0)), (2, .int (nI 0)), (3, .int (nI ww))]) hx hb dX5_goThrough_17 hl (by decide) rfl (fun ls hl => ?_)
  exact lp_X5_gy_a hk o ad nf mo x n0 ww u_4 (S0 (4 * (n0 : Int)) u_4).length (4 * (n0 : Int)) ((S0 (4 * (n0 : Int)) u_4).getD ww (0, 0, 0, 0)) hn0 hM28 hr2w_5 rfl hS3 hr1w_5 (by omega) rfl  hx hb hr hts hown hlocks hnm hml hK hN hA  (((u_4 : Int) + u_4 + 2).toNat) ((u_4 : Nat) : Int) 0 x (by omega) (by omega) (by omega) (by rw [TA_0, Nat.zero_add]) (by rw [TA_0]; rfl) (by omega) _ _ _ hP hD hS (lv_sub hl [0, 4, 5, 6, 7, 3, 2, 1] rfl) 
/-! the answers of many and listed -/
set_option maxHeartbeats 4000000 in
set_option maxRecDepth 100000 in
theorem ct_X5_many_0 {KN : State → Prop} (hk : KNok KN) (l : Launch) (D : va_G) (ca : Nat → ClassId) (zH : Nat) (o : Nat) (n0 w0 : Int32) (h1 : p_in n0.toInt64 1 200 = false) : Met l yX5_many (ws_ yX5_many cX5_many 3 (some .int)) ({ frames := 1, cells := 0, slots := 0, locals := 25 }) (va_Pc [.ref o, .int n0, .int w0] (pr_ KN D ca [] zH (fun _ => True))) (qI D (fun (r : Int32) (u : Unit) => r = -1) (fun u => []) (fun u H => True) (va_A [] zH)) 0 0 (va_A [] zH) := by
  refine k_ofW (Qc := qI D (fun (r : Int32) (u : Unit) => r = -1) (fun u => []) (fun u H => True)) (by decide) (Nat.le_of_ble_eq_true rfl) ?_
  intro p e s m below meth c ls A H hH hx hb hr hts hown hlocks hnm hml hsz hP hD hK hN hA hAn hS hro hl
  have hl : lv_has ls 3 [(0, .ref o), (1, .int n0), (2, .int w0)] := hl
  refine lv_iload_n hx hb dX5_many_0 rfl (lv_at hl 1 rfl) ?_
  refine lv_i2l (v := n0.toInt64) hx hb dX5_many_1 rfl ?_
  refine lv_lconst (v := 1) hx hb dX5_many_2 (by decide) ?_
  refine lv_ldc2 hx hb hown (hts _ q783) dX5_many_3 ?_
  refine k_calli (wr := []) (va_runS (As := [.long n0.toInt64, .long 1, .long 200]) (rest := []) ⟨hx, hb, hml, hown, hts⟩ (ct_X5_in hk l D ca H.size n0.toInt64 1 200) (va_cwS 3 hts (lw_S q635 q636 q24 q637) rfl rfl rfl (by decide +kernel) ⟨Nat.le_of_ble_eq_true rfl, Nat.le_of_ble_eq_true rfl⟩) (k_pre hk hK hN hP hD [] (by decide) rfl trivial) rfl rfl hl.1 rfl (lv_room (Nat.le_of_ble_eq_true rfl)) dX5_many_6 ⟨Nat.le_of_ble_eq_true rfl, Nat.le_of_ble_eq_true rfl⟩) hP hD hS hA [] [] rfl rfl (by decide) (by decide) (fun r_1 u_2 H locs w_3 hP hD hxw_3 hzw_3 hqw_3 hS => ?_)
  obtain rfl : r_1 = bI (p_in n0.toInt64 1 200) := w_3
  refine lv_if_eq (tgt := 34) hx hb dX5_many_9 (by decide) (fun c_4 => ?_) (fun c_4 => absurd (by rw [h1]; rfl) c_4)
  refine lv_iconst (v := (-1)) hx hb dX5_many_34 (by decide) ?_
  exact k_iret () hx hb hr hlocks (rfl) hP hD trivial hS (Nat.le_of_ble_eq_true rfl) (Nat.le_of_ble_eq_true rfl) dX5_many_35
set_option maxHeartbeats 4000000 in
set_option maxRecDepth 100000 in
theorem ct_X5_many_1 {KN : State → Prop} (hk : KNok KN) (l : Launch) (D : va_G) (ca : Nat → ClassId) (zH : Nat) (o nn : Nat) (w0 : Int32) (h1 : 1 ≤ nn) (h2 : nn ≤ 200) (h3 : p_in w0.toInt64 0 2 = false) : Met l yX5_many (ws_ yX5_many cX5_many 3 (some .int)) ({ frames := 1, cells := 0, slots := 0, locals := 25 }) (va_Pc [.ref o, .int (nI nn), .int w0] (pr_ KN D ca [] zH (fun _ => True))) (qI D (fun (r : Int32) (u : Unit) => r = -1) (fun u => []) (fun u H => True) (va_A [] zH)) 0 0 (va_A [] zH) := by
  refine k_ofW (Qc := qI D (fun (r : Int32) (u : Unit) => r = -1) (fun u => []) (fun u H => True)) (by decide) (Nat.le_of_ble_eq_true rfl) ?_
  intro p e s m below meth c ls A H hH hx hb hr hts hown hlocks hnm hml hsz hP hD hK hN hA hAn hS hro hl
  have hl : lv_has ls 3 [(0, .ref o), (1, .int (nI nn)), (2, .int w0)] := hl
  refine lv_iload_n hx hb dX5_many_0 rfl (lv_at hl 1 rfl) ?_
  refine lv_i2l (v := (nI nn).toInt64) hx hb dX5_many_1 rfl ?_
  refine lv_lconst (v := 1) hx hb dX5_many_2 (by decide) ?_
  refine lv_ldc2 hx hb hown (hts _ q783) dX5_many_3 ?_
  refine k_calli (wr := []) (va_runS (As := [.long ((nI nn).toInt64), .long 1, .long 200]) (rest := []) ⟨hx, hb, hml, hown, hts⟩ (ct_X5_in hk l D ca H.size ((nI nn).toInt64) 1 200) (va_cwS 3 hts (lw_S q635 q636 q24 q637) rfl rfl rfl (by decide +kernel) ⟨Nat.le_of_ble_eq_true rfl, Nat.le_of_ble_eq_true rfl⟩) (k_pre hk hK hN hP hD [] (by decide) rfl trivial) rfl rfl hl.1 rfl (lv_room (Nat.le_of_ble_eq_true rfl)) dX5_many_6 ⟨Nat.le_of_ble_eq_true rfl, Nat.le_of_ble_eq_true rfl⟩) hP hD hS hA [] [] rfl rfl (by decide) (by decide) (fun r_1 u_2 H locs w_3 hP hD hxw_3 hzw_3 hqw_3 hS => ?_)
  obtain rfl : r_1 = bI (p_in ((nI nn).toInt64) 1 200) := w_3
  refine lv_if_eq (tgt := 34) hx hb dX5_many_9 (by decide) (fun c_4 => absurd c_4 (by rw [in_nn h1 h2]; decide)) (fun c_4 => ?_)
  refine lv_iload_n hx hb dX5_many_12 rfl (lv_at hl 2 rfl) ?_
  refine lv_i2l (v := w0.toInt64) hx hb dX5_many_13 rfl ?_
  refine lv_lconst (v := 0) hx hb dX5_many_14 (by decide) ?_
  refine lv_ldc2 hx hb hown (hts _ q639) dX5_many_15 ?_
  refine k_calli (wr := []) (va_runS (As := [.long w0.toInt64, .long 0, .long 2]) (rest := []) ⟨hx, hb, hml, hown, hts⟩ (ct_X5_in hk l D ca H.size w0.toInt64 0 2) (va_cwS 3 hts (lw_S q635 q636 q24 q637) rfl rfl rfl (by decide +kernel) ⟨Nat.le_of_ble_eq_true rfl, Nat.le_of_ble_eq_true rfl⟩) (k_pre hk hK hN hP hD [] (by decide) rfl trivial) rfl rfl hl.1 rfl (lv_room (Nat.le_of_ble_eq_true rfl)) dX5_many_18 ⟨Nat.le_of_ble_eq_true rfl, Nat.le_of_ble_eq_true rfl⟩) hP hD hS hA [] [] rfl rfl (by decide) (by decide) (fun r_5 u_6 H locs w_7 hP hD hxw_7 hzw_7 hqw_7 hS => ?_)
  obtain rfl : r_5 = bI (p_in w0.toInt64 0 2) := w_7
  refine lv_if_eq (tgt := 34) hx hb dX5_many_21 (by decide) (fun c_8 => ?_) (fun c_8 => absurd (by rw [h3]; rfl) c_8)
  refine lv_iconst (v := (-1)) hx hb dX5_many_34 (by decide) ?_
  exact k_iret () hx hb hr hlocks (rfl) hP hD trivial hS (Nat.le_of_ble_eq_true rfl) (Nat.le_of_ble_eq_true rfl) dX5_many_35
set_option maxHeartbeats 4000000 in
set_option maxRecDepth 100000 in
theorem ct_X5_many_20 {KN : State → Prop} (hk : KNok KN) (l : Launch) (D : va_G) (ca : Nat → ClassId) (zH : Nat) (o : Nat) (ad : Nat → Nat) (nf mo : Int32) (x : Q4) (nn : Nat) (h1 : 1 ≤ nn) (h2 : nn ≤ 200) : Met l yX5_many (ws_ yX5_many cX5_many 3 (some .int)) ({ frames := 3, cells := 0, slots := 0, locals := 86 }) (va_Pc [.ref o, .int (nI nn), .int (nI 0)] (pr_ KN D ca [(o, mO ad nf mo), (ad 8, a4 ca x)] zH (fun _ => True))) (qI D (fun (r : Int32) (u : Nat × Q4) => r = nI (cS 0 (S0 (4 * (nn : Int)) u.1)) ∧ u.1 * u.1 ≤ 4 * nn ∧ 4 * nn < (u.1 + 1) * (u.1 + 1)) (fun u => [(o, mO ad nf mo), (ad 8, a4 ca u.2)]) (fun u H => True) (va_A [(o, mO ad nf mo), (ad 8, a4 ca x)] zH)) 0 0 (va_A [(o, mO ad nf mo), (ad 8, a4 ca x)] zH) := by
  refine k_ofW (Qc := qI D (fun (r : Int32) (u : Nat × Q4) => r = nI (cS 0 (S0 (4 * (nn : Int)) u.1)) ∧ u.1 * u.1 ≤ 4 * nn ∧ 4 * nn < (u.1 + 1) * (u.1 + 1)) (fun u => [(o, mO ad nf mo), (ad 8, a4 ca u.2)]) (fun u H => True)) (by decide) (Nat.le_of_ble_eq_true rfl) ?_
  intro p e s m below meth c ls A H hH hx hb hr hts hown hlocks hnm hml hsz hP hD hK hN hA hAn hS hro hl
  have hl : lv_has ls 3 [(0, .ref o), (1, .int (nI nn)), (2, .int (nI 0))] := hl
  refine lv_iload_n hx hb dX5_many_0 rfl (lv_at hl 1 rfl) ?_
  refine lv_i2l (v := (nI nn).toInt64) hx hb dX5_many_1 rfl ?_
  refine lv_lconst (v := 1) hx hb dX5_many_2 (by decide) ?_
  refine lv_ldc2 hx hb hown (hts _ q783) dX5_many_3 ?_
  refine k_calli (wr := [(o, mO ad nf mo), (ad 8, a4 ca x)]) (va_runS (As := [.long ((nI nn).toInt64), .long 1, .long 200]) (rest := []) ⟨hx, hb, hml, hown, hts⟩ (ct_X5_in hk l D ca H.size ((nI nn).toInt64) 1 200) (va_cwS 3 hts (lw_S q635 q636 q24 q637) rfl rfl rfl (by decide +kernel) ⟨Nat.le_of_ble_eq_true rfl, Nat.le_of_ble_eq_true rfl⟩) (k_pre hk hK hN hP hD [] (by decide) rfl trivial) rfl rfl hl.1 rfl (lv_room (Nat.le_of_ble_eq_true rfl)) dX5_many_6 ⟨Nat.le_of_ble_eq_true rfl, Nat.le_of_ble_eq_true rfl⟩) hP hD hS hA [] [0, 1] rfl rfl (by decide) (by decide) (fun r_1 u_2 H locs w_3 hP hD hxw_3 hzw_3 hqw_3 hS => ?_)
  obtain rfl : r_1 = bI (p_in ((nI nn).toInt64) 1 200) := w_3
  refine lv_if_eq (tgt := 34) hx hb dX5_many_9 (by decide) (fun c_4 => absurd c_4 (by rw [in_nn h1 h2]; decide)) (fun c_4 => ?_)
  refine lv_iload_n hx hb dX5_many_12 rfl (lv_at hl 2 rfl) ?_
  refine lv_i2l (v := (nI 0).toInt64) hx hb dX5_many_13 rfl ?_
  refine lv_lconst (v := 0) hx hb dX5_many_14 (by decide) ?_
  refine lv_ldc2 hx hb hown (hts _ q639) dX5_many_15 ?_
  refine k_calli (wr := [(o, mO ad nf mo), (ad 8, a4 ca x)]) (va_runS (As := [.long ((nI 0).toInt64), .long 0, .long 2]) (rest := []) ⟨hx, hb, hml, hown, hts⟩ (ct_X5_in hk l D ca H.size ((nI 0).toInt64) 0 2) (va_cwS 3 hts (lw_S q635 q636 q24 q637) rfl rfl rfl (by decide +kernel) ⟨Nat.le_of_ble_eq_true rfl, Nat.le_of_ble_eq_true rfl⟩) (k_pre hk hK hN hP hD [] (by decide) rfl trivial) rfl rfl hl.1 rfl (lv_room (Nat.le_of_ble_eq_true rfl)) dX5_many_18 ⟨Nat.le_of_ble_eq_true rfl, Nat.le_of_ble_eq_true rfl⟩) hP hD hS hA [] [0, 1] rfl rfl (by decide) (by decide) (fun r_5 u_6 H locs w_7 hP hD hxw_7 hzw_7 hqw_7 hS => ?_)
  obtain rfl : r_5 = bI (p_in ((nI 0).toInt64) 0 2) := w_7
  refine lv_if_eq (tgt := 34) hx hb dX5_many_21 (by decide) (fun c_8 => absurd c_8 (by decide)) (fun c_8 => ?_)
  refine lv_aload_n hx hb dX5_many_24 rfl (lv_at hl 0 rfl) ?_
  refine lv_iload_n hx hb dX5_many_25 rfl (lv_at hl 1 rfl) ?_
  refine lv_iload_n hx hb dX5_many_26 rfl (lv_at hl 2 rfl) ?_
  refine lv_iconst (v := (-1)) hx hb dX5_many_27 (by decide) ?_
  refine k_calli (wr := []) (va_runV (As := [.int (nI nn), .int (nI 0), .int (-1)]) (rest := []) ⟨hx, hb, hml, hown, hts⟩ (ct_X5_go_0 hk l D ca H.size o ad nf mo x nn h1 h2) (cwV 3 hts (lw_V q784 q786 qs16 q24 q787) rfl rfl rfl (by decide +kernel) ⟨Nat.le_of_ble_eq_true rfl, Nat.le_of_ble_eq_true rfl⟩) (k_preV hk hK hN hP hD [0, 1] (by decide) rfl trivial hP rfl (q0 := 0) rfl) rfl rfl hl.1 rfl (lv_room (Nat.le_of_ble_eq_true rfl)) dX5_many_28 ⟨Nat.le_of_ble_eq_true rfl, Nat.le_of_ble_eq_true rfl⟩) hP hD hS hA [0, 1] [] rfl rfl (by decide) (by decide) (fun r_9 u_10 H locs w_11 hP hD hxw_11 hzw_11 hqw_11 hS => ?_)
  have hP : va_P D vwCl [(o, mO ad nf mo), (ad 8, a4 ca u_10.2)] H := hP
  have hD : va_D A [(o, mO ad nf mo), (ad 8, a4 ca u_10.2)] := hD
  obtain ⟨ew_11, hr1w_11, hr2w_11⟩ := w_11
  subst ew_11
  refine lv_goto (tgt := 35) hx hb dX5_many_31 (by decide) ?_
  exact k_iret u_10 hx hb hr hlocks (⟨rfl, hr1w_11, hr2w_11⟩) hP hD trivial hS (Nat.le_of_ble_eq_true rfl) (Nat.le_of_ble_eq_true rfl) dX5_many_35
set_option maxHeartbeats 4000000 in
set_option maxRecDepth 100000 in
theorem ct_X5_many_21 {KN : State → Prop} (hk : KNok KN) (l : Launch) (D : va_G) (ca : Nat → ClassId) (zH : Nat) (o : Nat) (ad : Nat → Nat) (nf mo : Int32) (x : Q4) (nn : Nat) (h1 : 1 ≤ nn) (h2 : nn ≤ 200) : Met l yX5_many (ws_ yX5_many cX5_many 3 (some .int)) ({ frames := 3, cells := 0, slots := 0, locals := 86 }) (va_Pc [.ref o, .int (nI nn), .int (nI 1)] (pr_ KN D ca [(o, mO ad nf mo), (ad 8, a4 ca x)] zH (fun _ => True))) (qI D (fun (r : Int32) (u : Nat × Q4) => r = nI (cS 1 (S0 (4 * (nn : Int)) u.1)) ∧ u.1 * u.1 ≤ 4 * nn ∧ 4 * nn < (u.1 + 1) * (u.1 + 1)) (fun u => [(o, mO ad nf mo), (ad 8, a4 ca u.2)]) (fun u H => True) (va_A [(o, mO ad nf mo), (ad 8, a4 ca x)] zH)) 0 0 (va_A [(o, mO ad nf mo), (ad 8, a4 ca x)] zH) := by
  refine k_ofW (Qc := qI D (fun (r : Int32) (u : Nat × Q4) => r = nI (cS 1 (S0 (4 * (nn : Int)) u.1)) ∧ u.1 * u.1 ≤ 4 * nn ∧ 4 * nn < (u.1 + 1) * (u.1 + 1)) (fun u => [(o, mO ad nf mo), (ad 8, a4 ca u.2)]) (fun u H => True)) (by decide) (Nat.le_of_ble_eq_true rfl) ?_
  intro p e s m below meth c ls A H hH hx hb hr hts hown hlocks hnm hml hsz hP hD hK hN hA hAn hS hro hl
  have hl : lv_has ls 3 [(0, .ref o), (1, .int (nI nn)), (2, .int (nI 1))] := hl
  refine lv_iload_n hx hb dX5_many_0 rfl (lv_at hl 1 rfl) ?_
  refine lv_i2l (v := (nI nn).toInt64) hx hb dX5_many_1 rfl ?_
  refine lv_lconst (v := 1) hx hb dX5_many_2 (by decide) ?_
  refine lv_ldc2 hx hb hown (hts _ q783) dX5_many_3 ?_
  refine k_calli (wr := [(o, mO ad nf mo), (ad 8, a4 ca x)]) (va_runS (As := [.long ((nI nn).toInt64), .long 1, .long 200]) (rest := []) ⟨hx, hb, hml, hown, hts⟩ (ct_X5_in hk l D ca H.size ((nI nn).toInt64) 1 200) (va_cwS 3 hts (lw_S q635 q636 q24 q637) rfl rfl rfl (by decide +kernel) ⟨Nat.le_of_ble_eq_true rfl, Nat.le_of_ble_eq_true rfl⟩) (k_pre hk hK hN hP hD [] (by decide) rfl trivial) rfl rfl hl.1 rfl (lv_room (Nat.le_of_ble_eq_true rfl)) dX5_many_6 ⟨Nat.le_of_ble_eq_true rfl, Nat.le_of_ble_eq_true rfl⟩) hP hD hS hA [] [0, 1] rfl rfl (by decide) (by decide) (fun r_1 u_2 H locs w_3 hP hD hxw_3 hzw_3 hqw_3 hS => ?_)
  obtain rfl : r_1 = bI (p_in ((nI nn).toInt64) 1 200) := w_3
  refine lv_if_eq (tgt := 34) hx hb dX5_many_9 (by decide) (fun c_4 => absurd c_4 (by rw [in_nn h1 h2]; decide)) (fun c_4 => ?_)
  refine lv_iload_n hx hb dX5_many_12 rfl (lv_at hl 2 rfl) ?_
  refine lv_i2l (v := (nI 1).toInt64) hx hb dX5_many_13 rfl ?_
  refine lv_lconst (v := 0) hx hb dX5_many_14 (by decide) ?_
  refine lv_ldc2 hx hb hown (hts _ q639) dX5_many_15 ?_
  refine k_calli (wr := [(o, mO ad nf mo), (ad 8, a4 ca x)]) (va_runS (As := [.long ((nI 1).toInt64), .long 0, .long 2]) (rest := []) ⟨hx, hb, hml, hown, hts⟩ (ct_X5_in hk l D ca H.size ((nI 1).toInt64) 0 2) (va_cwS 3 hts (lw_S q635 q636 q24 q637) rfl rfl rfl (by decide +kernel) ⟨Nat.le_of_ble_eq_true rfl, Nat.le_of_ble_eq_true rfl⟩) (k_pre hk hK hN hP hD [] (by decide) rfl trivial) rfl rfl hl.1 rfl (lv_room (Nat.le_of_ble_eq_true rfl)) dX5_many_18 ⟨Nat.le_of_ble_eq_true rfl, Nat.le_of_ble_eq_true rfl⟩) hP hD hS hA [] [0, 1] rfl rfl (by decide) (by decide) (fun r_5 u_6 H locs w_7 hP hD hxw_7 hzw_7 hqw_7 hS => ?_)
  obtain rfl : r_5 = bI (p_in ((nI 1).toInt64) 0 2) := w_7
  refine lv_if_eq (tgt := 34) hx hb dX5_many_21 (by decide) (fun c_8 => absurd c_8 (by decide)) (fun c_8 => ?_)
  refine lv_aload_n hx hb dX5_many_24 rfl (lv_at hl 0 rfl) ?_
  refine lv_iload_n hx hb dX5_many_25 rfl (lv_at hl 1 rfl) ?_
  refine lv_iload_n hx hb dX5_many_26 rfl (lv_at hl 2 rfl) ?_
  refine lv_iconst (v := (-1)) hx hb dX5_many_27 (by decide) ?_
  refine k_calli (wr := []) (va_runV (As := [.int (nI nn), .int (nI 1), .int (-1)]) (rest := []) ⟨hx, hb, hml, hown, hts⟩ (ct_X5_go_1 hk l D ca H.size o ad nf mo x nn h1 h2) (cwV 3 hts (lw_V q784 q786 qs16 q24 q787) rfl rfl rfl (by decide +kernel) ⟨Nat.le_of_ble_eq_true rfl, Nat.le_of_ble_eq_true rfl⟩) (k_preV hk hK hN hP hD [0, 1] (by decide) rfl trivial hP rfl (q0 := 0) rfl) rfl rfl hl.1 rfl (lv_room (Nat.le_of_ble_eq_true rfl)) dX5_many_28 ⟨Nat.le_of_ble_eq_true rfl, Nat.le_of_ble_eq_true rfl⟩) hP hD hS hA [0, 1] [] rfl rfl (by decide) (by decide) (fun r_9 u_10 H locs w_11 hP hD hxw_11 hzw_11 hqw_11 hS => ?_)
  have hP : va_P D vwCl [(o, mO ad nf mo), (ad 8, a4 ca u_10.2)] H := hP
  have hD : va_D A [(o, mO ad nf mo), (ad 8, a4 ca u_10.2)] := hD
  obtain ⟨ew_11, hr1w_11, hr2w_11⟩ := w_11
  subst ew_11
  refine lv_goto (tgt := 35) hx hb dX5_many_31 (by decide) ?_
  exact k_iret u_10 hx hb hr hlocks (⟨rfl, hr1w_11, hr2w_11⟩) hP hD trivial hS (Nat.le_of_ble_eq_true rfl) (Nat.le_of_ble_eq_true rfl) dX5_many_35
set_option maxHeartbeats 4000000 in
set_option maxRecDepth 100000 in
theorem ct_X5_many_22 {KN : State → Prop} (hk : KNok KN) (l : Launch) (D : va_G) (ca : Nat → ClassId) (zH : Nat) (o : Nat) (ad : Nat → Nat) (nf mo : Int32) (x : Q4) (nn : Nat) (h1 : 1 ≤ nn) (h2 : nn ≤ 200) : Met l yX5_many (ws_ yX5_many cX5_many 3 (some .int)) ({ frames := 3, cells := 0, slots := 0, locals := 86 }) (va_Pc [.ref o, .int (nI nn), .int (nI 2)] (pr_ KN D ca [(o, mO ad nf mo), (ad 8, a4 ca x)] zH (fun _ => True))) (qI D (fun (r : Int32) (u : Nat × Q4) => r = nI (cS 2 (S0 (4 * (nn : Int)) u.1)) ∧ u.1 * u.1 ≤ 4 * nn ∧ 4 * nn < (u.1 + 1) * (u.1 + 1)) (fun u => [(o, mO ad nf mo), (ad 8, a4 ca u.2)]) (fun u H => True) (va_A [(o, mO ad nf mo), (ad 8, a4 ca x)] zH)) 0 0 (va_A [(o, mO ad nf mo), (ad 8, a4 ca x)] zH) := by
  refine k_ofW (Qc := qI D (fun (r : Int32) (u : Nat × Q4) => r = nI (cS 2 (S0 (4 * (nn : Int)) u.1)) ∧ u.1 * u.1 ≤ 4 * nn ∧ 4 * nn < (u.1 + 1) * (u.1 + 1)) (fun u => [(o, mO ad nf mo), (ad 8, a4 ca u.2)]) (fun u H => True)) (by decide) (Nat.le_of_ble_eq_true rfl) ?_
  intro p e s m below meth c ls A H hH hx hb hr hts hown hlocks hnm hml hsz hP hD hK hN hA hAn hS hro hl
  have hl : lv_has ls 3 [(0, .ref o), (1, .int (nI nn)), (2, .int (nI 2))] := hl
  refine lv_iload_n hx hb dX5_many_0 rfl (lv_at hl 1 rfl) ?_
  refine lv_i2l (v := (nI nn).toInt64) hx hb dX5_many_1 rfl ?_
  refine lv_lconst (v := 1) hx hb dX5_many_2 (by decide) ?_
  refine lv_ldc2 hx hb hown (hts _ q783) dX5_many_3 ?_
  refine k_calli (wr := [(o, mO ad nf mo), (ad 8, a4 ca x)]) (va_runS (As := [.long ((nI nn).toInt64), .long 1, .long 200]) (rest := []) ⟨hx, hb, hml, hown, hts⟩ (ct_X5_in hk l D ca H.size ((nI nn).toInt64) 1 200) (va_cwS 3 hts (lw_S q635 q636 q24 q637) rfl rfl rfl (by decide +kernel) ⟨Nat.le_of_ble_eq_true rfl, Nat.le_of_ble_eq_true rfl⟩) (k_pre hk hK hN hP hD [] (by decide) rfl trivial) rfl rfl hl.1 rfl (lv_room (Nat.le_of_ble_eq_true rfl)) dX5_many_6 ⟨Nat.le_of_ble_eq_true rfl, Nat.le_of_ble_eq_true rfl⟩) hP hD hS hA [] [0, 1] rfl rfl (by decide) (by decide) (fun r_1 u_2 H locs w_3 hP hD hxw_3 hzw_3 hqw_3 hS => ?_)
  obtain rfl : r_1 = bI (p_in ((nI nn).toInt64) 1 200) := w_3
  refine lv_if_eq (tgt := 34) hx hb dX5_many_9 (by decide) (fun c_4 => absurd c_4 (by rw [in_nn h1 h2]; decide)) (fun c_4 => ?_)
  refine lv_iload_n hx hb dX5_many_12 rfl (lv_at hl 2 rfl) ?_
  refine lv_i2l (v := (nI 2).toInt64) hx hb dX5_many_13 rfl ?_
  refine lv_lconst (v := 0) hx hb dX5_many_14 (by decide) ?_
  refine lv_ldc2 hx hb hown (hts _ q639) dX5_many_15 ?_
  refine k_calli (wr := [(o, mO ad nf mo), (ad 8, a4 ca x)]) (va_runS (As := [.long ((nI 2).toInt64), .long 0, .long 2]) (rest := []) ⟨hx, hb, hml, hown, hts⟩ (ct_X5_in hk l D ca H.size ((nI 2).toInt64) 0 2) (va_cwS 3 hts (lw_S q635 q636 q24 q637) rfl rfl rfl (by decide +kernel) ⟨Nat.le_of_ble_eq_true rfl, Nat.le_of_ble_eq_true rfl⟩) (k_pre hk hK hN hP hD [] (by decide) rfl trivial) rfl rfl hl.1 rfl (lv_room (Nat.le_of_ble_eq_true rfl)) dX5_many_18 ⟨Nat.le_of_ble_eq_true rfl, Nat.le_of_ble_eq_true rfl⟩) hP hD hS hA [] [0, 1] rfl rfl (by decide) (by decide) (fun r_5 u_6 H locs w_7 hP hD hxw_7 hzw_7 hqw_7 hS => ?_)
  obtain rfl : r_5 = bI (p_in ((nI 2).toInt64) 0 2) := w_7
  refine lv_if_eq (tgt := 34) hx hb dX5_many_21 (by decide) (fun c_8 => absurd c_8 (by decide)) (fun c_8 => ?_)
  refine lv_aload_n hx hb dX5_many_24 rfl (lv_at hl 0 rfl) ?_
  refine lv_iload_n hx hb dX5_many_25 rfl (lv_at hl 1 rfl) ?_
  refine lv_iload_n hx hb dX5_many_26 rfl (lv_at hl 2 rfl) ?_
  refine lv_iconst (v := (-1)) hx hb dX5_many_27 (by decide) ?_
  refine k_calli (wr := []) (va_runV (As := [.int (nI nn), .int (nI 2), .int (-1)]) (rest := []) ⟨hx, hb, hml, hown, hts⟩ (ct_X5_go_2 hk l D ca H.size o ad nf mo x nn h1 h2) (cwV 3 hts (lw_V q784 q786 qs16 q24 q787) rfl rfl rfl (by decide +kernel) ⟨Nat.le_of_ble_eq_true rfl, Nat.le_of_ble_eq_true rfl⟩) (k_preV hk hK hN hP hD [0, 1] (by decide) rfl trivial hP rfl (q0 := 0) rfl) rfl rfl hl.1 rfl (lv_room (Nat.le_of_ble_eq_true rfl)) dX5_many_28 ⟨Nat.le_of_ble_eq_true rfl, Nat.le_of_ble_eq_true rfl⟩) hP hD hS hA [0, 1] [] rfl rfl (by decide) (by decide) (fun r_9 u_10 H locs w_11 hP hD hxw_11 hzw_11 hqw_11 hS => ?_)
  have hP : va_P D vwCl [(o, mO ad nf mo), (ad 8, a4 ca u_10.2)] H := hP
  have hD : va_D A [(o, mO ad nf mo), (ad 8, a4 ca u_10.2)] := hD
  obtain ⟨ew_11, hr1w_11, hr2w_11⟩ := w_11
  subst ew_11
  refine lv_goto (tgt := 35) hx hb dX5_many_31 (by decide) ?_
  exact k_iret u_10 hx hb hr hlocks (⟨rfl, hr1w_11, hr2w_11⟩) hP hD trivial hS (Nat.le_of_ble_eq_true rfl) (Nat.le_of_ble_eq_true rfl) dX5_many_35
