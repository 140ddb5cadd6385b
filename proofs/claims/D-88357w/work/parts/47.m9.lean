set_option maxHeartbeats 4000000 in
set_option maxRecDepth 100000 in
theorem ct_X5_entry {KN : State → Prop} (hk : KNok KN) (l : Launch) (D : va_G) (ca : Nat → ClassId) (zH : Nat) (o : Nat) (ad : Nat → Nat) (nf mo : Int32) (g : AI) (x : Q4) (js ji jj : Nat) (hjs : js < 16) (hji : ji < 3) (hjj : jj < 3) : Met l yX5_entry (ws_ yX5_entry cX5_entry 14 (some .long)) ({ frames := 1, cells := 0, slots := 0, locals := 23 }) (va_Pc [.ref o, .int (nI js), .int (nI ji), .int (nI jj)] (pr_ KN D ca [(o, mO ad nf mo), (ad 3, aI ca 64 g), (ad 8, a4 ca x)] zH (fun _ => True))) (qL D (fun (r : Int64) (u : Q4) => r = m_ent g js ji jj) (fun u => [(o, mO ad nf mo), (ad 3, aI ca 64 g), (ad 8, a4 ca u)]) (fun u H => True) (va_A [(o, mO ad nf mo), (ad 3, aI ca 64 g), (ad 8, a4 ca x)] zH)) 0 0 (va_A [(o, mO ad nf mo), (ad 3, aI ca 64 g), (ad 8, a4 ca x)] zH) := by
  refine k_ofW (Qc := qL D (fun (r : Int64) (u : Q4) => r = m_ent g js ji jj) (fun u => [(o, mO ad nf mo), (ad 3, aI ca 64 g), (ad 8, a4 ca u)]) (fun u H => True)) (by decide) (Nat.le_of_ble_eq_true rfl) ?_
  intro p e s m below meth c ls A H hH hx hb hr hts hown hlocks hnm hml hsz hP hD hK hN hA hAn hS hro hl
  have hl : lv_has ls 14 [(0, .ref o), (1, .int (nI js)), (2, .int (nI ji)), (3, .int (nI jj))] := hl
  refine lv_aload_n hx hb dX5_entry_0 rfl (lv_at hl 0 rfl) ?_
  refine va_get (D := D) (ci := 4) (v := .ref (ad 3)) (C := RX5) (T := TX5) (N := 18) hx hb hts in_X5 hown hK hP 0 rfl rfl 3 (by decide) (hts _ q576) (fun _ h9 => h9) rfl dX5_entry_1 ?_
  refine lv_iconst (v := 4) hx hb dX5_entry_4 (by decide) ?_
  refine lv_iload_n hx hb dX5_entry_5 rfl (lv_at hl 1 rfl) ?_
  refine lv_imul hx hb dX5_entry_6 ?_
  refine va_iald hx hb hK hP 1 1 rfl rfl (vin_nI (a := 4 * js) (eq_mul rfl rfl) (by omega) (by omega)) dX5_entry_7 ?_
  refine lv_topi (fun z_1 ez_1 => ?_)
  obtain rfl : z_1 = g (4 * js) := ez_1.trans (cl_nI (a := 4 * js) g (eq_mul rfl rfl) (by omega))
  refine lv_i2l (v := (g (4 * js)).toInt64) hx hb dX5_entry_8 rfl ?_
  refine lv_lstore (lv' := [(4, .long ((g (4 * js)).toInt64)), (0, .ref o), (1, .int (nI js)), (2, .int (nI ji)), (3, .int (nI jj))]) hx hb dX5_entry_9 hl (by decide) rfl (fun ls hl => ?_)
  refine lv_aload_n hx hb dX5_entry_11 rfl (lv_at hl 1 rfl) ?_
  refine va_get (D := D) (ci := 4) (v := .ref (ad 3)) (C := RX5) (T := TX5) (N := 18) hx hb hts in_X5 hown hK hP 0 rfl rfl 3 (by decide) (hts _ q576) (fun _ h9 => h9) rfl dX5_entry_12 ?_
  refine lv_iconst (v := 4) hx hb dX5_entry_15 (by decide) ?_
  refine lv_iload_n hx hb dX5_entry_16 rfl (lv_at hl 2 rfl) ?_
  refine lv_imul hx hb dX5_entry_17 ?_
  refine lv_iconst (v := 1) hx hb dX5_entry_18 (by decide) ?_
  refine lv_iadd hx hb dX5_entry_19 ?_
  refine lv_iload_n hx hb dX5_entry_20 rfl (lv_at hl 3 rfl) ?_
  refine lv_iadd hx hb dX5_entry_21 ?_
  refine va_iald hx hb hK hP 1 1 rfl rfl (vin_nI (a := ((4 * js) + 1) + ji) (eq_add (eq_add (eq_mul rfl rfl) rfl) rfl) (by omega) (by omega)) dX5_entry_22 ?_
  refine lv_topi (fun z_2 ez_2 => ?_)
  obtain rfl : z_2 = g (((4 * js) + 1) + ji) := ez_2.trans (cl_nI (a := ((4 * js) + 1) + ji) g (eq_add (eq_add (eq_mul rfl rfl) rfl) rfl) (by omega))
  refine lv_i2l (v := (g (((4 * js) + 1) + ji)).toInt64) hx hb dX5_entry_23 rfl ?_
  refine lv_lstore (lv' := [(6, .long ((g (((4 * js) + 1) + ji)).toInt64)), (4, .long ((g (4 * js)).toInt64)), (0, .ref o), (1, .int (nI js)), (2, .int (nI ji)), (3, .int (nI jj))]) hx hb dX5_entry_24 hl (by decide) rfl (fun ls hl => ?_)
  refine lv_aload_n hx hb dX5_entry_26 rfl (lv_at hl 2 rfl) ?_
  refine va_get (D := D) (ci := 4) (v := .ref (ad 3)) (C := RX5) (T := TX5) (N := 18) hx hb hts in_X5 hown hK hP 0 rfl rfl 3 (by decide) (hts _ q576) (fun _ h9 => h9) rfl dX5_entry_27 ?_
  refine lv_iconst (v := 4) hx hb dX5_entry_30 (by decide) ?_
  refine lv_iload_n hx hb dX5_entry_31 rfl (lv_at hl 3 rfl) ?_
  refine lv_imul hx hb dX5_entry_32 ?_
  refine lv_iconst (v := 1) hx hb dX5_entry_33 (by decide) ?_
  refine lv_iadd hx hb dX5_entry_34 ?_
  refine lv_iload_n hx hb dX5_entry_35 rfl (lv_at hl 5 rfl) ?_
  refine lv_iadd hx hb dX5_entry_36 ?_
  refine va_iald hx hb hK hP 1 1 rfl rfl (vin_nI (a := ((4 * js) + 1) + jj) (eq_add (eq_add (eq_mul rfl rfl) rfl) rfl) (by omega) (by omega)) dX5_entry_37 ?_
  refine lv_topi (fun z_3 ez_3 => ?_)
  obtain rfl : z_3 = g (((4 * js) + 1) + jj) := ez_3.trans (cl_nI (a := ((4 * js) + 1) + jj) g (eq_add (eq_add (eq_mul rfl rfl) rfl) rfl) (by omega))
  refine lv_i2l (v := (g (((4 * js) + 1) + jj)).toInt64) hx hb dX5_entry_38 rfl ?_
  refine lv_lstore (lv' := [(8, .long ((g (((4 * js) + 1) + jj)).toInt64)), (6, .long ((g (((4 * js) + 1) + ji)).toInt64)), (4, .long ((g (4 * js)).toInt64)), (0, .ref o), (1, .int (nI js)), (2, .int (nI ji)), (3, .int (nI jj))]) hx hb dX5_entry_39 hl (by decide) rfl (fun ls hl => ?_)
  refine lv_iload_n hx hb dX5_entry_41 rfl (lv_at hl 5 rfl) ?_
  refine lv_iload_n hx hb dX5_entry_42 rfl (lv_at hl 6 rfl) ?_
  refine lv_icmp_ne (tgt := 125) hx hb dX5_entry_43 (by decide) (fun c_4 => ?_) (fun c_4 => ?_)
  · have c_4 := eq_no (a := ji) (b := jj) rfl rfl (by omega) (by omega) c_4
    refine lv_iconst (v := 3) hx hb dX5_entry_125 (by decide) ?_
    refine lv_iload_n hx hb dX5_entry_126 rfl (lv_at hl 5 rfl) ?_
    refine lv_isub hx hb dX5_entry_127 ?_
    refine lv_iload_n hx hb dX5_entry_128 rfl (lv_at hl 6 rfl) ?_
    refine lv_isub hx hb dX5_entry_129 ?_
    refine lv_topi (fun z_5 ez_5 => ?_)
    obtain rfl : z_5 = nI (3 - ji - jj) := ez_5.trans (eq_sub (a := 3 - ji) (b := jj) (eq_sub (a := 3) (b := ji) rfl rfl (by omega)) rfl (by omega))
    refine lv_istore (lv' := [(10, .int (nI (3 - ji - jj))), (8, .long ((g (((4 * js) + 1) + jj)).toInt64)), (6, .long ((g (((4 * js) + 1) + ji)).toInt64)), (4, .long ((g (4 * js)).toInt64)), (0, .ref o), (1, .int (nI js)), (2, .int (nI ji)), (3, .int (nI jj))]) hx hb dX5_entry_130 hl (by decide) rfl (fun ls hl => ?_)
    refine lv_aload_n hx hb dX5_entry_132 rfl (lv_at hl 4 rfl) ?_
    refine va_get (D := D) (ci := 4) (v := .ref (ad 3)) (C := RX5) (T := TX5) (N := 18) hx hb hts in_X5 hown hK hP 0 rfl rfl 3 (by decide) (hts _ q576) (fun _ h9 => h9) rfl dX5_entry_133 ?_
    refine lv_iconst (v := 4) hx hb dX5_entry_136 (by decide) ?_
    refine lv_iload_n hx hb dX5_entry_137 rfl (lv_at hl 5 rfl) ?_
    refine lv_imul hx hb dX5_entry_138 ?_
    refine lv_iconst (v := 1) hx hb dX5_entry_139 (by decide) ?_
    refine lv_iadd hx hb dX5_entry_140 ?_
    refine lv_iload hx hb dX5_entry_141 (lv_at hl 0 rfl) ?_
    refine lv_iadd hx hb dX5_entry_143 ?_
    refine va_iald hx hb hK hP 1 1 rfl rfl (vin_nI (a := ((4 * js) + 1) + (3 - ji - jj)) (eq_add (eq_add (eq_mul rfl rfl) rfl) rfl) (by omega) (by omega)) dX5_entry_144 ?_
    refine lv_topi (fun z_6 ez_6 => ?_)
    obtain rfl : z_6 = g (((4 * js) + 1) + (3 - ji - jj)) := ez_6.trans (cl_nI (a := ((4 * js) + 1) + (3 - ji - jj)) g (eq_add (eq_add (eq_mul rfl rfl) rfl) rfl) (by omega))
    refine lv_i2l (v := (g (((4 * js) + 1) + (3 - ji - jj))).toInt64) hx hb dX5_entry_145 rfl ?_
    refine lv_lstore (lv' := [(11, .long ((g (((4 * js) + 1) + (3 - ji - jj))).toInt64)), (10, .int (nI (3 - ji - jj))), (8, .long ((g (((4 * js) + 1) + jj)).toInt64)), (6, .long ((g (((4 * js) + 1) + ji)).toInt64)), (4, .long ((g (4 * js)).toInt64)), (0, .ref o), (1, .int (nI js)), (2, .int (nI ji)), (3, .int (nI jj))]) hx hb dX5_entry_146 hl (by decide) rfl (fun ls hl => ?_)
    refine lv_iload_n hx hb dX5_entry_148 rfl (lv_at hl 8 rfl) ?_
    refine lv_iload_n hx hb dX5_entry_149 rfl (lv_at hl 7 rfl) ?_
    refine lv_iconst (v := 1) hx hb dX5_entry_150 (by decide) ?_
    refine lv_iadd hx hb dX5_entry_151 ?_
    refine lv_iconst (v := 3) hx hb dX5_entry_152 (by decide) ?_
    refine lv_irem hx hb dX5_entry_153 (by decide) ?_
    refine lv_topi (fun z_7 ez_7 => ?_)
    obtain rfl : z_7 = nI ((ji + 1) % 3) := ez_7.trans (rem3 (by omega))
    refine lv_icmp_ne (tgt := 161) hx hb dX5_entry_154 (by decide) (fun c_8 => ?_) (fun c_8 => ?_)
    · have c_8 := eq_no (a := jj) (b := (ji + 1) % 3) rfl rfl (by omega) (by omega) c_8
      refine lv_iconst (v := 0) hx hb dX5_entry_161 (by decide) ?_
      refine lv_istore (lv' := [(13, .int 0), (11, .long ((g (((4 * js) + 1) + (3 - ji - jj))).toInt64)), (10, .int (nI (3 - ji - jj))), (8, .long ((g (((4 * js) + 1) + jj)).toInt64)), (6, .long ((g (((4 * js) + 1) + ji)).toInt64)), (4, .long ((g (4 * js)).toInt64)), (0, .ref o), (1, .int (nI js)), (2, .int (nI ji)), (3, .int (nI jj))]) hx hb dX5_entry_162 hl (by decide) rfl (fun ls hl => ?_)
      refine lv_lload hx hb dX5_entry_164 (lv_at hl 4 rfl) ?_
      refine lv_lload hx hb dX5_entry_166 (lv_at hl 3 rfl) ?_
      refine lv_lmul hx hb dX5_entry_168 ?_
      refine lv_iload hx hb dX5_entry_169 (lv_at hl 0 rfl) ?_
      refine lv_if_eq (tgt := 183) hx hb dX5_entry_171 (by decide) (fun c_9 => ?_) (fun c_9 => absurd (by decide) c_9)
      refine lv_lload hx hb dX5_entry_183 (lv_at hl 5 rfl) ?_
      refine lv_lload hx hb dX5_entry_185 (lv_at hl 1 rfl) ?_
      refine lv_lmul hx hb dX5_entry_187 ?_
      refine lv_ladd hx hb dX5_entry_188 ?_
      refine lv_ldc2 hx hb hown (hts _ q639) dX5_entry_189 ?_
      refine lv_ldiv hx hb dX5_entry_192 (by decide) ?_
      exact k_lret x hx hb hr hlocks (by rw [m_ent, if_neg c_4, if_neg c_8]) hP hD trivial hS (Nat.le_of_ble_eq_true rfl) (Nat.le_of_ble_eq_true rfl) dX5_entry_193
    · have c_8 := eq_y (a := jj) (b := (ji + 1) % 3) rfl rfl (by omega) (by omega) c_8
      refine lv_iconst (v := 1) hx hb dX5_entry_157 (by decide) ?_
      refine lv_goto (tgt := 162) hx hb dX5_entry_158 (by decide) ?_
      refine lv_istore (lv' := [(13, .int 1), (11, .long ((g (((4 * js) + 1) + (3 - ji - jj))).toInt64)), (10, .int (nI (3 - ji - jj))), (8, .long ((g (((4 * js) + 1) + jj)).toInt64)), (6, .long ((g (((4 * js) + 1) + ji)).toInt64)), (4, .long ((g (4 * js)).toInt64)), (0, .ref o), (1, .int (nI js)), (2, .int (nI ji)), (3, .int (nI jj))]) hx hb dX5_entry_162 hl (by decide) rfl (fun ls hl => ?_)
      refine lv_lload hx hb dX5_entry_164 (lv_at hl 4 rfl) ?_
      refine lv_lload hx hb dX5_entry_166 (lv_at hl 3 rfl) ?_
      refine lv_lmul hx hb dX5_entry_168 ?_
      refine lv_iload hx hb dX5_entry_169 (lv_at hl 0 rfl) ?_
      refine lv_if_eq (tgt := 183) hx hb dX5_entry_171 (by decide) (fun c_10 => absurd c_10 (by decide)) (fun c_10 => ?_)
      refine lv_lload hx hb dX5_entry_174 (lv_at hl 5 rfl) ?_
      refine lv_lneg hx hb dX5_entry_176 ?_
      refine lv_lload hx hb dX5_entry_177 (lv_at hl 1 rfl) ?_
      refine lv_lmul hx hb dX5_entry_179 ?_
      refine lv_goto (tgt := 188) hx hb dX5_entry_180 (by decide) ?_
      refine lv_ladd hx hb dX5_entry_188 ?_
      refine lv_ldc2 hx hb hown (hts _ q639) dX5_entry_189 ?_
      refine lv_ldiv hx hb dX5_entry_192 (by decide) ?_
      exact k_lret x hx hb hr hlocks (by rw [m_ent, if_neg c_4, if_pos c_8]) hP hD trivial hS (Nat.le_of_ble_eq_true rfl) (Nat.le_of_ble_eq_true rfl) dX5_entry_193
  · have c_4 := eq_y (a := ji) (b := jj) rfl rfl (by omega) (by omega) c_4
    refine lv_aload_n hx hb dX5_entry_46 rfl (lv_at hl 3 rfl) ?_
    refine lv_aload_n hx hb dX5_entry_47 rfl (lv_at hl 3 rfl) ?_
    refine va_get (D := D) (ci := 4) (v := .ref (ad 8)) (C := RX5) (T := TX5) (N := 18) hx hb hts in_X5 hown hK hP 0 rfl rfl 8 (by decide) (hts _ q581) (fun _ h9 => h9) rfl dX5_entry_48 ?_
    refine lv_iload_n hx hb dX5_entry_51 rfl (lv_at hl 4 rfl) ?_
    refine k_callv (wr := []) (va_runV (As := [.ref (ad 8), .int (nI js)]) (rest := []) ⟨hx, hb, hml, hown, hts⟩ (ct_X5_load hk l D ca H.size o ad nf mo (ad 8) g x js (by omega)) (cwV 2 hts (lw_V q694 q696 qs10 q24 q697) rfl rfl rfl (by decide +kernel) ⟨Nat.le_of_ble_eq_true rfl, Nat.le_of_ble_eq_true rfl⟩) (k_preV hk hK hN hP hD [0, 1, 2] (by decide) rfl trivial hP rfl (q0 := 0) rfl) rfl rfl hl.1 rfl (lv_room (Nat.le_of_ble_eq_true rfl)) dX5_entry_52 ⟨Nat.le_of_ble_eq_true rfl, Nat.le_of_ble_eq_true rfl⟩) hP hD hS hA [0, 1, 2] [] rfl rfl (by decide) (by decide) (fun u_12 H locs w_13 hP hD hxw_13 hzw_13 hqw_13 hS => ?_)
    have hP : va_P D vwCl [(o, mO ad nf mo), (ad 3, aI ca 64 g), (ad 8, a4 ca (rq g js))] H := hP
    have hD : va_D A [(o, mO ad nf mo), (ad 3, aI ca 64 g), (ad 8, a4 ca (rq g js))] := hD
    refine lv_aload_n hx hb dX5_entry_55 rfl (lv_at hl 3 rfl) ?_
    refine va_get (D := D) (ci := 4) (v := .ref (ad 8)) (C := RX5) (T := TX5) (N := 18) hx hb hts in_X5 hown hK hP 0 rfl rfl 8 (by decide) (hts _ q581) (fun _ h9 => h9) rfl dX5_entry_56 ?_
    refine lv_iconst (v := 0) hx hb dX5_entry_59 (by decide) ?_
    refine va_lald hx hb hK hP 2 2 rfl rfl (vin (by decide)) dX5_entry_60 ?_
    refine lv_topl (fun z_14 ez_14 => ?_)
    obtain rfl : z_14 = (rq g js).1 := ez_14.trans rfl
    refine lv_aload_n hx hb dX5_entry_61 rfl (lv_at hl 3 rfl) ?_
    refine va_get (D := D) (ci := 4) (v := .ref (ad 8)) (C := RX5) (T := TX5) (N := 18) hx hb hts in_X5 hown hK hP 0 rfl rfl 8 (by decide) (hts _ q581) (fun _ h9 => h9) rfl dX5_entry_62 ?_
    refine lv_iconst (v := 0) hx hb dX5_entry_65 (by decide) ?_
    refine va_lald hx hb hK hP 2 2 rfl rfl (vin (by decide)) dX5_entry_66 ?_
    refine lv_topl (fun z_15 ez_15 => ?_)
    obtain rfl : z_15 = (rq g js).1 := ez_15.trans rfl
    refine lv_lmul hx hb dX5_entry_67 ?_
    refine lv_aload_n hx hb dX5_entry_68 rfl (lv_at hl 3 rfl) ?_
    refine va_get (D := D) (ci := 4) (v := .ref (ad 8)) (C := RX5) (T := TX5) (N := 18) hx hb hts in_X5 hown hK hP 0 rfl rfl 8 (by decide) (hts _ q581) (fun _ h9 => h9) rfl dX5_entry_69 ?_
    refine lv_iconst (v := 1) hx hb dX5_entry_72 (by decide) ?_
    refine va_lald hx hb hK hP 2 2 rfl rfl (vin (by decide)) dX5_entry_73 ?_
    refine lv_topl (fun z_16 ez_16 => ?_)
    obtain rfl : z_16 = (rq g js).2.1 := ez_16.trans rfl
    refine lv_aload_n hx hb dX5_entry_74 rfl (lv_at hl 3 rfl) ?_
    refine va_get (D := D) (ci := 4) (v := .ref (ad 8)) (C := RX5) (T := TX5) (N := 18) hx hb hts in_X5 hown hK hP 0 rfl rfl 8 (by decide) (hts _ q581) (fun _ h9 => h9) rfl dX5_entry_75 ?_
    refine lv_iconst (v := 1) hx hb dX5_entry_78 (by decide) ?_
    refine va_lald hx hb hK hP 2 2 rfl rfl (vin (by decide)) dX5_entry_79 ?_
    refine lv_topl (fun z_17 ez_17 => ?_)
    obtain rfl : z_17 = (rq g js).2.1 := ez_17.trans rfl
    refine lv_lmul hx hb dX5_entry_80 ?_
    refine lv_lsub hx hb dX5_entry_81 ?_
    refine lv_aload_n hx hb dX5_entry_82 rfl (lv_at hl 3 rfl) ?_
    refine va_get (D := D) (ci := 4) (v := .ref (ad 8)) (C := RX5) (T := TX5) (N := 18) hx hb hts in_X5 hown hK hP 0 rfl rfl 8 (by decide) (hts _ q581) (fun _ h9 => h9) rfl dX5_entry_83 ?_
    refine lv_iconst (v := 2) hx hb dX5_entry_86 (by decide) ?_
    refine va_lald hx hb hK hP 2 2 rfl rfl (vin (by decide)) dX5_entry_87 ?_
    refine lv_topl (fun z_18 ez_18 => ?_)
    obtain rfl : z_18 = (rq g js).2.2.1 := ez_18.trans rfl
    refine lv_aload_n hx hb dX5_entry_88 rfl (lv_at hl 3 rfl) ?_
    refine va_get (D := D) (ci := 4) (v := .ref (ad 8)) (C := RX5) (T := TX5) (N := 18) hx hb hts in_X5 hown hK hP 0 rfl rfl 8 (by decide) (hts _ q581) (fun _ h9 => h9) rfl dX5_entry_89 ?_
    refine lv_iconst (v := 2) hx hb dX5_entry_92 (by decide) ?_
    refine va_lald hx hb hK hP 2 2 rfl rfl (vin (by decide)) dX5_entry_93 ?_
    refine lv_topl (fun z_19 ez_19 => ?_)
    obtain rfl : z_19 = (rq g js).2.2.1 := ez_19.trans rfl
    refine lv_lmul hx hb dX5_entry_94 ?_
    refine lv_lsub hx hb dX5_entry_95 ?_
    refine lv_aload_n hx hb dX5_entry_96 rfl (lv_at hl 3 rfl) ?_
    refine va_get (D := D) (ci := 4) (v := .ref (ad 8)) (C := RX5) (T := TX5) (N := 18) hx hb hts in_X5 hown hK hP 0 rfl rfl 8 (by decide) (hts _ q581) (fun _ h9 => h9) rfl dX5_entry_97 ?_
    refine lv_iconst (v := 3) hx hb dX5_entry_100 (by decide) ?_
    refine va_lald hx hb hK hP 2 2 rfl rfl (vin (by decide)) dX5_entry_101 ?_
    refine lv_topl (fun z_20 ez_20 => ?_)
    obtain rfl : z_20 = (rq g js).2.2.2 := ez_20.trans rfl
    refine lv_aload_n hx hb dX5_entry_102 rfl (lv_at hl 3 rfl) ?_
    refine va_get (D := D) (ci := 4) (v := .ref (ad 8)) (C := RX5) (T := TX5) (N := 18) hx hb hts in_X5 hown hK hP 0 rfl rfl 8 (by decide) (hts _ q581) (fun _ h9 => h9) rfl dX5_entry_103 ?_
    refine lv_iconst (v := 3) hx hb dX5_entry_106 (by decide) ?_
    refine va_lald hx hb hK hP 2 2 rfl rfl (vin (by decide)) dX5_entry_107 ?_
    refine lv_topl (fun z_21 ez_21 => ?_)
    obtain rfl : z_21 = (rq g js).2.2.2 := ez_21.trans rfl
    refine lv_lmul hx hb dX5_entry_108 ?_
    refine lv_lsub hx hb dX5_entry_109 ?_
    refine lv_ldc2 hx hb hown (hts _ q639) dX5_entry_110 ?_
    refine lv_lload hx hb dX5_entry_113 (lv_at hl 1 rfl) ?_
    refine lv_lmul hx hb dX5_entry_115 ?_
    refine lv_lload hx hb dX5_entry_116 (lv_at hl 1 rfl) ?_
    refine lv_lmul hx hb dX5_entry_118 ?_
    refine lv_ladd hx hb dX5_entry_119 ?_
    refine lv_ldc2 hx hb hown (hts _ q701) dX5_entry_120 ?_
    refine lv_ldiv hx hb dX5_entry_123 (by decide) ?_
    exact k_lret (rq g js) hx hb hr hlocks (by simp [m_ent, c_4]) hP hD trivial hS (Nat.le_of_ble_eq_true rfl) (Nat.le_of_ble_eq_true rfl) dX5_entry_124
set_option maxHeartbeats 4000000 in
set_option maxRecDepth 100000 in
theorem ct_X5_turn {KN : State → Prop} (hk : KNok KN) (l : Launch) (D : va_G) (ca : Nat → ClassId) (zH : Nat) (o : Nat) (ad : Nat → Nat) (nf mo : Int32) (g : AI) (x : Q4) (s0 i0 j0 : Int32)  : Met l yX5_turn (ws_ yX5_turn cX5_turn 4 (some .int)) ({ frames := 2, cells := 0, slots := 0, locals := 56 }) (va_Pc [.ref o, .int s0, .int i0, .int j0] (pr_ KN D ca [(o, mO ad nf mo), (ad 3, aI ca 64 g), (ad 8, a4 ca x)] zH (fun _ => True))) (qI D (fun (r : Int32) (u : Q4) => r = m_turn g s0 i0 j0) (fun u => [(o, mO ad nf mo), (ad 3, aI ca 64 g), (ad 8, a4 ca u)]) (fun u H => True) (va_A [(o, mO ad nf mo), (ad 3, aI ca 64 g), (ad 8, a4 ca x)] zH)) 0 0 (va_A [(o, mO ad nf mo), (ad 3, aI ca 64 g), (ad 8, a4 ca x)] zH) := by
  refine k_ofW (Qc := qI D (fun (r : Int32) (u : Q4) => r = m_turn g s0 i0 j0) (fun u => [(o, mO ad nf mo), (ad 3, aI ca 64 g), (ad 8, a4 ca u)]) (fun u H => True)) (by decide) (Nat.le_of_ble_eq_true rfl) ?_
  intro p e s m below meth c ls A H hH hx hb hr hts hown hlocks hnm hml hsz hP hD hK hN hA hAn hS hro hl
  have hl : lv_has ls 4 [(0, .ref o), (1, .int s0), (2, .int i0), (3, .int j0)] := hl
  refine lv_iload_n hx hb dX5_turn_0 rfl (lv_at hl 1 rfl) ?_
  refine k_calli (wr := [(o, mO ad nf mo), (ad 3, aI ca 64 g), (ad 8, a4 ca x)]) (va_runS (As := [.int s0]) (rest := []) ⟨hx, hb, hml, hown, hts⟩ (ct_X5_isRegister hk l D ca H.size s0) (va_cwS 1 hts (lw_S q660 q661 q24 q662) rfl rfl rfl (by decide +kernel) ⟨Nat.le_of_ble_eq_true rfl, Nat.le_of_ble_eq_true rfl⟩) (k_pre hk hK hN hP hD [] (by decide) rfl trivial) rfl rfl hl.1 rfl (lv_room (Nat.le_of_ble_eq_true rfl)) dX5_turn_1 ⟨Nat.le_of_ble_eq_true rfl, Nat.le_of_ble_eq_true rfl⟩) hP hD hS hA [] [0, 1, 2] rfl rfl (by decide) (by decide) (fun r_1 u_2 H locs w_3 hP hD hxw_3 hzw_3 hqw_3 hS => ?_)
  obtain rfl : r_1 = bI (p_in s0.toInt64 0 15) := w_3
  refine lv_if_eq (tgt := 31) hx hb dX5_turn_4 (by decide) (fun c_4 => ?_) (fun c_4 => ?_)
  · have c_4 := bI_z0 c_4
    refine lv_ldc hx hb hown (hts _ q799) dX5_turn_31 ?_
    exact k_iret x hx hb hr hlocks (by simp [m_turn, c_4]) hP hD trivial hS (Nat.le_of_ble_eq_true rfl) (Nat.le_of_ble_eq_true rfl) dX5_turn_33
  · have c_4 := bI_z1 c_4
    obtain ⟨js0, hjs0, rfl⟩ := in_nI (n := 16) (by decide) c_4
    refine lv_iload_n hx hb dX5_turn_7 rfl (lv_at hl 2 rfl) ?_
    refine lv_i2l (v := i0.toInt64) hx hb dX5_turn_8 rfl ?_
    refine lv_lconst (v := 0) hx hb dX5_turn_9 (by decide) ?_
    refine lv_ldc2 hx hb hown (hts _ q639) dX5_turn_10 ?_
    refine k_calli (wr := [(o, mO ad nf mo), (ad 3, aI ca 64 g), (ad 8, a4 ca x)]) (va_runS (As := [.long i0.toInt64, .long 0, .long 2]) (rest := []) ⟨hx, hb, hml, hown, hts⟩ (ct_X5_in hk l D ca H.size i0.toInt64 0 2) (va_cwS 3 hts (lw_S q635 q636 q24 q637) rfl rfl rfl (by decide +kernel) ⟨Nat.le_of_ble_eq_true rfl, Nat.le_of_ble_eq_true rfl⟩) (k_pre hk hK hN hP hD [] (by decide) rfl trivial) rfl rfl hl.1 rfl (lv_room (Nat.le_of_ble_eq_true rfl)) dX5_turn_13 ⟨Nat.le_of_ble_eq_true rfl, Nat.le_of_ble_eq_true rfl⟩) hP hD hS hA [] [0, 1, 2] rfl rfl (by decide) (by decide) (fun r_5 u_6 H locs w_7 hP hD hxw_7 hzw_7 hqw_7 hS => ?_)
    obtain rfl : r_5 = bI (p_in i0.toInt64 0 2) := w_7
    refine lv_if_eq (tgt := 31) hx hb dX5_turn_16 (by decide) (fun c_8 => ?_) (fun c_8 => ?_)
    · have c_8 := bI_z0 c_8
      refine lv_ldc hx hb hown (hts _ q799) dX5_turn_31 ?_
      exact k_iret x hx hb hr hlocks (by simp [m_turn, c_4, c_8, nI_clamp (show js0 < 2 ^ 31 by omega)]) hP hD trivial hS (Nat.le_of_ble_eq_true rfl) (Nat.le_of_ble_eq_true rfl) dX5_turn_33
    · have c_8 := bI_z1 c_8
      obtain ⟨ji0, hji0, rfl⟩ := in_nI (n := 3) (by decide) c_8
      refine lv_iload_n hx hb dX5_turn_19 rfl (lv_at hl 3 rfl) ?_
      refine lv_i2l (v := j0.toInt64) hx hb dX5_turn_20 rfl ?_
      refine lv_lconst (v := 0) hx hb dX5_turn_21 (by decide) ?_
      refine lv_ldc2 hx hb hown (hts _ q639) dX5_turn_22 ?_
      refine k_calli (wr := [(o, mO ad nf mo), (ad 3, aI ca 64 g), (ad 8, a4 ca x)]) (va_runS (As := [.long j0.toInt64, .long 0, .long 2]) (rest := []) ⟨hx, hb, hml, hown, hts⟩ (ct_X5_in hk l D ca H.size j0.toInt64 0 2) (va_cwS 3 hts (lw_S q635 q636 q24 q637) rfl rfl rfl (by decide +kernel) ⟨Nat.le_of_ble_eq_true rfl, Nat.le_of_ble_eq_true rfl⟩) (k_pre hk hK hN hP hD [] (by decide) rfl trivial) rfl rfl hl.1 rfl (lv_room (Nat.le_of_ble_eq_true rfl)) dX5_turn_25 ⟨Nat.le_of_ble_eq_true rfl, Nat.le_of_ble_eq_true rfl⟩) hP hD hS hA [] [0, 1, 2] rfl rfl (by decide) (by decide) (fun r_9 u_10 H locs w_11 hP hD hxw_11 hzw_11 hqw_11 hS => ?_)
      obtain rfl : r_9 = bI (p_in j0.toInt64 0 2) := w_11
      refine lv_if_ne (tgt := 34) hx hb dX5_turn_28 (by decide) (fun c_12 => ?_) (fun c_12 => ?_)
      · have c_12 := bI_z1 c_12
        obtain ⟨jj0, hjj0, rfl⟩ := in_nI (n := 3) (by decide) c_12
        refine lv_aload_n hx hb dX5_turn_34 rfl (lv_at hl 0 rfl) ?_
        refine lv_aload_n hx hb dX5_turn_35 rfl (lv_at hl 0 rfl) ?_
        refine va_get (D := D) (ci := 4) (v := .ref (ad 8)) (C := RX5) (T := TX5) (N := 18) hx hb hts in_X5 hown hK hP 0 rfl rfl 8 (by decide) (hts _ q581) (fun _ h9 => h9) rfl dX5_turn_36 ?_
        refine lv_iload_n hx hb dX5_turn_39 rfl (lv_at hl 1 rfl) ?_
        refine k_callv (wr := []) (va_runV (As := [.ref (ad 8), .int (nI js0)]) (rest := []) ⟨hx, hb, hml, hown, hts⟩ (ct_X5_load hk l D ca H.size o ad nf mo (ad 8) g x js0 (by omega)) (cwV 2 hts (lw_V q694 q696 qs10 q24 q697) rfl rfl rfl (by decide +kernel) ⟨Nat.le_of_ble_eq_true rfl, Nat.le_of_ble_eq_true rfl⟩) (k_preV hk hK hN hP hD [0, 1, 2] (by decide) rfl trivial hP rfl (q0 := 0) rfl) rfl rfl hl.1 rfl (lv_room (Nat.le_of_ble_eq_true rfl)) dX5_turn_40 ⟨Nat.le_of_ble_eq_true rfl, Nat.le_of_ble_eq_true rfl⟩) hP hD hS hA [0, 1, 2] [] rfl rfl (by decide) (by decide) (fun u_14 H locs w_15 hP hD hxw_15 hzw_15 hqw_15 hS => ?_)
        have hP : va_P D vwCl [(o, mO ad nf mo), (ad 3, aI ca 64 g), (ad 8, a4 ca (rq g js0))] H := hP
        have hD : va_D A [(o, mO ad nf mo), (ad 3, aI ca 64 g), (ad 8, a4 ca (rq g js0))] := hD
        refine lv_aload_n hx hb dX5_turn_43 rfl (lv_at hl 0 rfl) ?_
        refine va_get (D := D) (ci := 4) (v := .ref (ad 8)) (C := RX5) (T := TX5) (N := 18) hx hb hts in_X5 hown hK hP 0 rfl rfl 8 (by decide) (hts _ q581) (fun _ h9 => h9) rfl dX5_turn_44 ?_
        refine k_calli (wr := [(o, mO ad nf mo), (ad 3, aI ca 64 g)]) (va_runS (As := [.ref (ad 8)]) (rest := []) ⟨hx, hb, hml, hown, hts⟩ (ct_X5_isNull hk l D ca H.size (ad 8) (rq g js0)) (va_cwS 1 hts (lw_S q706 q707 q24 q708) rfl rfl rfl (by decide +kernel) ⟨Nat.le_of_ble_eq_true rfl, Nat.le_of_ble_eq_true rfl⟩) (k_pre hk hK hN hP hD [2] (by decide) rfl trivial) rfl rfl hl.1 rfl (lv_room (Nat.le_of_ble_eq_true rfl)) dX5_turn_47 ⟨Nat.le_of_ble_eq_true rfl, Nat.le_of_ble_eq_true rfl⟩) hP hD hS hA [2] [0, 1] rfl rfl (by decide) (by decide) (fun r_16 u_17 H locs w_18 hP hD hxw_18 hzw_18 hqw_18 hS => ?_)
        have hP : va_P D vwCl [(o, mO ad nf mo), (ad 3, aI ca 64 g), (ad 8, a4 ca (rq g js0))] H := hP
        have hD : va_D A [(o, mO ad nf mo), (ad 3, aI ca 64 g), (ad 8, a4 ca (rq g js0))] := hD
        obtain rfl : r_16 = bI (q_null (rq g js0)) := w_18
        refine lv_if_eq (tgt := 58) hx hb dX5_turn_50 (by decide) (fun c_19 => ?_) (fun c_19 => ?_)
        · have c_19 := bI_z0 c_19
          refine lv_aload_n hx hb dX5_turn_58 rfl (lv_at hl 0 rfl) ?_
          refine lv_iload_n hx hb dX5_turn_59 rfl (lv_at hl 1 rfl) ?_
          refine lv_iload_n hx hb dX5_turn_60 rfl (lv_at hl 2 rfl) ?_
          refine lv_iload_n hx hb dX5_turn_61 rfl (lv_at hl 3 rfl) ?_
          refine k_calll (wr := []) (va_runV (As := [.int (nI js0), .int (nI ji0), .int (nI jj0)]) (rest := []) ⟨hx, hb, hml, hown, hts⟩ (ct_X5_entry hk l D ca H.size o ad nf mo g (rq g js0) js0 ji0 jj0 (by omega) (by omega) (by omega)) (cwV 3 hts (lw_V q801 q803 qs17 q24 q804) rfl rfl rfl (by decide +kernel) ⟨Nat.le_of_ble_eq_true rfl, Nat.le_of_ble_eq_true rfl⟩) (k_preV hk hK hN hP hD [0, 1, 2] (by decide) rfl trivial hP rfl (q0 := 0) rfl) rfl rfl hl.1 rfl (lv_room (Nat.le_of_ble_eq_true rfl)) dX5_turn_62 ⟨Nat.le_of_ble_eq_true rfl, Nat.le_of_ble_eq_true rfl⟩) hP hD hS hA [0, 1, 2] [] rfl rfl (by decide) (by decide) (fun r_20 u_21 H locs w_22 hP hD hxw_22 hzw_22 hqw_22 hS => ?_)
          have hP : va_P D vwCl [(o, mO ad nf mo), (ad 3, aI ca 64 g), (ad 8, a4 ca u_21)] H := hP
          have hD : va_D A [(o, mO ad nf mo), (ad 3, aI ca 64 g), (ad 8, a4 ca u_21)] := hD
          obtain rfl : r_20 = m_ent g js0 ji0 jj0 := w_22
          refine lv_l2i (v := (m_ent g js0 ji0 jj0).toInt32) hx hb dX5_turn_65 rfl ?_
          exact k_iret u_21 hx hb hr hlocks (by simp [m_turn, c_4, c_8, c_12, c_19, nI_clamp (show js0 < 2 ^ 31 by omega), nI_clamp (show ji0 < 2 ^ 31 by omega), nI_clamp (show jj0 < 2 ^ 31 by omega)]) hP hD trivial hS (Nat.le_of_ble_eq_true rfl) (Nat.le_of_ble_eq_true rfl) dX5_turn_66
        · have c_19 := bI_z1 c_19
          refine lv_ldc hx hb hown (hts _ q800) dX5_turn_53 ?_
          refine lv_goto (tgt := 66) hx hb dX5_turn_55 (by decide) ?_
          exact k_iret (rq g js0) hx hb hr hlocks (by simp [m_turn, c_4, c_8, c_12, c_19, nI_clamp (show js0 < 2 ^ 31 by omega), nI_clamp (show ji0 < 2 ^ 31 by omega), nI_clamp (show jj0 < 2 ^ 31 by omega)]) hP hD trivial hS (Nat.le_of_ble_eq_true rfl) (Nat.le_of_ble_eq_true rfl) dX5_turn_66
      · have c_12 := bI_z0 c_12
        refine lv_ldc hx hb hown (hts _ q799) dX5_turn_31 ?_
        exact k_iret x hx hb hr hlocks (by simp [m_turn, c_4, c_8, c_12, nI_clamp (show js0 < 2 ^ 31 by omega), nI_clamp (show ji0 < 2 ^ 31 by omega)]) hP hD trivial hS (Nat.le_of_ble_eq_true rfl) (Nat.le_of_ble_eq_true rfl) dX5_turn_33
set_option maxHeartbeats 4000000 in
set_option maxRecDepth 100000 in
theorem ct_X5_turned {KN : State → Prop} (hk : KNok KN) (l : Launch) (D : va_G) (ca : Nat → ClassId) (zH : Nat) (o : Nat) (ad : Nat → Nat) (nf mo : Int32) (g : AI) (x : Q4) (s0 u0 v0 t0 i0 : Int32)  : Met l yX5_turned (ws_ yX5_turned cX5_turned 6 (some .long)) ({ frames := 2, cells := 0, slots := 0, locals := 56 }) (va_Pc [.ref o, .int s0, .int u0, .int v0, .int t0, .int i0] (pr_ KN D ca [(o, mO ad nf mo), (ad 3, aI ca 64 g), (ad 8, a4 ca x)] zH (fun _ => True))) (qL D (fun (r : Int64) (u : Q4) => r = m_turned g s0 u0 v0 t0 i0) (fun u => [(o, mO ad nf mo), (ad 3, aI ca 64 g), (ad 8, a4 ca u)]) (fun u H => True) (va_A [(o, mO ad nf mo), (ad 3, aI ca 64 g), (ad 8, a4 ca x)] zH)) 0 0 (va_A [(o, mO ad nf mo), (ad 3, aI ca 64 g), (ad 8, a4 ca x)] zH) := by
  refine k_ofW (Qc := qL D (fun (r : Int64) (u : Q4) => r = m_turned g s0 u0 v0 t0 i0) (fun u => [(o, mO ad nf mo), (ad 3, aI ca 64 g), (ad 8, a4 ca u)]) (fun u H => True)) (by decide) (Nat.le_of_ble_eq_true rfl) ?_
  intro p e s m below meth c ls A H hH hx hb hr hts hown hlocks hnm hml hsz hP hD hK hN hA hAn hS hro hl
  have hl : lv_has ls 6 [(0, .ref o), (1, .int s0), (2, .int u0), (3, .int v0), (4, .int t0), (5, .int i0)] := hl
  refine lv_iload_n hx hb dX5_turned_0 rfl (lv_at hl 1 rfl) ?_
  refine k_calli (wr := [(o, mO ad nf mo), (ad 3, aI ca 64 g), (ad 8, a4 ca x)]) (va_runS (As := [.int s0]) (rest := []) ⟨hx, hb, hml, hown, hts⟩ (ct_X5_isRegister hk l D ca H.size s0) (va_cwS 1 hts (lw_S q660 q661 q24 q662) rfl rfl rfl (by decide +kernel) ⟨Nat.le_of_ble_eq_true rfl, Nat.le_of_ble_eq_true rfl⟩) (k_pre hk hK hN hP hD [] (by decide) rfl trivial) rfl rfl hl.1 rfl (lv_room (Nat.le_of_ble_eq_true rfl)) dX5_turned_1 ⟨Nat.le_of_ble_eq_true rfl, Nat.le_of_ble_eq_true rfl⟩) hP hD hS hA [] [0, 1, 2] rfl rfl (by decide) (by decide) (fun r_1 u_2 H locs w_3 hP hD hxw_3 hzw_3 hqw_3 hS => ?_)
  obtain rfl : r_1 = bI (p_in s0.toInt64 0 15) := w_3
  refine lv_if_eq (tgt := 63) hx hb dX5_turned_4 (by decide) (fun c_4 => ?_) (fun c_4 => ?_)
  · have c_4 := bI_z0 c_4
    refine lv_ldc2 hx hb hown (hts _ q638) dX5_turned_63 ?_
    exact k_lret x hx hb hr hlocks (by simp [m_turned, c_4]) hP hD trivial hS (Nat.le_of_ble_eq_true rfl) (Nat.le_of_ble_eq_true rfl) dX5_turned_66
  · have c_4 := bI_z1 c_4
    obtain ⟨js0, hjs0, rfl⟩ := in_nI (n := 16) (by decide) c_4
    refine lv_iload_n hx hb dX5_turned_7 rfl (lv_at hl 2 rfl) ?_
    refine lv_i2l (v := u0.toInt64) hx hb dX5_turned_8 rfl ?_
    refine lv_ldc2 hx hb hown (hts _ q809) dX5_turned_9 ?_
    refine lv_ldc2 hx hb hown (hts _ q810) dX5_turned_12 ?_
    refine k_calli (wr := [(o, mO ad nf mo), (ad 3, aI ca 64 g), (ad 8, a4 ca x)]) (va_runS (As := [.long u0.toInt64, .long (-100), .long 100]) (rest := []) ⟨hx, hb, hml, hown, hts⟩ (ct_X5_in hk l D ca H.size u0.toInt64 (-100) 100) (va_cwS 3 hts (lw_S q635 q636 q24 q637) rfl rfl rfl (by decide +kernel) ⟨Nat.le_of_ble_eq_true rfl, Nat.le_of_ble_eq_true rfl⟩) (k_pre hk hK hN hP hD [] (by decide) rfl trivial) rfl rfl hl.1 rfl (lv_room (Nat.le_of_ble_eq_true rfl)) dX5_turned_15 ⟨Nat.le_of_ble_eq_true rfl, Nat.le_of_ble_eq_true rfl⟩) hP hD hS hA [] [0, 1, 2] rfl rfl (by decide) (by decide) (fun r_5 u_6 H locs w_7 hP hD hxw_7 hzw_7 hqw_7 hS => ?_)
    obtain rfl : r_5 = bI (p_in u0.toInt64 (-100) 100) := w_7
    refine lv_if_eq (tgt := 63) hx hb dX5_turned_18 (by decide) (fun c_8 => ?_) (fun c_8 => ?_)
    · have c_8 := bI_z0 c_8
      refine lv_ldc2 hx hb hown (hts _ q638) dX5_turned_63 ?_
      exact k_lret x hx hb hr hlocks (by simp [m_turned, c_4, c_8, nI_clamp (show js0 < 2 ^ 31 by omega)]) hP hD trivial hS (Nat.le_of_ble_eq_true rfl) (Nat.le_of_ble_eq_true rfl) dX5_turned_66
    · have c_8 := bI_z1 c_8
      refine lv_iload_n hx hb dX5_turned_21 rfl (lv_at hl 3 rfl) ?_
      refine lv_i2l (v := v0.toInt64) hx hb dX5_turned_22 rfl ?_
      refine lv_ldc2 hx hb hown (hts _ q809) dX5_turned_23 ?_
      refine lv_ldc2 hx hb hown (hts _ q810) dX5_turned_26 ?_
      refine k_calli (wr := [(o, mO ad nf mo), (ad 3, aI ca 64 g), (ad 8, a4 ca x)]) (va_runS (As := [.long v0.toInt64, .long (-100), .long 100]) (rest := []) ⟨hx, hb, hml, hown, hts⟩ (ct_X5_in hk l D ca H.size v0.toInt64 (-100) 100) (va_cwS 3 hts (lw_S q635 q636 q24 q637) rfl rfl rfl (by decide +kernel) ⟨Nat.le_of_ble_eq_true rfl, Nat.le_of_ble_eq_true rfl⟩) (k_pre hk hK hN hP hD [] (by decide) rfl trivial) rfl rfl hl.1 rfl (lv_room (Nat.le_of_ble_eq_true rfl)) dX5_turned_29 ⟨Nat.le_of_ble_eq_true rfl, Nat.le_of_ble_eq_true rfl⟩) hP hD hS hA [] [0, 1, 2] rfl rfl (by decide) (by decide) (fun r_9 u_10 H locs w_11 hP hD hxw_11 hzw_11 hqw_11 hS => ?_)
      obtain rfl : r_9 = bI (p_in v0.toInt64 (-100) 100) := w_11
      refine lv_if_eq (tgt := 63) hx hb dX5_turned_32 (by decide) (fun c_12 => ?_) (fun c_12 => ?_)
      · have c_12 := bI_z0 c_12
        refine lv_ldc2 hx hb hown (hts _ q638) dX5_turned_63 ?_
        exact k_lret x hx hb hr hlocks (by simp [m_turned, c_4, c_8, c_12, nI_clamp (show js0 < 2 ^ 31 by omega)]) hP hD trivial hS (Nat.le_of_ble_eq_true rfl) (Nat.le_of_ble_eq_true rfl) dX5_turned_66
      · have c_12 := bI_z1 c_12
        refine lv_iload hx hb dX5_turned_35 (lv_at hl 4 rfl) ?_
        refine lv_i2l (v := t0.toInt64) hx hb dX5_turned_37 rfl ?_
        refine lv_ldc2 hx hb hown (hts _ q809) dX5_turned_38 ?_
        refine lv_ldc2 hx hb hown (hts _ q810) dX5_turned_41 ?_
        refine k_calli (wr := [(o, mO ad nf mo), (ad 3, aI ca 64 g), (ad 8, a4 ca x)]) (va_runS (As := [.long t0.toInt64, .long (-100), .long 100]) (rest := []) ⟨hx, hb, hml, hown, hts⟩ (ct_X5_in hk l D ca H.size t0.toInt64 (-100) 100) (va_cwS 3 hts (lw_S q635 q636 q24 q637) rfl rfl rfl (by decide +kernel) ⟨Nat.le_of_ble_eq_true rfl, Nat.le_of_ble_eq_true rfl⟩) (k_pre hk hK hN hP hD [] (by decide) rfl trivial) rfl rfl hl.1 rfl (lv_room (Nat.le_of_ble_eq_true rfl)) dX5_turned_44 ⟨Nat.le_of_ble_eq_true rfl, Nat.le_of_ble_eq_true rfl⟩) hP hD hS hA [] [0, 1, 2] rfl rfl (by decide) (by decide) (fun r_13 u_14 H locs w_15 hP hD hxw_15 hzw_15 hqw_15 hS => ?_)
        obtain rfl : r_13 = bI (p_in t0.toInt64 (-100) 100) := w_15
        refine lv_if_eq (tgt := 63) hx hb dX5_turned_47 (by decide) (fun c_16 => ?_) (fun c_16 => ?_)
        · have c_16 := bI_z0 c_16
          refine lv_ldc2 hx hb hown (hts _ q638) dX5_turned_63 ?_
          exact k_lret x hx hb hr hlocks (by simp [m_turned, c_4, c_8, c_12, c_16, nI_clamp (show js0 < 2 ^ 31 by omega)]) hP hD trivial hS (Nat.le_of_ble_eq_true rfl) (Nat.le_of_ble_eq_true rfl) dX5_turned_66
        · have c_16 := bI_z1 c_16
          refine lv_iload hx hb dX5_turned_50 (lv_at hl 5 rfl) ?_
          refine lv_i2l (v := i0.toInt64) hx hb dX5_turned_52 rfl ?_
          refine lv_lconst (v := 0) hx hb dX5_turned_53 (by decide) ?_
          refine lv_ldc2 hx hb hown (hts _ q639) dX5_turned_54 ?_
          refine k_calli (wr := [(o, mO ad nf mo), (ad 3, aI ca 64 g), (ad 8, a4 ca x)]) (va_runS (As := [.long i0.toInt64, .long 0, .long 2]) (rest := []) ⟨hx, hb, hml, hown, hts⟩ (ct_X5_in hk l D ca H.size i0.toInt64 0 2) (va_cwS 3 hts (lw_S q635 q636 q24 q637) rfl rfl rfl (by decide +kernel) ⟨Nat.le_of_ble_eq_true rfl, Nat.le_of_ble_eq_true rfl⟩) (k_pre hk hK hN hP hD [] (by decide) rfl trivial) rfl rfl hl.1 rfl (lv_room (Nat.le_of_ble_eq_true rfl)) dX5_turned_57 ⟨Nat.le_of_ble_eq_true rfl, Nat.le_of_ble_eq_true rfl⟩) hP hD hS hA [] [0, 1, 2] rfl rfl (by decide) (by decide) (fun r_17 u_18 H locs w_19 hP hD hxw_19 hzw_19 hqw_19 hS => ?_)
          obtain rfl : r_17 = bI (p_in i0.toInt64 0 2) := w_19
          refine lv_if_ne (tgt := 67) hx hb dX5_turned_60 (by decide) (fun c_20 => ?_) (fun c_20 => ?_)
          · have c_20 := bI_z1 c_20
            obtain ⟨ji0, hji0, rfl⟩ := in_nI (n := 3) (by decide) c_20
            refine lv_aload_n hx hb dX5_turned_67 rfl (lv_at hl 0 rfl) ?_
            refine lv_iload_n hx hb dX5_turned_68 rfl (lv_at hl 1 rfl) ?_
            refine lv_iload hx hb dX5_turned_69 (lv_at hl 5 rfl) ?_
            refine lv_iconst (v := 0) hx hb dX5_turned_71 (by decide) ?_
            refine k_calll (wr := []) (va_runV (As := [.int (nI js0), .int (nI ji0), .int 0]) (rest := []) ⟨hx, hb, hml, hown, hts⟩ (ct_X5_entry hk l D ca H.size o ad nf mo g x js0 ji0 0 (by omega) (by omega) (by omega)) (cwV 3 hts (lw_V q801 q803 qs17 q24 q804) rfl rfl rfl (by decide +kernel) ⟨Nat.le_of_ble_eq_true rfl, Nat.le_of_ble_eq_true rfl⟩) (k_preV hk hK hN hP hD [0, 1, 2] (by decide) rfl trivial hP rfl (q0 := 0) rfl) rfl rfl hl.1 rfl (lv_room (Nat.le_of_ble_eq_true rfl)) dX5_turned_72 ⟨Nat.le_of_ble_eq_true rfl, Nat.le_of_ble_eq_true rfl⟩) hP hD hS hA [0, 1, 2] [] rfl rfl (by decide) (by decide) (fun r_21 u_22 H locs w_23 hP hD hxw_23 hzw_23 hqw_23 hS => ?_)
            have hP : va_P D vwCl [(o, mO ad nf mo), (ad 3, aI ca 64 g), (ad 8, a4 ca u_22)] H := hP
            have hD : va_D A [(o, mO ad nf mo), (ad 3, aI ca 64 g), (ad 8, a4 ca u_22)] := hD
            obtain rfl : r_21 = m_ent g js0 ji0 0 := w_23
            refine lv_iload_n hx hb dX5_turned_75 rfl (lv_at hl 2 rfl) ?_
            refine lv_i2l (v := u0.toInt64) hx hb dX5_turned_76 rfl ?_
            refine lv_lmul hx hb dX5_turned_77 ?_
            refine lv_aload_n hx hb dX5_turned_78 rfl (lv_at hl 0 rfl) ?_
            refine lv_iload_n hx hb dX5_turned_79 rfl (lv_at hl 1 rfl) ?_
            refine lv_iload hx hb dX5_turned_80 (lv_at hl 5 rfl) ?_
            refine lv_iconst (v := 1) hx hb dX5_turned_82 (by decide) ?_
            refine k_calll (wr := []) (va_runV (As := [.int (nI js0), .int (nI ji0), .int 1]) (rest := [.long ((m_ent g js0 ji0 0) * u0.toInt64)]) ⟨hx, hb, hml, hown, hts⟩ (ct_X5_entry hk l D ca H.size o ad nf mo g u_22 js0 ji0 1 (by omega) (by omega) (by omega)) (cwV 3 hts (lw_V q801 q803 qs17 q24 q804) rfl rfl rfl (by decide +kernel) ⟨Nat.le_of_ble_eq_true rfl, Nat.le_of_ble_eq_true rfl⟩) (k_preV hk hK hN hP hD [0, 1, 2] (by decide) rfl trivial hP rfl (q0 := 0) rfl) rfl rfl hl.1 rfl (lv_room (Nat.le_of_ble_eq_true rfl)) dX5_turned_83 ⟨Nat.le_of_ble_eq_true rfl, Nat.le_of_ble_eq_true rfl⟩) hP hD hS hA [0, 1, 2] [] rfl rfl (by decide) (by decide) (fun r_24 u_25 H locs w_26 hP hD hxw_26 hzw_26 hqw_26 hS => ?_)
            have hP : va_P D vwCl [(o, mO ad nf mo), (ad 3, aI ca 64 g), (ad 8, a4 ca u_25)] H := hP
            have hD : va_D A [(o, mO ad nf mo), (ad 3, aI ca 64 g), (ad 8, a4 ca u_25)] := hD
            obtain rfl : r_24 = m_ent g js0 ji0 1 := w_26
            refine lv_iload_n hx hb dX5_turned_86 rfl (lv_at hl 3 rfl) ?_
            refine lv_i2l (v := v0.toInt64) hx hb dX5_turned_87 rfl ?_
            refine lv_lmul hx hb dX5_turned_88 ?_
            refine lv_ladd hx hb dX5_turned_89 ?_
            refine lv_aload_n hx hb dX5_turned_90 rfl (lv_at hl 0 rfl) ?_
            refine lv_iload_n hx hb dX5_turned_91 rfl (lv_at hl 1 rfl) ?_
            refine lv_iload hx hb dX5_turned_92 (lv_at hl 5 rfl) ?_
            refine lv_iconst (v := 2) hx hb dX5_turned_94 (by decide) ?_
            refine k_calll (wr := []) (va_runV (As := [.int (nI js0), .int (nI ji0), .int 2]) (rest := [.long (((m_ent g js0 ji0 0) * u0.toInt64) + ((m_ent g js0 ji0 1) * v0.toInt64))]) ⟨hx, hb, hml, hown, hts⟩ (ct_X5_entry hk l D ca H.size o ad nf mo g u_25 js0 ji0 2 (by omega) (by omega) (by omega)) (cwV 3 hts (lw_V q801 q803 qs17 q24 q804) rfl rfl rfl (by decide +kernel) ⟨Nat.le_of_ble_eq_true rfl, Nat.le_of_ble_eq_true rfl⟩) (k_preV hk hK hN hP hD [0, 1, 2] (by decide) rfl trivial hP rfl (q0 := 0) rfl) rfl rfl hl.1 rfl (lv_room (Nat.le_of_ble_eq_true rfl)) dX5_turned_95 ⟨Nat.le_of_ble_eq_true rfl, Nat.le_of_ble_eq_true rfl⟩) hP hD hS hA [0, 1, 2] [] rfl rfl (by decide) (by decide) (fun r_27 u_28 H locs w_29 hP hD hxw_29 hzw_29 hqw_29 hS => ?_)
            have hP : va_P D vwCl [(o, mO ad nf mo), (ad 3, aI ca 64 g), (ad 8, a4 ca u_28)] H := hP
            have hD : va_D A [(o, mO ad nf mo), (ad 3, aI ca 64 g), (ad 8, a4 ca u_28)] := hD
            obtain rfl : r_27 = m_ent g js0 ji0 2 := w_29
            refine lv_iload hx hb dX5_turned_98 (lv_at hl 4 rfl) ?_
            refine lv_i2l (v := t0.toInt64) hx hb dX5_turned_100 rfl ?_
            refine lv_lmul hx hb dX5_turned_101 ?_
            refine lv_ladd hx hb dX5_turned_102 ?_
            exact k_lret u_28 hx hb hr hlocks (by simp [m_turned, c_4, c_8, c_12, c_16, c_20, nI_clamp (show js0 < 2 ^ 31 by omega), nI_clamp (show ji0 < 2 ^ 31 by omega)]) hP hD trivial hS (Nat.le_of_ble_eq_true rfl) (Nat.le_of_ble_eq_true rfl) dX5_turned_103
          · have c_20 := bI_z0 c_20
            refine lv_ldc2 hx hb hown (hts _ q638) dX5_turned_63 ?_
            exact k_lret x hx hb hr hlocks (by simp [m_turned, c_4, c_8, c_12, c_16, c_20, nI_clamp (show js0 < 2 ^ 31 by omega)]) hP hD trivial hS (Nat.le_of_ble_eq_true rfl) (Nat.le_of_ble_eq_true rfl) dX5_turned_66
set_option maxHeartbeats 4000000 in
set_option maxRecDepth 100000 in
theorem ct_X5_part {KN : State → Prop} (hk : KNok KN) (l : Launch) (D : va_G) (ca : Nat → ClassId) (zH : Nat) (o : Nat) (ad : Nat → Nat) (nf mo : Int32) (g un : AI) (x : Q4) (s0 w0 : Int32) (hB : ∀ j, j < 16 → q_bd (2 ^ 30) (rq g j)) : Met l yX5_part (ws_ yX5_part cX5_part 3 (some .int)) ({ frames := 2, cells := 0, slots := 0, locals := 53 }) (va_Pc [.ref o, .int s0, .int w0] (pr_ KN D ca [(o, mO ad nf mo), (ad 3, aI ca 64 g), (ad 4, aI ca 96 un), (ad 8, a4 ca x)] zH (fun _ => True))) (qI D (fun (r : Int32) (u : Q4) => r = m_part g un s0 w0) (fun u => [(o, mO ad nf mo), (ad 3, aI ca 64 g), (ad 4, aI ca 96 un), (ad 8, a4 ca u)]) (fun u H => True) (va_A [(o, mO ad nf mo), (ad 3, aI ca 64 g), (ad 4, aI ca 96 un), (ad 8, a4 ca x)] zH)) 0 0 (va_A [(o, mO ad nf mo), (ad 3, aI ca 64 g), (ad 4, aI ca 96 un), (ad 8, a4 ca x)] zH) := by
  refine k_ofW (Qc := qI D (fun (r : Int32) (u : Q4) => r = m_part g un s0 w0) (fun u => [(o, mO ad nf mo), (ad 3, aI ca 64 g), (ad 4, aI ca 96 un), (ad 8, a4 ca u)]) (fun u H => True)) (by decide) (Nat.le_of_ble_eq_true rfl) ?_
  intro p e s m below meth c ls A H hH hx hb hr hts hown hlocks hnm hml hsz hP hD hK hN hA hAn hS hro hl
  have hl : lv_has ls 3 [(0, .ref o), (1, .int s0), (2, .int w0)] := hl
  refine lv_iload_n hx hb dX5_part_0 rfl (lv_at hl 1 rfl) ?_
  refine k_calli (wr := [(o, mO ad nf mo), (ad 3, aI ca 64 g), (ad 4, aI ca 96 un), (ad 8, a4 ca x)]) (va_runS (As := [.int s0]) (rest := []) ⟨hx, hb, hml, hown, hts⟩ (ct_X5_isRegister hk l D ca H.size s0) (va_cwS 1 hts (lw_S q660 q661 q24 q662) rfl rfl rfl (by decide +kernel) ⟨Nat.le_of_ble_eq_true rfl, Nat.le_of_ble_eq_true rfl⟩) (k_pre hk hK hN hP hD [] (by decide) rfl trivial) rfl rfl hl.1 rfl (lv_room (Nat.le_of_ble_eq_true rfl)) dX5_part_1 ⟨Nat.le_of_ble_eq_true rfl, Nat.le_of_ble_eq_true rfl⟩) hP hD hS hA [] [0, 1, 2, 3] rfl rfl (by decide) (by decide) (fun r_1 u_2 H locs w_3 hP hD hxw_3 hzw_3 hqw_3 hS => ?_)
  obtain rfl : r_1 = bI (p_in s0.toInt64 0 15) := w_3
  refine lv_if_eq (tgt := 19) hx hb dX5_part_4 (by decide) (fun c_4 => ?_) (fun c_4 => ?_)
  · have c_4 := bI_z0 c_4
    refine lv_ldc hx hb hown (hts _ q693) dX5_part_19 ?_
    exact k_iret x hx hb hr hlocks (by simp [m_part, c_4]) hP hD trivial hS (Nat.le_of_ble_eq_true rfl) (Nat.le_of_ble_eq_true rfl) dX5_part_21
  · have c_4 := bI_z1 c_4
    obtain ⟨js0, hjs0, rfl⟩ := in_nI (n := 16) (by decide) c_4
    refine lv_iload_n hx hb dX5_part_7 rfl (lv_at hl 2 rfl) ?_
    refine lv_i2l (v := w0.toInt64) hx hb dX5_part_8 rfl ?_
    refine lv_lconst (v := 0) hx hb dX5_part_9 (by decide) ?_
    refine lv_ldc2 hx hb hown (hts _ q692) dX5_part_10 ?_
    refine k_calli (wr := [(o, mO ad nf mo), (ad 3, aI ca 64 g), (ad 4, aI ca 96 un), (ad 8, a4 ca x)]) (va_runS (As := [.long w0.toInt64, .long 0, .long 6]) (rest := []) ⟨hx, hb, hml, hown, hts⟩ (ct_X5_in hk l D ca H.size w0.toInt64 0 6) (va_cwS 3 hts (lw_S q635 q636 q24 q637) rfl rfl rfl (by decide +kernel) ⟨Nat.le_of_ble_eq_true rfl, Nat.le_of_ble_eq_true rfl⟩) (k_pre hk hK hN hP hD [] (by decide) rfl trivial) rfl rfl hl.1 rfl (lv_room (Nat.le_of_ble_eq_true rfl)) dX5_part_13 ⟨Nat.le_of_ble_eq_true rfl, Nat.le_of_ble_eq_true rfl⟩) hP hD hS hA [] [0, 1, 2, 3] rfl rfl (by decide) (by decide) (fun r_5 u_6 H locs w_7 hP hD hxw_7 hzw_7 hqw_7 hS => ?_)
    obtain rfl : r_5 = bI (p_in w0.toInt64 0 6) := w_7
    refine lv_if_ne (tgt := 22) hx hb dX5_part_16 (by decide) (fun c_8 => ?_) (fun c_8 => ?_)
    · have c_8 := bI_z1 c_8
      obtain ⟨jw0, hjw0, rfl⟩ := in_nI (n := 7) (by decide) c_8
      refine lv_iload_n hx hb dX5_part_22 rfl (lv_at hl 2 rfl) ?_
      refine lv_iconst (v := 4) hx hb dX5_part_23 (by decide) ?_
      refine lv_icmp_ge (tgt := 38) hx hb dX5_part_24 (by decide) (fun c_9 => ?_) (fun c_9 => ?_)
      · have c_9 := le_y (a := 4) (b := jw0) rfl rfl (by omega) (by omega) c_9
        refine lv_aload_n hx hb dX5_part_38 rfl (lv_at hl 0 rfl) ?_
        refine lv_aload_n hx hb dX5_part_39 rfl (lv_at hl 0 rfl) ?_
        refine va_get (D := D) (ci := 4) (v := .ref (ad 8)) (C := RX5) (T := TX5) (N := 18) hx hb hts in_X5 hown hK hP 0 rfl rfl 8 (by decide) (hts _ q581) (fun _ h9 => h9) rfl dX5_part_40 ?_
        refine lv_iload_n hx hb dX5_part_43 rfl (lv_at hl 1 rfl) ?_
        refine k_callv (wr := [(ad 4, aI ca 96 un)]) (va_runV (As := [.ref (ad 8), .int (nI js0)]) (rest := []) ⟨hx, hb, hml, hown, hts⟩ (ct_X5_load hk l D ca H.size o ad nf mo (ad 8) g x js0 (by omega)) (cwV 2 hts (lw_V q694 q696 qs10 q24 q697) rfl rfl rfl (by decide +kernel) ⟨Nat.le_of_ble_eq_true rfl, Nat.le_of_ble_eq_true rfl⟩) (k_preV hk hK hN hP hD [0, 1, 3] (by decide) rfl trivial hP rfl (q0 := 0) rfl) rfl rfl hl.1 rfl (lv_room (Nat.le_of_ble_eq_true rfl)) dX5_part_44 ⟨Nat.le_of_ble_eq_true rfl, Nat.le_of_ble_eq_true rfl⟩) hP hD hS hA [0, 1, 3] [2] rfl rfl (by decide) (by decide) (fun u_11 H locs w_12 hP hD hxw_12 hzw_12 hqw_12 hS => ?_)
        have hP : va_P D vwCl [(ad 4, aI ca 96 un), (o, mO ad nf mo), (ad 3, aI ca 64 g), (ad 8, a4 ca (rq g js0))] H := hP
        have hD : va_D A [(ad 4, aI ca 96 un), (o, mO ad nf mo), (ad 3, aI ca 64 g), (ad 8, a4 ca (rq g js0))] := hD
        refine lv_iload_n hx hb dX5_part_47 rfl (lv_at hl 2 rfl) ?_
        refine lv_iconst (v := 4) hx hb dX5_part_48 (by decide) ?_
        refine lv_icmp_ne (tgt := 63) hx hb dX5_part_49 (by decide) (fun c_13 => ?_) (fun c_13 => ?_)
        · have c_13 := eq_no (a := jw0) (b := 4) rfl rfl (by omega) (by omega) c_13
          refine lv_iload_n hx hb dX5_part_63 rfl (lv_at hl 2 rfl) ?_
          refine lv_iconst (v := 5) hx hb dX5_part_64 (by decide) ?_
          refine lv_icmp_ne (tgt := 87) hx hb dX5_part_65 (by decide) (fun c_14 => ?_) (fun c_14 => ?_)
          · have c_14 := eq_no (a := jw0) (b := 5) rfl rfl (by omega) (by omega) c_14
            refine lv_aload_n hx hb dX5_part_87 rfl (lv_at hl 0 rfl) ?_
            refine lv_aload_n hx hb dX5_part_88 rfl (lv_at hl 0 rfl) ?_
            refine va_get (D := D) (ci := 4) (v := .ref (ad 8)) (C := RX5) (T := TX5) (N := 18) hx hb hts in_X5 hown hK hP 1 rfl rfl 8 (by decide) (hts _ q581) (fun _ h9 => h9) rfl dX5_part_89 ?_
            refine k_calli (wr := [(ad 3, aI ca 64 g)]) (va_runV (As := [.ref (ad 8)]) (rest := []) ⟨hx, hb, hml, hown, hts⟩ (ct_X5_unitOf hk l D ca H.size o ad nf mo (ad 8) un (rq g js0)) (cwV 1 hts (lw_V q712 q714 qs12 q24 q715) rfl rfl rfl (by decide +kernel) ⟨Nat.le_of_ble_eq_true rfl, Nat.le_of_ble_eq_true rfl⟩) (k_preV hk hK hN hP hD [1, 0, 3] (by decide) rfl trivial hP rfl (q0 := 1) rfl) rfl rfl hl.1 rfl (lv_room (Nat.le_of_ble_eq_true rfl)) dX5_part_92 ⟨Nat.le_of_ble_eq_true rfl, Nat.le_of_ble_eq_true rfl⟩) hP hD hS hA [1, 0, 3] [2] rfl rfl (by decide) (by decide) (fun r_15 u_16 H locs w_17 hP hD hxw_17 hzw_17 hqw_17 hS => ?_)
            have hP : va_P D vwCl [(ad 3, aI ca 64 g), (o, mO ad nf mo), (ad 4, aI ca 96 un), (ad 8, a4 ca (rq g js0))] H := hP
            have hD : va_D A [(ad 3, aI ca 64 g), (o, mO ad nf mo), (ad 4, aI ca 96 un), (ad 8, a4 ca (rq g js0))] := hD
            obtain rfl : r_15 = oI (fstF (fun k => q_same (rq g js0) (rq un k)) 0 24) := w_17
            exact k_iret (rq g js0) hx hb hr hlocks (by simp [m_part, c_4, c_8, nI_clamp (show js0 < 2 ^ 31 by omega), nI_clamp (show jw0 < 2 ^ 31 by omega), show ¬ jw0 < 4 from by omega, show ¬ jw0 = 4 from by omega, show ¬ jw0 = 5 from by omega]) (hP.sub [1, 0, 2, 3] rfl) (hD.sub [1, 0, 2, 3] (by decide) rfl) trivial hS (Nat.le_of_ble_eq_true rfl) (Nat.le_of_ble_eq_true rfl) dX5_part_95
          · have c_14 := eq_y (a := jw0) (b := 5) rfl rfl (by omega) (by omega) c_14
            refine lv_aload_n hx hb dX5_part_68 rfl (lv_at hl 0 rfl) ?_
            refine lv_aload_n hx hb dX5_part_69 rfl (lv_at hl 0 rfl) ?_
            refine va_get (D := D) (ci := 4) (v := .ref (ad 8)) (C := RX5) (T := TX5) (N := 18) hx hb hts in_X5 hown hK hP 1 rfl rfl 8 (by decide) (hts _ q581) (fun _ h9 => h9) rfl dX5_part_70 ?_
            refine k_calli (wr := [(ad 4, aI ca 96 un), (ad 3, aI ca 64 g)]) (va_runV (As := [.ref (ad 8)]) (rest := []) ⟨hx, hb, hml, hown, hts⟩ (ct_X5_isPrimitive hk l D ca H.size o ad nf mo (ad 8) (rq g js0) (hB js0 hjs0)) (cwV 1 hts (lw_V q702 q704 qs11 q24 q705) rfl rfl rfl (by decide +kernel) ⟨Nat.le_of_ble_eq_true rfl, Nat.le_of_ble_eq_true rfl⟩) (k_preV hk hK hN hP hD [1, 3] (by decide) rfl trivial hP rfl (q0 := 1) rfl) rfl rfl hl.1 rfl (lv_room (Nat.le_of_ble_eq_true rfl)) dX5_part_73 ⟨Nat.le_of_ble_eq_true rfl, Nat.le_of_ble_eq_true rfl⟩) hP hD hS hA [1, 3] [0, 2] rfl rfl (by decide) (by decide) (fun r_18 u_19 H locs w_20 hP hD hxw_20 hzw_20 hqw_20 hS => ?_)
            have hP : va_P D vwCl [(ad 4, aI ca 96 un), (ad 3, aI ca 64 g), (o, mO ad nf mo), (ad 8, a4 ca (rq g js0))] H := hP
            have hD : va_D A [(ad 4, aI ca 96 un), (ad 3, aI ca 64 g), (o, mO ad nf mo), (ad 8, a4 ca (rq g js0))] := hD
            obtain ⟨hrr_18, hur_18⟩ := w_20
            subst hrr_18
            refine lv_if_eq (tgt := 83) hx hb dX5_part_76 (by decide) (fun c_21 => ?_) (fun c_21 => ?_)
            · have c_21 := bI_z0 c_21
              refine lv_iconst (v := 0) hx hb dX5_part_83 (by decide) ?_
              refine lv_goto (tgt := 95) hx hb dX5_part_84 (by decide) ?_
              exact k_iret (rq g js0) hx hb hr hlocks (by simp [m_part, c_4, c_8, nI_clamp (show js0 < 2 ^ 31 by omega), nI_clamp (show jw0 < 2 ^ 31 by omega), show ¬ jw0 < 4 from by omega, show ¬ jw0 = 4 from by omega, show (jw0 = 5) ↔ True from ⟨fun _ => trivial, fun _ => c_14⟩, pI_f (fun z => absurd ((hur_18.mpr z).symm.trans c_21) (by decide))]) (hP.sub [2, 1, 0, 3] rfl) (hD.sub [2, 1, 0, 3] (by decide) rfl) trivial hS (Nat.le_of_ble_eq_true rfl) (Nat.le_of_ble_eq_true rfl) dX5_part_95
            · have c_21 := bI_z1 c_21
              refine lv_iconst (v := 1) hx hb dX5_part_79 (by decide) ?_
              refine lv_goto (tgt := 95) hx hb dX5_part_80 (by decide) ?_
              exact k_iret (rq g js0) hx hb hr hlocks (by simp [m_part, c_4, c_8, nI_clamp (show js0 < 2 ^ 31 by omega), nI_clamp (show jw0 < 2 ^ 31 by omega), show ¬ jw0 < 4 from by omega, show ¬ jw0 = 4 from by omega, show (jw0 = 5) ↔ True from ⟨fun _ => trivial, fun _ => c_14⟩, pI_t (hur_18.mp c_21)]) (hP.sub [2, 1, 0, 3] rfl) (hD.sub [2, 1, 0, 3] (by decide) rfl) trivial hS (Nat.le_of_ble_eq_true rfl) (Nat.le_of_ble_eq_true rfl) dX5_part_95
        · have c_13 := eq_y (a := jw0) (b := 4) rfl rfl (by omega) (by omega) c_13
          refine lv_aload_n hx hb dX5_part_52 rfl (lv_at hl 0 rfl) ?_
          refine va_get (D := D) (ci := 4) (v := .ref (ad 8)) (C := RX5) (T := TX5) (N := 18) hx hb hts in_X5 hown hK hP 1 rfl rfl 8 (by decide) (hts _ q581) (fun _ h9 => h9) rfl dX5_part_53 ?_
          refine k_calll (wr := [(ad 4, aI ca 96 un), (o, mO ad nf mo), (ad 3, aI ca 64 g)]) (va_runS (As := [.ref (ad 8)]) (rest := []) ⟨hx, hb, hml, hown, hts⟩ (ct_X5_norm hk l D ca H.size (ad 8) (rq g js0)) (va_cwS 1 hts (lw_S q698 q699 q24 q700) rfl rfl rfl (by decide +kernel) ⟨Nat.le_of_ble_eq_true rfl, Nat.le_of_ble_eq_true rfl⟩) (k_pre hk hK hN hP hD [3] (by decide) rfl trivial) rfl rfl hl.1 rfl (lv_room (Nat.le_of_ble_eq_true rfl)) dX5_part_56 ⟨Nat.le_of_ble_eq_true rfl, Nat.le_of_ble_eq_true rfl⟩) hP hD hS hA [3] [0, 1, 2] rfl rfl (by decide) (by decide) (fun r_22 u_23 H locs w_24 hP hD hxw_24 hzw_24 hqw_24 hS => ?_)
          have hP : va_P D vwCl [(ad 4, aI ca 96 un), (o, mO ad nf mo), (ad 3, aI ca 64 g), (ad 8, a4 ca (rq g js0))] H := hP
          have hD : va_D A [(ad 4, aI ca 96 un), (o, mO ad nf mo), (ad 3, aI ca 64 g), (ad 8, a4 ca (rq g js0))] := hD
          obtain rfl : r_22 = q_norm (rq g js0) := w_24
          refine lv_l2i (v := (q_norm (rq g js0)).toInt32) hx hb dX5_part_59 rfl ?_
          refine lv_goto (tgt := 95) hx hb dX5_part_60 (by decide) ?_
          exact k_iret (rq g js0) hx hb hr hlocks (by simp [m_part, c_4, c_8, nI_clamp (show js0 < 2 ^ 31 by omega), nI_clamp (show jw0 < 2 ^ 31 by omega), show ¬ jw0 < 4 from by omega, show (jw0 = 4) ↔ True from ⟨fun _ => trivial, fun _ => c_13⟩]) (hP.sub [1, 2, 0, 3] rfl) (hD.sub [1, 2, 0, 3] (by decide) rfl) trivial hS (Nat.le_of_ble_eq_true rfl) (Nat.le_of_ble_eq_true rfl) dX5_part_95
      · have c_9 := le_no (a := 4) (b := jw0) rfl rfl (by omega) (by omega) c_9
        refine lv_aload_n hx hb dX5_part_27 rfl (lv_at hl 0 rfl) ?_
        refine va_get (D := D) (ci := 4) (v := .ref (ad 3)) (C := RX5) (T := TX5) (N := 18) hx hb hts in_X5 hown hK hP 0 rfl rfl 3 (by decide) (hts _ q576) (fun _ h9 => h9) rfl dX5_part_28 ?_
        refine lv_iconst (v := 4) hx hb dX5_part_31 (by decide) ?_
        refine lv_iload_n hx hb dX5_part_32 rfl (lv_at hl 1 rfl) ?_
        refine lv_imul hx hb dX5_part_33 ?_
        refine lv_iload_n hx hb dX5_part_34 rfl (lv_at hl 2 rfl) ?_
        refine lv_iadd hx hb dX5_part_35 ?_
        refine va_iald hx hb hK hP 1 1 rfl rfl (vin_nI (a := (4 * js0) + jw0) (eq_add (eq_mul rfl rfl) rfl) (by omega) (by omega)) dX5_part_36 ?_
        refine lv_topi (fun z_25 ez_25 => ?_)
        obtain rfl : z_25 = g ((4 * js0) + jw0) := ez_25.trans (cl_nI (a := (4 * js0) + jw0) g (eq_add (eq_mul rfl rfl) rfl) (by omega))
        exact k_iret x hx hb hr hlocks (by simp [m_part, c_4, c_8, nI_clamp (show js0 < 2 ^ 31 by omega), nI_clamp (show jw0 < 2 ^ 31 by omega), show jw0 < 4 from by omega]) hP hD trivial hS (Nat.le_of_ble_eq_true rfl) (Nat.le_of_ble_eq_true rfl) dX5_part_37
    · have c_8 := bI_z0 c_8
      refine lv_ldc hx hb hown (hts _ q693) dX5_part_19 ?_
      exact k_iret x hx hb hr hlocks (by simp [m_part, c_4, c_8, nI_clamp (show js0 < 2 ^ 31 by omega)]) hP hD trivial hS (Nat.le_of_ble_eq_true rfl) (Nat.le_of_ble_eq_true rfl) dX5_part_21
