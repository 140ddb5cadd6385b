def q_al (v : Q4) : Bool := decide (((v.1 ^^^ v.2.1 ||| v.1 ^^^ v.2.2.1) ||| v.1 ^^^ v.2.2.2) &&& 1 = 0)
def c_ent (v : Q4) (i j : Nat) : Int64 :=
  if i = j then v.1 * v.1 + 2 * (q_part v (nI i + 1) * q_part v (nI i + 1)) - (q_sq v - v.1 * v.1)
  else 2 * (q_part v (nI i + 1) * q_part v (nI j + 1) + (if (j + 3 - i) % 3 = 1 then -1 else 1) * v.1 * q_part v (nI (3 - i - j) + 1))
theorem ent_m {i j : Nat} (hi : i < 3) (hj : j < 3) : (nI j - nI i + 3) - (nI j - nI i + 3) / 3 * 3 = nI ((j + 3 - i) % 3) := by
  have e : nI j - nI i + 3 = nI (j + 3 - i) := by
    rw [show (3 : Int32) = nI 3 from rfl, ← pk_sub (show i ≤ j + 3 by omega), ← nI_add]
    grind
  rw [e]
  exact pk_rem (d := 3) (by omega) (by decide) (by decide)
def dvT (n k d : Nat) : Nat := if n % d = 0 ∧ ¬ d % k = 0 then d else 0
/-- the sum of the divisors below d that k doesn't divide -/
def dvS (n k : Nat) : Nat → Nat
  | 0 => 0
  | d + 1 => dvS n k d + dvT n k (d + 1)
theorem dvS_le (n k : Nat) : ∀ d, dvS n k d ≤ d * d
  | 0 => Nat.le_refl 0
  | d + 1 => by
    have h := dvS_le n k d
    have h2 : dvT n k (d + 1) ≤ d + 1 := by unfold dvT; split <;> omega
    have h3 : (d + 1) * (d + 1) = d * d + d + (d + 1) := by rw [Nat.add_mul, Nat.mul_add]; omega
    show dvS n k d + dvT n k (d + 1) ≤ (d + 1) * (d + 1)
    omega
set_option maxHeartbeats 4000000 in
set_option maxRecDepth 100000 in
theorem ct_X0_isAlike {KN : State → Prop} (hk : KNok KN) (l : Launch) (D : va_G) (ca : Nat → ClassId) (zH : Nat) (h0 : Nat) (v : Q4)  : Met l yX0_isAlike (ws_ yX0_isAlike cX0_isAlike 1 (some .boolean)) ({ frames := 0, cells := 0, slots := 0, locals := 0 }) (va_Pc [.ref h0] (pr_ KN D ca [] zH (fun H => Fo D H h0 v))) (qI D (fun (r : Int32) (u : Unit) => r = bI (q_al v)) (fun u => []) (fun u H => True) (va_A [] zH)) 0 0 (va_A [] zH) := by
  refine k_ofW (Qc := qI D (fun (r : Int32) (u : Unit) => r = bI (q_al v)) (fun u => []) (fun u H => True)) (by decide) (Nat.le_of_ble_eq_true rfl) ?_
  intro p e s m below meth c ls A H hH hx hb hr hts hown hlocks hnm hml hsz hP hD hK hN hA hAn hS hro hl
  have hl : lv_has ls 1 [(0, .ref h0)] := hl
  have hF0 := hro
  have nF0 := k_new hAn hF0.lt
  refine lv_aload_n hx hb dX0_isAlike_0 rfl (lv_at hl 0 rfl) ?_
  refine va_get (D := D) (ci := 1) (v := .long v.1) (C := RX1) (T := TX1) (N := 4) hx hb hts in_X1 hown hK (hF0.keep hS nF0) 0 rfl rfl 0 (by decide) (hts _ q234) (fun _ h9 => h9) rfl dX0_isAlike_1 ?_
  refine lv_aload_n hx hb dX0_isAlike_4 rfl (lv_at hl 0 rfl) ?_
  refine va_get (D := D) (ci := 1) (v := .long v.2.1) (C := RX1) (T := TX1) (N := 4) hx hb hts in_X1 hown hK (hF0.keep hS nF0) 0 rfl rfl 1 (by decide) (hts _ q236) (fun _ h9 => h9) rfl dX0_isAlike_5 ?_
  refine lv_lxor hx hb dX0_isAlike_8 ?_
  refine lv_aload_n hx hb dX0_isAlike_9 rfl (lv_at hl 0 rfl) ?_
  refine va_get (D := D) (ci := 1) (v := .long v.1) (C := RX1) (T := TX1) (N := 4) hx hb hts in_X1 hown hK (hF0.keep hS nF0) 0 rfl rfl 0 (by decide) (hts _ q234) (fun _ h9 => h9) rfl dX0_isAlike_10 ?_
  refine lv_aload_n hx hb dX0_isAlike_13 rfl (lv_at hl 0 rfl) ?_
  refine va_get (D := D) (ci := 1) (v := .long v.2.2.1) (C := RX1) (T := TX1) (N := 4) hx hb hts in_X1 hown hK (hF0.keep hS nF0) 0 rfl rfl 2 (by decide) (hts _ q238) (fun _ h9 => h9) rfl dX0_isAlike_14 ?_
  refine lv_lxor hx hb dX0_isAlike_17 ?_
  refine lv_lor hx hb dX0_isAlike_18 ?_
  refine lv_aload_n hx hb dX0_isAlike_19 rfl (lv_at hl 0 rfl) ?_
  refine va_get (D := D) (ci := 1) (v := .long v.1) (C := RX1) (T := TX1) (N := 4) hx hb hts in_X1 hown hK (hF0.keep hS nF0) 0 rfl rfl 0 (by decide) (hts _ q234) (fun _ h9 => h9) rfl dX0_isAlike_20 ?_
  refine lv_aload_n hx hb dX0_isAlike_23 rfl (lv_at hl 0 rfl) ?_
  refine va_get (D := D) (ci := 1) (v := .long v.2.2.2) (C := RX1) (T := TX1) (N := 4) hx hb hts in_X1 hown hK (hF0.keep hS nF0) 0 rfl rfl 3 (by decide) (hts _ q240) (fun _ h9 => h9) rfl dX0_isAlike_24 ?_
  refine lv_lxor hx hb dX0_isAlike_27 ?_
  refine lv_lor hx hb dX0_isAlike_28 ?_
  refine lv_lconst (v := 1) hx hb dX0_isAlike_29 (by decide) ?_
  refine lv_land hx hb dX0_isAlike_30 ?_
  refine lv_lconst (v := 0) hx hb dX0_isAlike_31 (by decide) ?_
  refine k_lc_ne (tgt := 40) hx hb dX0_isAlike_32 dX0_isAlike_33 (by decide) (fun c_1 => ?_) (fun c_1 => ?_)
  · refine lv_iconst (v := 0) hx hb dX0_isAlike_40 (by decide) ?_
    exact k_zret () hx hb hr hlocks (by decide) (by simp [q_al, bI, c_1]) hP hD trivial hS (Nat.le_of_ble_eq_true rfl) (Nat.le_of_ble_eq_true rfl) dX0_isAlike_41
  · refine lv_iconst (v := 1) hx hb dX0_isAlike_36 (by decide) ?_
    refine lv_goto (tgt := 41) hx hb dX0_isAlike_37 (by decide) ?_
    exact k_zret () hx hb hr hlocks (by decide) (by simp [q_al, bI, c_1]) hP hD trivial hS (Nat.le_of_ble_eq_true rfl) (Nat.le_of_ble_eq_true rfl) dX0_isAlike_41
set_option maxHeartbeats 4000000 in
set_option maxRecDepth 100000 in
theorem ct_X0_entry (l : Launch) (D : va_G) (ca : Nat → ClassId) (zH : Nat) (h0 : Nat) (v : Q4) (ji jj : Nat) (hji : ji < 3) (hjj : jj < 3) : Met l yX0_entry (ws_ yX0_entry cX0_entry 6 (some .long)) ({ frames := 2, cells := 0, slots := 0, locals := 41 }) (va_Pc [.ref h0, .int (nI ji), .int (nI jj)] (pr_ NW D ca [] zH (fun H => Fo D H h0 v))) (qL D (fun (r : Int64) (u : Unit) => r = c_ent v ji jj) (fun u => []) (fun u H => True) (va_A [] zH)) 0 0 (va_A [] zH) := by
  have hk := NW_ok
  refine k_ofW (Qc := qL D (fun (r : Int64) (u : Unit) => r = c_ent v ji jj) (fun u => []) (fun u H => True)) (by decide) (Nat.le_of_ble_eq_true rfl) ?_
  intro p e s m below meth c ls A H hH hx hb hr hts hown hlocks hnm hml hsz hP hD hK hN hA hAn hS hro hl
  have hl : lv_has ls 6 [(0, .ref h0), (1, .int (nI ji)), (2, .int (nI jj))] := hl
  have hF0 := hro
  have nF0 := k_new hAn hF0.lt
  refine lv_iload_n hx hb dX0_entry_0 rfl (lv_at hl 1 rfl) ?_
  refine lv_iload_n hx hb dX0_entry_1 rfl (lv_at hl 2 rfl) ?_
  refine lv_icmp_ne (tgt := 52) hx hb dX0_entry_2 (by decide) (fun c_1 => ?_) (fun c_1 => ?_)
  · have c_1 := eq_no (a := ji) (b := jj) rfl rfl (by omega) (by omega) c_1
    refine lv_iconst (v := 3) hx hb dX0_entry_52 (by decide) ?_
    refine lv_iload_n hx hb dX0_entry_53 rfl (lv_at hl 1 rfl) ?_
    refine lv_isub hx hb dX0_entry_54 ?_
    refine lv_iload_n hx hb dX0_entry_55 rfl (lv_at hl 2 rfl) ?_
    refine lv_isub hx hb dX0_entry_56 ?_
    refine lv_topi (fun z_2 ez_2 => ?_)
    obtain rfl : z_2 = nI (3 - ji - jj) := ez_2.trans (eq_sub (a := 3 - ji) (b := jj) (eq_sub (a := 3) (b := ji) rfl rfl (by omega)) rfl (by omega))
    refine lv_istore_n (lv' := [(3, .int (nI (3 - ji - jj))), (0, .ref h0), (1, .int (nI ji)), (2, .int (nI jj))]) hx hb dX0_entry_57 rfl hl (by decide) rfl (fun ls hl => ?_)
    refine lv_iload_n hx hb dX0_entry_58 rfl (lv_at hl 3 rfl) ?_
    refine lv_iload_n hx hb dX0_entry_59 rfl (lv_at hl 2 rfl) ?_
    refine lv_isub hx hb dX0_entry_60 ?_
    refine lv_iconst (v := 3) hx hb dX0_entry_61 (by decide) ?_
    refine lv_iadd hx hb dX0_entry_62 ?_
    refine lv_iconst (v := 3) hx hb dX0_entry_63 (by decide) ?_
    refine lv_irem hx hb dX0_entry_64 (by decide) ?_
    refine lv_topi (fun z_3 ez_3 => ?_)
    obtain rfl : z_3 = nI ((jj + 3 - ji) % 3) := ez_3.trans (ent_m hji hjj)
    refine lv_iconst (v := 1) hx hb dX0_entry_65 (by decide) ?_
    refine lv_icmp_ne (tgt := 75) hx hb dX0_entry_66 (by decide) (fun c_4 => ?_) (fun c_4 => ?_)
    · have c_4 := eq_no (a := (jj + 3 - ji) % 3) (b := 1) rfl rfl (by omega) (by omega) c_4
      refine lv_lconst (v := 1) hx hb dX0_entry_75 (by decide) ?_
      refine lv_lstore (lv' := [(4, .long 1), (3, .int (nI (3 - ji - jj))), (0, .ref h0), (1, .int (nI ji)), (2, .int (nI jj))]) hx hb dX0_entry_76 hl (by decide) rfl (fun ls hl => ?_)
      refine lv_ldc2 hx hb hown (hts _ q135) dX0_entry_78 ?_
      refine lv_aload_n hx hb dX0_entry_81 rfl (lv_at hl 2 rfl) ?_
      refine lv_iload_n hx hb dX0_entry_82 rfl (lv_at hl 3 rfl) ?_
      refine lv_iconst (v := 1) hx hb dX0_entry_83 (by decide) ?_
      refine lv_iadd hx hb dX0_entry_84 ?_
      refine k_calll (wr := []) (va_runV (As := [.int ((nI ji) + 1)]) (rest := [.long 2]) ⟨hx, hb, hml, hown, hts⟩ (ct_X1_part hk l D ca H.size h0 ((nI ji) + 1) v) (cwV 1 hts (lw_V q339 q262 q813 q20 q264) rfl rfl rfl (by decide +kernel) ⟨Nat.le_of_ble_eq_true rfl, Nat.le_of_ble_eq_true rfl⟩) (k_preV hk hK hN hP hD [] (by decide) rfl (hF0.keep hS nF0) (hF0.keep hS nF0) rfl (q0 := 0) rfl) rfl rfl hl.1 rfl (lv_room (Nat.le_of_ble_eq_true rfl)) dX0_entry_85 ⟨Nat.le_of_ble_eq_true rfl, Nat.le_of_ble_eq_true rfl⟩) hP hD hS hA [] [] rfl rfl (by decide) (by decide) (fun r_5 u_6 H locs w_7 hP hD hxw_7 hzw_7 hqw_7 hS => ?_)
      obtain rfl : r_5 = q_part v ((nI ji) + 1) := w_7
      refine lv_aload_n hx hb dX0_entry_88 rfl (lv_at hl 2 rfl) ?_
      refine lv_iload_n hx hb dX0_entry_89 rfl (lv_at hl 4 rfl) ?_
      refine lv_iconst (v := 1) hx hb dX0_entry_90 (by decide) ?_
      refine lv_iadd hx hb dX0_entry_91 ?_
      refine k_calll (wr := []) (va_runV (As := [.int ((nI jj) + 1)]) (rest := [.long (q_part v ((nI ji) + 1)), .long 2]) ⟨hx, hb, hml, hown, hts⟩ (ct_X1_part hk l D ca H.size h0 ((nI jj) + 1) v) (cwV 1 hts (lw_V q339 q262 q813 q20 q264) rfl rfl rfl (by decide +kernel) ⟨Nat.le_of_ble_eq_true rfl, Nat.le_of_ble_eq_true rfl⟩) (k_preV hk hK hN hP hD [] (by decide) rfl (hF0.keep hS nF0) (hF0.keep hS nF0) rfl (q0 := 0) rfl) rfl rfl hl.1 rfl (lv_room (Nat.le_of_ble_eq_true rfl)) dX0_entry_92 ⟨Nat.le_of_ble_eq_true rfl, Nat.le_of_ble_eq_true rfl⟩) hP hD hS hA [] [] rfl rfl (by decide) (by decide) (fun r_8 u_9 H locs w_10 hP hD hxw_10 hzw_10 hqw_10 hS => ?_)
      obtain rfl : r_8 = q_part v ((nI jj) + 1) := w_10
      refine lv_lmul hx hb dX0_entry_95 ?_
      refine lv_lload hx hb dX0_entry_96 (lv_at hl 0 rfl) ?_
      refine lv_aload_n hx hb dX0_entry_98 rfl (lv_at hl 2 rfl) ?_
      refine va_get (D := D) (ci := 1) (v := .long v.1) (C := RX1) (T := TX1) (N := 4) hx hb hts in_X1 hown hK (hF0.keep hS nF0) 0 rfl rfl 0 (by decide) (hts _ q234) (fun _ h9 => h9) rfl dX0_entry_99 ?_
      refine lv_lmul hx hb dX0_entry_102 ?_
      refine lv_aload_n hx hb dX0_entry_103 rfl (lv_at hl 2 rfl) ?_
      refine lv_iload_n hx hb dX0_entry_104 rfl (lv_at hl 1 rfl) ?_
      refine lv_iconst (v := 1) hx hb dX0_entry_105 (by decide) ?_
      refine lv_iadd hx hb dX0_entry_106 ?_
      refine k_calll (wr := []) (va_runV (As := [.int ((nI (3 - ji - jj)) + 1)]) (rest := [.long (1 * v.1), .long ((q_part v ((nI ji) + 1)) * (q_part v ((nI jj) + 1))), .long 2]) ⟨hx, hb, hml, hown, hts⟩ (ct_X1_part hk l D ca H.size h0 ((nI (3 - ji - jj)) + 1) v) (cwV 1 hts (lw_V q339 q262 q813 q20 q264) rfl rfl rfl (by decide +kernel) ⟨Nat.le_of_ble_eq_true rfl, Nat.le_of_ble_eq_true rfl⟩) (k_preV hk hK hN hP hD [] (by decide) rfl (hF0.keep hS nF0) (hF0.keep hS nF0) rfl (q0 := 0) rfl) rfl rfl hl.1 rfl (lv_room (Nat.le_of_ble_eq_true rfl)) dX0_entry_107 ⟨Nat.le_of_ble_eq_true rfl, Nat.le_of_ble_eq_true rfl⟩) hP hD hS hA [] [] rfl rfl (by decide) (by decide) (fun r_11 u_12 H locs w_13 hP hD hxw_13 hzw_13 hqw_13 hS => ?_)
      obtain rfl : r_11 = q_part v ((nI (3 - ji - jj)) + 1) := w_13
      refine lv_lmul hx hb dX0_entry_110 ?_
      refine lv_ladd hx hb dX0_entry_111 ?_
      refine lv_lmul hx hb dX0_entry_112 ?_
      exact k_lret () hx hb hr hlocks (by rw [c_ent, if_neg c_1, if_neg c_4]) hP hD trivial hS (Nat.le_of_ble_eq_true rfl) (Nat.le_of_ble_eq_true rfl) dX0_entry_113
    · have c_4 := eq_y (a := (jj + 3 - ji) % 3) (b := 1) rfl rfl (by omega) (by omega) c_4
      refine lv_ldc2 hx hb hown (hts _ q134) dX0_entry_69 ?_
      refine lv_goto (tgt := 76) hx hb dX0_entry_72 (by decide) ?_
      refine lv_lstore (lv' := [(4, .long (-1)), (3, .int (nI (3 - ji - jj))), (0, .ref h0), (1, .int (nI ji)), (2, .int (nI jj))]) hx hb dX0_entry_76 hl (by decide) rfl (fun ls hl => ?_)
      refine lv_ldc2 hx hb hown (hts _ q135) dX0_entry_78 ?_
      refine lv_aload_n hx hb dX0_entry_81 rfl (lv_at hl 2 rfl) ?_
      refine lv_iload_n hx hb dX0_entry_82 rfl (lv_at hl 3 rfl) ?_
      refine lv_iconst (v := 1) hx hb dX0_entry_83 (by decide) ?_
      refine lv_iadd hx hb dX0_entry_84 ?_
      refine k_calll (wr := []) (va_runV (As := [.int ((nI ji) + 1)]) (rest := [.long 2]) ⟨hx, hb, hml, hown, hts⟩ (ct_X1_part hk l D ca H.size h0 ((nI ji) + 1) v) (cwV 1 hts (lw_V q339 q262 q813 q20 q264) rfl rfl rfl (by decide +kernel) ⟨Nat.le_of_ble_eq_true rfl, Nat.le_of_ble_eq_true rfl⟩) (k_preV hk hK hN hP hD [] (by decide) rfl (hF0.keep hS nF0) (hF0.keep hS nF0) rfl (q0 := 0) rfl) rfl rfl hl.1 rfl (lv_room (Nat.le_of_ble_eq_true rfl)) dX0_entry_85 ⟨Nat.le_of_ble_eq_true rfl, Nat.le_of_ble_eq_true rfl⟩) hP hD hS hA [] [] rfl rfl (by decide) (by decide) (fun r_14 u_15 H locs w_16 hP hD hxw_16 hzw_16 hqw_16 hS => ?_)
      obtain rfl : r_14 = q_part v ((nI ji) + 1) := w_16
      refine lv_aload_n hx hb dX0_entry_88 rfl (lv_at hl 2 rfl) ?_
      refine lv_iload_n hx hb dX0_entry_89 rfl (lv_at hl 4 rfl) ?_
      refine lv_iconst (v := 1) hx hb dX0_entry_90 (by decide) ?_
      refine lv_iadd hx hb dX0_entry_91 ?_
      refine k_calll (wr := []) (va_runV (As := [.int ((nI jj) + 1)]) (rest := [.long (q_part v ((nI ji) + 1)), .long 2]) ⟨hx, hb, hml, hown, hts⟩ (ct_X1_part hk l D ca H.size h0 ((nI jj) + 1) v) (cwV 1 hts (lw_V q339 q262 q813 q20 q264) rfl rfl rfl (by decide +kernel) ⟨Nat.le_of_ble_eq_true rfl, Nat.le_of_ble_eq_true rfl⟩) (k_preV hk hK hN hP hD [] (by decide) rfl (hF0.keep hS nF0) (hF0.keep hS nF0) rfl (q0 := 0) rfl) rfl rfl hl.1 rfl (lv_room (Nat.le_of_ble_eq_true rfl)) dX0_entry_92 ⟨Nat.le_of_ble_eq_true rfl, Nat.le_of_ble_eq_true rfl⟩) hP hD hS hA [] [] rfl rfl (by decide) (by decide) (fun r_17 u_18 H locs w_19 hP hD hxw_19 hzw_19 hqw_19 hS => ?_)
      obtain rfl : r_17 = q_part v ((nI jj) + 1) := w_19
      refine lv_lmul hx hb dX0_entry_95 ?_
      refine lv_lload hx hb dX0_entry_96 (lv_at hl 0 rfl) ?_
      refine lv_aload_n hx hb dX0_entry_98 rfl (lv_at hl 2 rfl) ?_
      refine va_get (D := D) (ci := 1) (v := .long v.1) (C := RX1) (T := TX1) (N := 4) hx hb hts in_X1 hown hK (hF0.keep hS nF0) 0 rfl rfl 0 (by decide) (hts _ q234) (fun _ h9 => h9) rfl dX0_entry_99 ?_
      refine lv_lmul hx hb dX0_entry_102 ?_
      refine lv_aload_n hx hb dX0_entry_103 rfl (lv_at hl 2 rfl) ?_
      refine lv_iload_n hx hb dX0_entry_104 rfl (lv_at hl 1 rfl) ?_
      refine lv_iconst (v := 1) hx hb dX0_entry_105 (by decide) ?_
      refine lv_iadd hx hb dX0_entry_106 ?_
      refine k_calll (wr := []) (va_runV (As := [.int ((nI (3 - ji - jj)) + 1)]) (rest := [.long ((-1) * v.1), .long ((q_part v ((nI ji) + 1)) * (q_part v ((nI jj) + 1))), .long 2]) ⟨hx, hb, hml, hown, hts⟩ (ct_X1_part hk l D ca H.size h0 ((nI (3 - ji - jj)) + 1) v) (cwV 1 hts (lw_V q339 q262 q813 q20 q264) rfl rfl rfl (by decide +kernel) ⟨Nat.le_of_ble_eq_true rfl, Nat.le_of_ble_eq_true rfl⟩) (k_preV hk hK hN hP hD [] (by decide) rfl (hF0.keep hS nF0) (hF0.keep hS nF0) rfl (q0 := 0) rfl) rfl rfl hl.1 rfl (lv_room (Nat.le_of_ble_eq_true rfl)) dX0_entry_107 ⟨Nat.le_of_ble_eq_true rfl, Nat.le_of_ble_eq_true rfl⟩) hP hD hS hA [] [] rfl rfl (by decide) (by decide) (fun r_20 u_21 H locs w_22 hP hD hxw_22 hzw_22 hqw_22 hS => ?_)
      obtain rfl : r_20 = q_part v ((nI (3 - ji - jj)) + 1) := w_22
      refine lv_lmul hx hb dX0_entry_110 ?_
      refine lv_ladd hx hb dX0_entry_111 ?_
      refine lv_lmul hx hb dX0_entry_112 ?_
      exact k_lret () hx hb hr hlocks (by rw [c_ent, if_neg c_1, if_pos c_4]) hP hD trivial hS (Nat.le_of_ble_eq_true rfl) (Nat.le_of_ble_eq_true rfl) dX0_entry_113
  · have c_1 := eq_y (a := ji) (b := jj) rfl rfl (by omega) (by omega) c_1
    refine lv_aload_n hx hb dX0_entry_5 rfl (lv_at hl 0 rfl) ?_
    refine lv_iload_n hx hb dX0_entry_6 rfl (lv_at hl 1 rfl) ?_
    refine lv_iconst (v := 1) hx hb dX0_entry_7 (by decide) ?_
    refine lv_iadd hx hb dX0_entry_8 ?_
    refine k_calll (wr := []) (va_runV (As := [.int ((nI ji) + 1)]) (rest := []) ⟨hx, hb, hml, hown, hts⟩ (ct_X1_part hk l D ca H.size h0 ((nI ji) + 1) v) (cwV 1 hts (lw_V q339 q262 q813 q20 q264) rfl rfl rfl (by decide +kernel) ⟨Nat.le_of_ble_eq_true rfl, Nat.le_of_ble_eq_true rfl⟩) (k_preV hk hK hN hP hD [] (by decide) rfl (hF0.keep hS nF0) (hF0.keep hS nF0) rfl (q0 := 0) rfl) rfl rfl hl.1 rfl (lv_room (Nat.le_of_ble_eq_true rfl)) dX0_entry_9 ⟨Nat.le_of_ble_eq_true rfl, Nat.le_of_ble_eq_true rfl⟩) hP hD hS hA [] [] rfl rfl (by decide) (by decide) (fun r_23 u_24 H locs w_25 hP hD hxw_25 hzw_25 hqw_25 hS => ?_)
    obtain rfl : r_23 = q_part v ((nI ji) + 1) := w_25
    refine lv_aload_n hx hb dX0_entry_12 rfl (lv_at hl 0 rfl) ?_
    refine lv_iload_n hx hb dX0_entry_13 rfl (lv_at hl 1 rfl) ?_
    refine lv_iconst (v := 1) hx hb dX0_entry_14 (by decide) ?_
    refine lv_iadd hx hb dX0_entry_15 ?_
    refine k_calll (wr := []) (va_runV (As := [.int ((nI ji) + 1)]) (rest := [.long (q_part v ((nI ji) + 1))]) ⟨hx, hb, hml, hown, hts⟩ (ct_X1_part hk l D ca H.size h0 ((nI ji) + 1) v) (cwV 1 hts (lw_V q339 q262 q813 q20 q264) rfl rfl rfl (by decide +kernel) ⟨Nat.le_of_ble_eq_true rfl, Nat.le_of_ble_eq_true rfl⟩) (k_preV hk hK hN hP hD [] (by decide) rfl (hF0.keep hS nF0) (hF0.keep hS nF0) rfl (q0 := 0) rfl) rfl rfl hl.1 rfl (lv_room (Nat.le_of_ble_eq_true rfl)) dX0_entry_16 ⟨Nat.le_of_ble_eq_true rfl, Nat.le_of_ble_eq_true rfl⟩) hP hD hS hA [] [] rfl rfl (by decide) (by decide) (fun r_26 u_27 H locs w_28 hP hD hxw_28 hzw_28 hqw_28 hS => ?_)
    obtain rfl : r_26 = q_part v ((nI ji) + 1) := w_28
    refine lv_lmul hx hb dX0_entry_19 ?_
    refine lv_lstore_n (lv' := [(3, .long ((q_part v ((nI ji) + 1)) * (q_part v ((nI ji) + 1)))), (0, .ref h0), (1, .int (nI ji)), (2, .int (nI jj))]) hx hb dX0_entry_20 rfl hl (by decide) rfl (fun ls hl => ?_)
    refine lv_aload_n hx hb dX0_entry_21 rfl (lv_at hl 1 rfl) ?_
    refine va_get (D := D) (ci := 1) (v := .long v.1) (C := RX1) (T := TX1) (N := 4) hx hb hts in_X1 hown hK (hF0.keep hS nF0) 0 rfl rfl 0 (by decide) (hts _ q234) (fun _ h9 => h9) rfl dX0_entry_22 ?_
    refine lv_aload_n hx hb dX0_entry_25 rfl (lv_at hl 1 rfl) ?_
    refine va_get (D := D) (ci := 1) (v := .long v.1) (C := RX1) (T := TX1) (N := 4) hx hb hts in_X1 hown hK (hF0.keep hS nF0) 0 rfl rfl 0 (by decide) (hts _ q234) (fun _ h9 => h9) rfl dX0_entry_26 ?_
    refine lv_lmul hx hb dX0_entry_29 ?_
    refine lv_ldc2 hx hb hown (hts _ q135) dX0_entry_30 ?_
    refine lv_lload_n hx hb dX0_entry_33 rfl (lv_at hl 0 rfl) ?_
    refine lv_lmul hx hb dX0_entry_34 ?_
    refine lv_ladd hx hb dX0_entry_35 ?_
    refine lv_aload_n hx hb dX0_entry_36 rfl (lv_at hl 1 rfl) ?_
    refine k_calll (wr := []) (kd_runV (x := yF_square) (owner := "FourParts$Parts") (As := []) (rest := [.long ((v.1 * v.1) + (2 * ((q_part v ((nI ji) + 1)) * (q_part v ((nI ji) + 1)))))]) ⟨hx, hb, hml, hown, hts⟩ (ct_X7_square l D ca H.size h0 v) qL_ret rfl (lw_meth q254) rfl rfl rfl ⟨Nat.le_of_ble_eq_true rfl, Nat.le_of_ble_eq_true rfl⟩ (hN.1 _ (List.mem_of_getElem? (i := 0) rfl)) (hN.1 _ (List.mem_of_getElem? (i := 5) rfl)) (va_Decl.abs hN.2.2.2.2.2.2.2.1.1) ⟨by decide, by decide⟩ hN.2.2.2.2.2.2.2.2.1 (hts _ q252) (by decide +kernel) (k_preV hk hK hN hP hD [] (by decide) rfl (hF0.keep hS nF0) (hF0.keep hS nF0) rfl (q0 := 0) rfl) rfl rfl hl.1 rfl (lv_room (Nat.le_of_ble_eq_true rfl)) dX0_entry_37 ⟨Nat.le_of_ble_eq_true rfl, Nat.le_of_ble_eq_true rfl⟩) hP hD hS hA [] [] rfl rfl (by decide) (by decide) (fun r_29 u_30 H locs w_31 hP hD hxw_31 hzw_31 hqw_31 hS => ?_)
    obtain rfl : r_29 = q_sq v := w_31
    refine lv_aload_n hx hb dX0_entry_40 rfl (lv_at hl 1 rfl) ?_
    refine va_get (D := D) (ci := 1) (v := .long v.1) (C := RX1) (T := TX1) (N := 4) hx hb hts in_X1 hown hK (hF0.keep hS nF0) 0 rfl rfl 0 (by decide) (hts _ q234) (fun _ h9 => h9) rfl dX0_entry_41 ?_
    refine lv_aload_n hx hb dX0_entry_44 rfl (lv_at hl 1 rfl) ?_
    refine va_get (D := D) (ci := 1) (v := .long v.1) (C := RX1) (T := TX1) (N := 4) hx hb hts in_X1 hown hK (hF0.keep hS nF0) 0 rfl rfl 0 (by decide) (hts _ q234) (fun _ h9 => h9) rfl dX0_entry_45 ?_
    refine lv_lmul hx hb dX0_entry_48 ?_
    refine lv_lsub hx hb dX0_entry_49 ?_
    refine lv_lsub hx hb dX0_entry_50 ?_
    exact k_lret () hx hb hr hlocks (by simp [c_ent, c_1]) hP hD trivial hS (Nat.le_of_ble_eq_true rfl) (Nat.le_of_ble_eq_true rfl) dX0_entry_51
theorem dvT_y {n k d : Nat} (h : n % d = 0 ∧ d % k ≠ 0) : dvT n k d = d := if_pos h
theorem dvT_n {n k d : Nat} (h : ¬ (n % d = 0 ∧ d % k ≠ 0)) : dvT n k d = 0 := if_neg h
set_option maxHeartbeats 4000000 in
set_option maxRecDepth 100000 in
theorem lp_X0_divisors {KN : State → Prop} (hk : KNok KN) {l : Launch} {D : va_G} {ca : Nat → ClassId} (n0 : Nat) (k0 : Nat) (hn0 : n0 ≤ 200) (hk0 : 0 < k0) (hk1 : k0 ≤ 4) {p : Program} {e : Env} {s : State} {m : MethodId} {below : List Frame} {meth : Method} {c : Code} {A : Nat → Prop}  (hx : p.tables.exec = Jvm.exec) (hb : c.code = cX0_divisors) (hr : meth.sig.returnType = (some .int)) (hts : ∀ w ∈ lw_all, w.before ([.int (nI n0), .int (nI k0)] : List Value).toArray s = true) (hown : s.vm.findClass yX0_divisors.cls = some m.cls) (hlocks : meth.locks = false) (hnm : meth.name = yX0_divisors.name) (hml : c.maxLocals = 4) (hK : va_K D vwCl (tysG ca) s) (hN : KN s) (hA : ∀ q, s.heap.size ≤ q → A q)  :
    ∀ (n : Nat) (d : Nat), (d ≤ n0) → (n0 < n + d) →  ∀ (H : Heap) (locs : List Loc) (ls : Array Slot), va_P D vwCl [] H → va_D A [] → va_S A s.heap H locs → lv_has ls 4 [(3, .int (nI (d + 1))), (2, .int (nI (dvS n0 k0 d))), (0, .int (nI n0)), (1, .int (nI k0))] → W p l e ({ frames := 0, cells := 0, slots := 0, locals := 0 }) s m ([.int (nI n0), .int (nI k0)] : List Value).toArray below meth c H locs 0 0 (MQ below (qI D (fun (r : Int32) (u : Unit) => r = nI (dvS n0 k0 n0)) (fun u => []) (fun u H => True) A) ([.int (nI n0), .int (nI k0)] : List Value).toArray s 0 0 A) (F0 m 4 ls []) := by
  intro n
  induction n with
  | zero =>
    intro d hd hfuel H locs ls hP hD hS hl 
    exact absurd hfuel (by omega)
  | succ n ih =>
    intro d hd hfuel H locs ls hP hD hS hl 
    refine lv_iload_n hx hb dX0_divisors_4 rfl (lv_at hl 0 rfl) ?_
    refine lv_iload_n hx hb dX0_divisors_5 rfl (lv_at hl 2 rfl) ?_
    refine lv_icmp_gt (tgt := 35) hx hb dX0_divisors_6 (by decide) (fun c_1 => ?_) (fun c_1 => ?_)
    · have c_1 := lt_y (a := n0) (b := (d + 1)) rfl rfl (by omega) (by omega) c_1
      refine lv_iload_n hx hb dX0_divisors_35 rfl (lv_at hl 1 rfl) ?_
      exact k_iret () hx hb hr hlocks (by rw [show d = n0 by omega]) hP hD trivial hS (Nat.le_of_ble_eq_true rfl) (Nat.le_of_ble_eq_true rfl) dX0_divisors_36
    · have c_1 := lt_no (a := n0) (b := (d + 1)) rfl rfl (by omega) (by omega) c_1
      refine lv_iload_n hx hb dX0_divisors_9 rfl (lv_at hl 1 rfl) ?_
      refine lv_iload_n hx hb dX0_divisors_10 rfl (lv_at hl 2 rfl) ?_
      refine lv_iload_n hx hb dX0_divisors_11 rfl (lv_at hl 0 rfl) ?_
      refine lv_irem hx hb dX0_divisors_12 (nI_ne0 (by omega) (by omega)) ?_
      refine lv_topi (fun z_2 ez_2 => ?_)
      obtain rfl : z_2 = nI (n0 % (d + 1)) := ez_2.trans (pk_rem (by omega) (by omega) (by omega))
      refine lv_if_ne (tgt := 26) hx hb dX0_divisors_13 (by decide) (fun c_3 => ?_) (fun c_3 => ?_)
      · have hm1 := Nat.mod_le n0 (d + 1)
        have c_3 := eq_no (a := n0 % (d + 1)) (b := 0) rfl rfl (by omega) (by omega) c_3
        refine lv_iconst (v := 0) hx hb dX0_divisors_26 (by decide) ?_
        refine lv_iadd hx hb dX0_divisors_27 ?_
        refine lv_topi (fun z_4 ez_4 => ?_)
        obtain rfl : z_4 = nI (dvS n0 k0 (d + 1)) := ez_4.trans (by rw [show dvS n0 k0 (d + 1) = dvS n0 k0 d + dvT n0 k0 (d + 1) from rfl, dvT_n (by rintro ⟨h1, h2⟩; exact c_3 h1)]; exact nI_add _ _)
        refine lv_istore_n (lv' := [(2, .int (nI (dvS n0 k0 (d + 1)))), (3, .int (nI (d + 1))), (0, .int (nI n0)), (1, .int (nI k0))]) hx hb dX0_divisors_28 rfl hl (by decide) rfl (fun ls hl => ?_)
        refine lv_iinc (v := nI ((d + 1) + 1)) (lv' := [(3, .int (nI ((d + 1) + 1))), (2, .int (nI (dvS n0 k0 (d + 1)))), (0, .int (nI n0)), (1, .int (nI k0))]) hx hb dX0_divisors_29 hl (k := 1) rfl (eq_add rfl rfl) (by decide) rfl (fun ls hl => ?_)
        refine lv_goto (tgt := 4) hx hb dX0_divisors_32 (by decide) ?_
        exact ih (d + 1) (by omega) (by omega) _ _ _ hP hD hS (lv_sub hl [0, 1, 2, 3] rfl) 
      · have hm1 := Nat.mod_le n0 (d + 1)
        have c_3 := eq_y (a := n0 % (d + 1)) (b := 0) rfl rfl (by omega) (by omega) c_3
        refine lv_iload_n hx hb dX0_divisors_16 rfl (lv_at hl 0 rfl) ?_
        refine lv_iload_n hx hb dX0_divisors_17 rfl (lv_at hl 3 rfl) ?_
        refine lv_irem hx hb dX0_divisors_18 (nI_ne0 (by omega) (by omega)) ?_
        refine lv_topi (fun z_5 ez_5 => ?_)
        obtain rfl : z_5 = nI ((d + 1) % k0) := ez_5.trans (pk_rem (by omega) (by omega) (by omega))
        refine lv_if_eq (tgt := 26) hx hb dX0_divisors_19 (by decide) (fun c_6 => ?_) (fun c_6 => ?_)
        · have hm2 := Nat.mod_le (d + 1) k0
          have c_6 := eq_y (a := (d + 1) % k0) (b := 0) rfl rfl (by omega) (by omega) c_6
          refine lv_iconst (v := 0) hx hb dX0_divisors_26 (by decide) ?_
          refine lv_iadd hx hb dX0_divisors_27 ?_
          refine lv_topi (fun z_7 ez_7 => ?_)
          obtain rfl : z_7 = nI (dvS n0 k0 (d + 1)) := ez_7.trans (by rw [show dvS n0 k0 (d + 1) = dvS n0 k0 d + dvT n0 k0 (d + 1) from rfl, dvT_n (by rintro ⟨h1, h2⟩; exact h2 c_6)]; exact nI_add _ _)
          refine lv_istore_n (lv' := [(2, .int (nI (dvS n0 k0 (d + 1)))), (3, .int (nI (d + 1))), (0, .int (nI n0)), (1, .int (nI k0))]) hx hb dX0_divisors_28 rfl hl (by decide) rfl (fun ls hl => ?_)
          refine lv_iinc (v := nI ((d + 1) + 1)) (lv' := [(3, .int (nI ((d + 1) + 1))), (2, .int (nI (dvS n0 k0 (d + 1)))), (0, .int (nI n0)), (1, .int (nI k0))]) hx hb dX0_divisors_29 hl (k := 1) rfl (eq_add rfl rfl) (by decide) rfl (fun ls hl => ?_)
          refine lv_goto (tgt := 4) hx hb dX0_divisors_32 (by decide) ?_
          exact ih (d + 1) (by omega) (by omega) _ _ _ hP hD hS (lv_sub hl [0, 1, 2, 3] rfl) 
        · have hm2 := Nat.mod_le (d + 1) k0
          have c_6 := eq_no (a := (d + 1) % k0) (b := 0) rfl rfl (by omega) (by omega) c_6
          refine lv_iload_n hx hb dX0_divisors_22 rfl (lv_at hl 0 rfl) ?_
          refine lv_goto (tgt := 27) hx hb dX0_divisors_23 (by decide) ?_
          refine lv_iadd hx hb dX0_divisors_27 ?_
          refine lv_topi (fun z_8 ez_8 => ?_)
          obtain rfl : z_8 = nI (dvS n0 k0 (d + 1)) := ez_8.trans (by rw [show dvS n0 k0 (d + 1) = dvS n0 k0 d + dvT n0 k0 (d + 1) from rfl, dvT_y ⟨c_3, c_6⟩]; exact nI_add _ _)
          refine lv_istore_n (lv' := [(2, .int (nI (dvS n0 k0 (d + 1)))), (3, .int (nI (d + 1))), (0, .int (nI n0)), (1, .int (nI k0))]) hx hb dX0_divisors_28 rfl hl (by decide) rfl (fun ls hl => ?_)
          refine lv_iinc (v := nI ((d + 1) + 1)) (lv' := [(3, .int (nI ((d + 1) + 1))), (2, .int (nI (dvS n0 k0 (d + 1)))), (0, .int (nI n0)), (1, .int (nI k0))]) hx hb dX0_divisors_29 hl (k := 1) rfl (eq_add rfl rfl) (by decide) rfl (fun ls hl => ?_)
          refine lv_goto (tgt := 4) hx hb dX0_divisors_32 (by decide) ?_
          exact ih (d + 1) (by omega) (by omega) _ _ _ hP hD hS (lv_sub hl [0, 1, 2, 3] rfl) 
set_option maxHeartbeats 4000000 in
set_option maxRecDepth 100000 in
theorem ct_X0_divisors {KN : State → Prop} (hk : KNok KN) (l : Launch) (D : va_G) (ca : Nat → ClassId) (zH : Nat) (n0 k0 : Nat) (hn0 : n0 ≤ 200) (hk0 : 0 < k0) (hk1 : k0 ≤ 4) : Met l yX0_divisors (ws_ yX0_divisors cX0_divisors 4 (some .int)) ({ frames := 0, cells := 0, slots := 0, locals := 0 }) (va_Pc [.int (nI n0), .int (nI k0)] (pr_ KN D ca [] zH (fun _ => True))) (qI D (fun (r : Int32) (u : Unit) => r = nI (dvS n0 k0 n0)) (fun u => []) (fun u H => True) (va_A [] zH)) 0 0 (va_A [] zH) := by
  refine k_ofW (Qc := qI D (fun (r : Int32) (u : Unit) => r = nI (dvS n0 k0 n0)) (fun u => []) (fun u H => True)) (by decide) (Nat.le_of_ble_eq_true rfl) ?_
  intro p e s m below meth c ls A H hH hx hb hr hts hown hlocks hnm hml hsz hP hD hK hN hA hAn hS hro hl
  have hl : lv_has ls 4 [(0, .int (nI n0)), (1, .int (nI k0))] := hl
  refine lv_iconst (v := 0) hx hb dX0_divisors_0 (by decide) ?_
  refine lv_istore_n (lv' := [(2, .int 0), (0, .int (nI n0)), (1, .int (nI k0))]) hx hb dX0_divisors_1 rfl hl (by decide) rfl (fun ls hl => ?_)
  refine lv_iconst (v := 1) hx hb dX0_divisors_2 (by decide) ?_
  refine lv_istore_n (lv' := [(3, .int 1), (2, .int 0), (0, .int (nI n0)), (1, .int (nI k0))]) hx hb dX0_divisors_3 rfl hl (by decide) rfl (fun ls hl => ?_)
  exact lp_X0_divisors hk n0 k0 hn0 hk0 hk1  hx hb hr hts hown hlocks hnm hml hK hN hA  (n0 + 1) 0 (by omega) (by omega) _ _ _ hP hD hS (lv_sub hl [0, 1, 2, 3] rfl) 
