noncomputable def alI (n : Nat) (q : Z4') : Nat := @ite Nat (isAl (iZ q.1).toInt64 (iZ q.2.1).toInt64 (iZ q.2.2.1).toInt64 (iZ q.2.2.2).toInt64 n) (Classical.propDecidable _) 1 0
theorem alI_y {n : Nat} {q : Z4'} (h : isAl (iZ q.1).toInt64 (iZ q.2.1).toInt64 (iZ q.2.2.1).toInt64 (iZ q.2.2.2).toInt64 n) : alI n q = 1 := by simp [alI, h]
theorem alI_n {n : Nat} {q : Z4'} (h : ¬ isAl (iZ q.1).toInt64 (iZ q.2.1).toInt64 (iZ q.2.2.1).toInt64 (iZ q.2.2.2).toInt64 n) : alI n q = 0 := by simp [alI, h]
/-- how many of a list are counted: none, if it isn't looked -/
noncomputable def alS (lk n : Nat) : List Z4' → Nat
  | [] => 0
  | q :: L => lk * alI n q + alS lk n L
theorem alS_app (lk n : Nat) (L K : List Z4') : alS lk n (L ++ K) = alS lk n L + alS lk n K := by
  induction L with
  | nil => simp [alS]
  | cons q L ih => simp [alS, ih, Nat.add_assoc]
theorem alI_le (n : Nat) (q : Z4') : alI n q ≤ 1 := by
  by_cases h : isAl (iZ q.1).toInt64 (iZ q.2.1).toInt64 (iZ q.2.2.1).toInt64 (iZ q.2.2.2).toInt64 n
  · rw [alI_y h]; exact Nat.le_refl 1
  · rw [alI_n h]; exact Nat.zero_le 1
theorem nI_m1 {n : Nat} (h : n < 2 ^ 31) : ¬ nI n = -1 := fun e => by
  have := congrArg Int32.toInt e
  rw [nI_toInt h, show (-1 : Int32).toInt = -1 from by decide] at this
  omega
/-- a quad of the listing as longs -/
def qz (q : Z4') : Q4 := ((iZ q.1).toInt64, (iZ q.2.1).toInt64, (iZ q.2.2.1).toInt64, (iZ q.2.2.2).toInt64)
set_option maxHeartbeats 4000000 in
set_option maxRecDepth 100000 in
theorem lp_X6_init  {l : Launch} {D : va_G} {ca : Nat → ClassId} (lo : Nat) (n0 : Nat) (w0 : Int32) (hn0 : n0 ≤ 200) {p : Program} {e : Env} {s : State} {m : MethodId} {below : List Frame} {meth : Method} {c : Code} {A : Nat → Prop}  (hx : p.tables.exec = Jvm.exec) (hb : c.code = cX6_init) (hr : meth.sig.returnType = none) (hts : ∀ w ∈ lw_all, w.before ([.ref lo, .int (nI n0), .int w0] : List Value).toArray s = true) (hown : s.vm.findClass yX6_init.cls = some m.cls) (hlocks : meth.locks = false) (hnm : meth.name = yX6_init.name) (hml : c.maxLocals = 4) (hK : va_K D vwCl (tysG ca) s) (hN : NW s) (hA : ∀ q, s.heap.size ≤ q → A q)  :
    ∀ (n : Nat) (k : Nat), (k * k ≤ 4 * n0) → (30 ≤ n + k) →  ∀ (H : Heap) (locs : List Loc) (ls : Array Slot), va_P D vwCl [(lo, .inr (5, [.int (nI n0), .int 0, .int 0, .int 0, .int w0, .null]))] H → va_D A [(lo, .inr (5, [.int (nI n0), .int 0, .int 0, .int 0, .int w0, .null]))] → va_S A s.heap H locs → lv_has ls 4 [(3, .int (nI k)), (0, .ref lo), (1, .int (nI n0))] → W p l e ({ frames := 1, cells := 0, slots := 0, locals := 20 }) s m ([.ref lo, .int (nI n0), .int w0] : List Value).toArray below meth c H locs 0 0 (MQ below (qV D (fun (u : Nat) => u * u ≤ 4 * n0 ∧ 4 * n0 < (u + 1) * (u + 1)) (fun u => [(lo, .inr (5, [.int (nI n0), .int (nI u), .int 0, .int 0, .int w0, .null]))]) (fun u H => True) A) ([.ref lo, .int (nI n0), .int w0] : List Value).toArray s 0 0 A) (F0 m 16 ls []) := by
  intro n
  induction n with
  | zero =>
    intro k hk0 hfuel H locs ls hP hD hS hl 
    have := sq_lt (show 30 ≤ k by omega); omega
  | succ n ih =>
    intro k hk0 hfuel H locs ls hP hD hS hl 
    have hk := NW_ok
    refine lv_iload_n hx hb dX6_init_16 rfl (lv_at hl 0 rfl) ?_
    refine lv_iconst (v := 1) hx hb dX6_init_17 (by decide) ?_
    refine lv_iadd hx hb dX6_init_18 ?_
    refine lv_iload_n hx hb dX6_init_19 rfl (lv_at hl 0 rfl) ?_
    refine lv_iconst (v := 1) hx hb dX6_init_20 (by decide) ?_
    refine lv_iadd hx hb dX6_init_21 ?_
    refine lv_imul hx hb dX6_init_22 ?_
    refine lv_iconst (v := 4) hx hb dX6_init_23 (by decide) ?_
    refine lv_iload_n hx hb dX6_init_24 rfl (lv_at hl 2 rfl) ?_
    refine lv_imul hx hb dX6_init_25 ?_
    refine lv_icmp_gt (tgt := 35) hx hb dX6_init_26 (by decide) (fun c_1 => ?_) (fun c_1 => ?_)
    · have hk1 : k ≤ 28 := root_le (b := 28) hk0 (by omega)
      have hk2 := sq_lt (show k + 1 ≤ 29 by omega)
      have c_1 := lt_y (a := 4 * n0) (b := (k + 1) * (k + 1)) (eq_mul rfl rfl) (eq_mul (eq_add rfl rfl) (eq_add rfl rfl)) (by omega) (by omega) c_1
      refine lv_aload_n hx hb dX6_init_35 rfl (lv_at hl 1 rfl) ?_
      refine lv_iload_n hx hb dX6_init_36 rfl (lv_at hl 0 rfl) ?_
      refine va_putF (D := D) (ci := 5) (v := .int (nI k)) (ty := .int) (C := RX6) (T := TX6) (N := 6) hx hb hts in_X6 tyX6 tyX6_ok nmX6 hown hK hP hD hS 0 rfl rfl 1 (by decide) (hts _ q510) (fun _ h9 => h9) rfl hnm rfl (by decide +kernel) rfl rfl (Nat.le_of_ble_eq_true rfl) dX6_init_37 (fun H locs hP hD hS => ?_)
      have hP : va_P D vwCl [(lo, .inr (5, [.int (nI n0), .int (nI k), .int 0, .int 0, .int w0, .null]))] H := hP
      have hD : va_D A [(lo, .inr (5, [.int (nI n0), .int (nI k), .int 0, .int 0, .int w0, .null]))] := hD
      exact k_vret k hx hb hr hlocks (⟨hk0, c_1⟩) hP hD trivial hS (Nat.le_of_ble_eq_true rfl) (Nat.le_of_ble_eq_true rfl) dX6_init_40
    · have hk1 : k ≤ 28 := root_le (b := 28) hk0 (by omega)
      have hk2 := sq_lt (show k + 1 ≤ 29 by omega)
      have c_1 := lt_no (a := 4 * n0) (b := (k + 1) * (k + 1)) (eq_mul rfl rfl) (eq_mul (eq_add rfl rfl) (eq_add rfl rfl)) (by omega) (by omega) c_1
      refine lv_iinc (v := nI (k + 1)) (lv' := [(3, .int (nI (k + 1))), (0, .ref lo), (1, .int (nI n0))]) hx hb dX6_init_29 hl (k := 0) rfl (eq_add rfl rfl) (by decide) rfl (fun ls hl => ?_)
      refine lv_goto (tgt := 16) hx hb dX6_init_32 (by decide) ?_
      exact ih (k + 1) (by omega) (by omega) _ _ _ hP hD hS (lv_sub hl [0, 1, 2] rfl) 
set_option maxHeartbeats 4000000 in
set_option maxRecDepth 100000 in
theorem ct_X6_init (l : Launch) (D : va_G) (ca : Nat → ClassId) (zH : Nat) (lo n0 : Nat) (w0 : Int32) (hn0 : n0 ≤ 200) : Met l yX6_init (ws_ yX6_init cX6_init 4 none) ({ frames := 1, cells := 0, slots := 0, locals := 20 }) (va_Pc [.ref lo, .int (nI n0), .int w0] (pr_ NW D ca [(lo, .inr (5, [.int 0, .int 0, .int 0, .int 0, .int 0, .null]))] zH (fun _ => True))) (qV D (fun (u : Nat) => u * u ≤ 4 * n0 ∧ 4 * n0 < (u + 1) * (u + 1)) (fun u => [(lo, .inr (5, [.int (nI n0), .int (nI u), .int 0, .int 0, .int w0, .null]))]) (fun u H => True) (va_A [(lo, .inr (5, [.int 0, .int 0, .int 0, .int 0, .int 0, .null]))] zH)) 0 0 (va_A [(lo, .inr (5, [.int 0, .int 0, .int 0, .int 0, .int 0, .null]))] zH) := by
  have hk := NW_ok
  refine k_ofW (Qc := qV D (fun (u : Nat) => u * u ≤ 4 * n0 ∧ 4 * n0 < (u + 1) * (u + 1)) (fun u => [(lo, .inr (5, [.int (nI n0), .int (nI u), .int 0, .int 0, .int w0, .null]))]) (fun u H => True)) (by decide) (Nat.le_of_ble_eq_true rfl) ?_
  intro p e s m below meth c ls A H hH hx hb hr hts hown hlocks hnm hml hsz hP hD hK hN hA hAn hS hro hl
  have hl : lv_has ls 4 [(0, .ref lo), (1, .int (nI n0)), (2, .int w0)] := hl
  refine lv_aload_n hx hb dX6_init_0 rfl (lv_at hl 0 rfl) ?_
  refine W.objInit hx hb hown (hts _ q508) (hts _ q55) (hts _ q56) rfl (by rw [hml]; exact hl.1) rfl dX6_init_1 (Nat.le_of_ble_eq_true rfl) (Nat.le_of_ble_eq_true rfl) ?_
  refine W.eq (g2 := F0 m 4 ls []) rfl ?_
  refine lv_aload_n hx hb dX6_init_4 rfl (lv_at hl 0 rfl) ?_
  refine lv_iload_n hx hb dX6_init_5 rfl (lv_at hl 1 rfl) ?_
  refine va_putF (D := D) (ci := 5) (v := .int (nI n0)) (ty := .int) (C := RX6) (T := TX6) (N := 6) hx hb hts in_X6 tyX6 tyX6_ok nmX6 hown hK hP hD hS 0 rfl rfl 0 (by decide) (hts _ q509) (fun _ h9 => h9) rfl hnm rfl (by decide +kernel) rfl rfl (Nat.le_of_ble_eq_true rfl) dX6_init_6 (fun H locs hP hD hS => ?_)
  have hP : va_P D vwCl [(lo, .inr (5, [.int (nI n0), .int 0, .int 0, .int 0, .int 0, .null]))] H := hP
  have hD : va_D A [(lo, .inr (5, [.int (nI n0), .int 0, .int 0, .int 0, .int 0, .null]))] := hD
  refine lv_aload_n hx hb dX6_init_9 rfl (lv_at hl 0 rfl) ?_
  refine lv_iload_n hx hb dX6_init_10 rfl (lv_at hl 2 rfl) ?_
  refine va_putF (D := D) (ci := 5) (v := .int w0) (ty := .int) (C := RX6) (T := TX6) (N := 6) hx hb hts in_X6 tyX6 tyX6_ok nmX6 hown hK hP hD hS 0 rfl rfl 4 (by decide) (hts _ q514) (fun _ h9 => h9) rfl hnm rfl (by decide +kernel) rfl rfl (Nat.le_of_ble_eq_true rfl) dX6_init_11 (fun H locs hP hD hS => ?_)
  have hP : va_P D vwCl [(lo, .inr (5, [.int (nI n0), .int 0, .int 0, .int 0, .int w0, .null]))] H := hP
  have hD : va_D A [(lo, .inr (5, [.int (nI n0), .int 0, .int 0, .int 0, .int w0, .null]))] := hD
  refine lv_iconst (v := 0) hx hb dX6_init_14 (by decide) ?_
  refine lv_istore_n (lv' := [(3, .int 0), (0, .ref lo), (1, .int (nI n0)), (2, .int w0)]) hx hb dX6_init_15 rfl hl (by decide) rfl (fun ls hl => ?_)
  exact lp_X6_init lo n0 w0 hn0  hx hb hr hts hown hlocks hnm hml hK hN hA  30 0 (by omega) (by omega) _ _ _ hP hD hS (lv_sub hl [0, 1, 2] rfl) 
set_option maxHeartbeats 4000000 in
set_option maxRecDepth 100000 in
theorem ct_X6_meet_n1 (l : Launch) (D : va_G) (ca : Nat → ClassId) (zH : Nat) (lo n0 M al pr : Nat) (w0 : Int32) (ya yb yc yd : Int) (hn0 : n0 ≤ 200) (hal : al < 2 ^ 30) (hpr : pr < 2 ^ 30) (hw : ¬ nI al = w0) : Met l yX6_meet (ws_ yX6_meet cX6_meet 6 none) ({ frames := 1, cells := 0, slots := 0, locals := 35 }) (va_Pc [.ref lo, .int (iZ ya), .int (iZ yb), .int (iZ yc), .int (iZ yd), .int 1] (pr_ NW D ca [(lo, .inr (5, [.int (nI n0), .int (nI M), .int (nI al), .int (nI pr), .int w0, .null]))] zH (fun _ => True))) (qV D (fun (u : Unit) => True) (fun u => [(lo, .inr (5, [.int (nI n0), .int (nI M), .int (nI (al + 1)), .int (nI (pr + 1 * alI n0 (ya, yb, yc, yd))), .int w0, .null]))]) (fun u H => True) (va_A [(lo, .inr (5, [.int (nI n0), .int (nI M), .int (nI al), .int (nI pr), .int w0, .null]))] zH)) 0 0 (va_A [(lo, .inr (5, [.int (nI n0), .int (nI M), .int (nI al), .int (nI pr), .int w0, .null]))] zH) := by
  have hk := NW_ok
  refine k_ofW (Qc := qV D (fun (u : Unit) => True) (fun u => [(lo, .inr (5, [.int (nI n0), .int (nI M), .int (nI (al + 1)), .int (nI (pr + 1 * alI n0 (ya, yb, yc, yd))), .int w0, .null]))]) (fun u H => True)) (by decide) (Nat.le_of_ble_eq_true rfl) ?_
  intro p e s m below meth c ls A H hH hx hb hr hts hown hlocks hnm hml hsz hP hD hK hN hA hAn hS hro hl
  have hl : lv_has ls 6 [(0, .ref lo), (1, .int (iZ ya)), (2, .int (iZ yb)), (3, .int (iZ yc)), (4, .int (iZ yd)), (5, .int 1)] := hl
  refine lv_aload_n hx hb dX6_meet_0 rfl (lv_at hl 0 rfl) ?_
  refine va_get (D := D) (ci := 5) (v := .int (nI al)) (C := RX6) (T := TX6) (N := 6) hx hb hts in_X6 hown hK hP 0 rfl rfl 2 (by decide) (hts _ q511) (fun _ h9 => h9) rfl dX6_meet_1 ?_
  refine lv_aload_n hx hb dX6_meet_4 rfl (lv_at hl 0 rfl) ?_
  refine va_get (D := D) (ci := 5) (v := .int w0) (C := RX6) (T := TX6) (N := 6) hx hb hts in_X6 hown hK hP 0 rfl rfl 4 (by decide) (hts _ q514) (fun _ h9 => h9) rfl dX6_meet_5 ?_
  refine lv_icmp_ne (tgt := 31) hx hb dX6_meet_8 (by decide) (fun c_1 => ?_) (fun c_1 => absurd c_1 hw)
  refine lv_aload_n hx hb dX6_meet_31 rfl (lv_at hl 0 rfl) ?_
  refine lv_dup hx hb dX6_meet_32 rfl ?_
  refine va_get (D := D) (ci := 5) (v := .int (nI al)) (C := RX6) (T := TX6) (N := 6) hx hb hts in_X6 hown hK hP 0 rfl rfl 2 (by decide) (hts _ q511) (fun _ h9 => h9) rfl dX6_meet_33 ?_
  refine lv_iconst (v := 1) hx hb dX6_meet_36 (by decide) ?_
  refine lv_iadd hx hb dX6_meet_37 ?_
  refine lv_topi (fun z_2 ez_2 => ?_)
  obtain rfl : z_2 = nI (al + 1) := ez_2.trans (eq_add rfl rfl)
  refine va_put (D := D) (ci := 5) (v := .int (nI (al + 1))) (ty := .int) (C := RX6) (T := TX6) (N := 6) hx hb hts in_X6 tyX6 tyX6_ok nmX6 hown hK hP hD hS 0 rfl rfl 2 (by decide) (hts _ q511) (fun _ h9 => h9) rfl (by decide +kernel) rfl rfl (Nat.le_of_ble_eq_true rfl) dX6_meet_38 (fun H locs hP hD hS => ?_)
  have hP : va_P D vwCl [(lo, .inr (5, [.int (nI n0), .int (nI M), .int (nI (al + 1)), .int (nI pr), .int w0, .null]))] H := hP
  have hD : va_D A [(lo, .inr (5, [.int (nI n0), .int (nI M), .int (nI (al + 1)), .int (nI pr), .int w0, .null]))] := hD
  refine lv_aload_n hx hb dX6_meet_41 rfl (lv_at hl 0 rfl) ?_
  refine lv_dup hx hb dX6_meet_42 rfl ?_
  refine va_get (D := D) (ci := 5) (v := .int (nI pr)) (C := RX6) (T := TX6) (N := 6) hx hb hts in_X6 hown hK hP 0 rfl rfl 3 (by decide) (hts _ q512) (fun _ h9 => h9) rfl dX6_meet_43 ?_
  refine lv_iload hx hb dX6_meet_46 (lv_at hl 5 rfl) ?_
  refine lv_if_eq (tgt := 75) hx hb dX6_meet_48 (by decide) (fun c_3 => absurd c_3 (by decide)) (fun c_3 => ?_)
  refine lv_iload_n hx hb dX6_meet_51 rfl (lv_at hl 1 rfl) ?_
  refine lv_i2l (v := (iZ ya).toInt64) hx hb dX6_meet_52 rfl ?_
  refine lv_iload_n hx hb dX6_meet_53 rfl (lv_at hl 2 rfl) ?_
  refine lv_i2l (v := (iZ yb).toInt64) hx hb dX6_meet_54 rfl ?_
  refine lv_iload_n hx hb dX6_meet_55 rfl (lv_at hl 3 rfl) ?_
  refine lv_i2l (v := (iZ yc).toInt64) hx hb dX6_meet_56 rfl ?_
  refine lv_iload hx hb dX6_meet_57 (lv_at hl 4 rfl) ?_
  refine lv_i2l (v := (iZ yd).toInt64) hx hb dX6_meet_59 rfl ?_
  refine lv_aload_n hx hb dX6_meet_60 rfl (lv_at hl 0 rfl) ?_
  refine va_get (D := D) (ci := 5) (v := .int (nI n0)) (C := RX6) (T := TX6) (N := 6) hx hb hts in_X6 hown hK hP 0 rfl rfl 0 (by decide) (hts _ q509) (fun _ h9 => h9) rfl dX6_meet_61 ?_
  refine lv_i2l (v := (nI n0).toInt64) hx hb dX6_meet_64 rfl ?_
  refine lv_topl (fun z_4 ez_4 => ?_)
  obtain rfl : z_4 = lN n0 := ez_4.trans (nI_l (by omega))
  refine k_calli (wr := [(lo, .inr (5, [.int (nI n0), .int (nI M), .int (nI (al + 1)), .int (nI pr), .int w0, .null]))]) (va_runS (As := [.long ((iZ ya).toInt64), .long ((iZ yb).toInt64), .long ((iZ yc).toInt64), .long ((iZ yd).toInt64), .long (lN n0)]) (rest := [.int (nI pr), .ref lo]) ⟨hx, hb, hml, hown, hts⟩ (ct_X1_isAlone hk l D ca H.size ((iZ ya).toInt64) ((iZ yb).toInt64) ((iZ yc).toInt64) ((iZ yd).toInt64) n0 (by omega)) (va_cwS 5 hts (lw_S q544 q369 q20 q370) rfl rfl rfl (by decide +kernel) ⟨Nat.le_of_ble_eq_true rfl, Nat.le_of_ble_eq_true rfl⟩) (k_pre hk hK hN hP hD [] (by decide) rfl trivial) rfl rfl hl.1 rfl (lv_room (Nat.le_of_ble_eq_true rfl)) dX6_meet_65 ⟨Nat.le_of_ble_eq_true rfl, Nat.le_of_ble_eq_true rfl⟩) hP hD hS hA [] [0] rfl rfl (by decide) (by decide) (fun r_5 u_6 H locs w_7 hP hD hxw_7 hzw_7 hqw_7 hS => ?_)
  obtain ⟨hrr_5, hur_5⟩ := w_7
  subst hrr_5
  refine lv_if_eq (tgt := 75) hx hb dX6_meet_68 (by decide) (fun c_8 => ?_) (fun c_8 => ?_)
  · have c_8 := bI_z0 c_8
    refine lv_iconst (v := 0) hx hb dX6_meet_75 (by decide) ?_
    refine lv_iadd hx hb dX6_meet_76 ?_
    refine lv_topi (fun z_9 ez_9 => ?_)
    obtain rfl : z_9 = nI (pr + 1 * alI n0 (ya, yb, yc, yd)) := ez_9.trans (by rw [alI_n (n := n0) (q := (ya, yb, yc, yd)) (fun z => absurd ((hur_5.mpr z).symm.trans c_8) (by decide)), Nat.mul_zero]; exact eq_add (a := pr) (b := 0) rfl rfl)
    refine va_put (D := D) (ci := 5) (v := .int (nI (pr + 1 * alI n0 (ya, yb, yc, yd)))) (ty := .int) (C := RX6) (T := TX6) (N := 6) hx hb hts in_X6 tyX6 tyX6_ok nmX6 hown hK hP hD hS 0 rfl rfl 3 (by decide) (hts _ q512) (fun _ h9 => h9) rfl (by decide +kernel) rfl rfl (Nat.le_of_ble_eq_true rfl) dX6_meet_77 (fun H locs hP hD hS => ?_)
    have hP : va_P D vwCl [(lo, .inr (5, [.int (nI n0), .int (nI M), .int (nI (al + 1)), .int (nI (pr + 1 * alI n0 (ya, yb, yc, yd))), .int w0, .null]))] H := hP
    have hD : va_D A [(lo, .inr (5, [.int (nI n0), .int (nI M), .int (nI (al + 1)), .int (nI (pr + 1 * alI n0 (ya, yb, yc, yd))), .int w0, .null]))] := hD
    exact k_vret () hx hb hr hlocks (trivial) hP hD trivial hS (Nat.le_of_ble_eq_true rfl) (Nat.le_of_ble_eq_true rfl) dX6_meet_80
  · have c_8 := bI_z1 c_8
    refine lv_iconst (v := 1) hx hb dX6_meet_71 (by decide) ?_
    refine lv_goto (tgt := 76) hx hb dX6_meet_72 (by decide) ?_
    refine lv_iadd hx hb dX6_meet_76 ?_
    refine lv_topi (fun z_10 ez_10 => ?_)
    obtain rfl : z_10 = nI (pr + 1 * alI n0 (ya, yb, yc, yd)) := ez_10.trans (by rw [alI_y (n := n0) (q := (ya, yb, yc, yd)) (hur_5.mp c_8), Nat.one_mul]; exact eq_add (a := pr) (b := 1) rfl rfl)
    refine va_put (D := D) (ci := 5) (v := .int (nI (pr + 1 * alI n0 (ya, yb, yc, yd)))) (ty := .int) (C := RX6) (T := TX6) (N := 6) hx hb hts in_X6 tyX6 tyX6_ok nmX6 hown hK hP hD hS 0 rfl rfl 3 (by decide) (hts _ q512) (fun _ h9 => h9) rfl (by decide +kernel) rfl rfl (Nat.le_of_ble_eq_true rfl) dX6_meet_77 (fun H locs hP hD hS => ?_)
    have hP : va_P D vwCl [(lo, .inr (5, [.int (nI n0), .int (nI M), .int (nI (al + 1)), .int (nI (pr + 1 * alI n0 (ya, yb, yc, yd))), .int w0, .null]))] H := hP
    have hD : va_D A [(lo, .inr (5, [.int (nI n0), .int (nI M), .int (nI (al + 1)), .int (nI (pr + 1 * alI n0 (ya, yb, yc, yd))), .int w0, .null]))] := hD
    exact k_vret () hx hb hr hlocks (trivial) hP hD trivial hS (Nat.le_of_ble_eq_true rfl) (Nat.le_of_ble_eq_true rfl) dX6_meet_80
set_option maxHeartbeats 4000000 in
set_option maxRecDepth 100000 in
theorem ct_X6_meet_n0 (l : Launch) (D : va_G) (ca : Nat → ClassId) (zH : Nat) (lo n0 M al pr : Nat) (w0 : Int32) (ya yb yc yd : Int) (hn0 : n0 ≤ 200) (hal : al < 2 ^ 30) (hpr : pr < 2 ^ 30) (hw : ¬ nI al = w0) : Met l yX6_meet (ws_ yX6_meet cX6_meet 6 none) ({ frames := 1, cells := 0, slots := 0, locals := 35 }) (va_Pc [.ref lo, .int (iZ ya), .int (iZ yb), .int (iZ yc), .int (iZ yd), .int 0] (pr_ NW D ca [(lo, .inr (5, [.int (nI n0), .int (nI M), .int (nI al), .int (nI pr), .int w0, .null]))] zH (fun _ => True))) (qV D (fun (u : Unit) => True) (fun u => [(lo, .inr (5, [.int (nI n0), .int (nI M), .int (nI (al + 1)), .int (nI (pr + 0 * alI n0 (ya, yb, yc, yd))), .int w0, .null]))]) (fun u H => True) (va_A [(lo, .inr (5, [.int (nI n0), .int (nI M), .int (nI al), .int (nI pr), .int w0, .null]))] zH)) 0 0 (va_A [(lo, .inr (5, [.int (nI n0), .int (nI M), .int (nI al), .int (nI pr), .int w0, .null]))] zH) := by
  have hk := NW_ok
  refine k_ofW (Qc := qV D (fun (u : Unit) => True) (fun u => [(lo, .inr (5, [.int (nI n0), .int (nI M), .int (nI (al + 1)), .int (nI (pr + 0 * alI n0 (ya, yb, yc, yd))), .int w0, .null]))]) (fun u H => True)) (by decide) (Nat.le_of_ble_eq_true rfl) ?_
  intro p e s m below meth c ls A H hH hx hb hr hts hown hlocks hnm hml hsz hP hD hK hN hA hAn hS hro hl
  have hl : lv_has ls 6 [(0, .ref lo), (1, .int (iZ ya)), (2, .int (iZ yb)), (3, .int (iZ yc)), (4, .int (iZ yd)), (5, .int 0)] := hl
  refine lv_aload_n hx hb dX6_meet_0 rfl (lv_at hl 0 rfl) ?_
  refine va_get (D := D) (ci := 5) (v := .int (nI al)) (C := RX6) (T := TX6) (N := 6) hx hb hts in_X6 hown hK hP 0 rfl rfl 2 (by decide) (hts _ q511) (fun _ h9 => h9) rfl dX6_meet_1 ?_
  refine lv_aload_n hx hb dX6_meet_4 rfl (lv_at hl 0 rfl) ?_
  refine va_get (D := D) (ci := 5) (v := .int w0) (C := RX6) (T := TX6) (N := 6) hx hb hts in_X6 hown hK hP 0 rfl rfl 4 (by decide) (hts _ q514) (fun _ h9 => h9) rfl dX6_meet_5 ?_
  refine lv_icmp_ne (tgt := 31) hx hb dX6_meet_8 (by decide) (fun c_1 => ?_) (fun c_1 => absurd c_1 hw)
  refine lv_aload_n hx hb dX6_meet_31 rfl (lv_at hl 0 rfl) ?_
  refine lv_dup hx hb dX6_meet_32 rfl ?_
  refine va_get (D := D) (ci := 5) (v := .int (nI al)) (C := RX6) (T := TX6) (N := 6) hx hb hts in_X6 hown hK hP 0 rfl rfl 2 (by decide) (hts _ q511) (fun _ h9 => h9) rfl dX6_meet_33 ?_
  refine lv_iconst (v := 1) hx hb dX6_meet_36 (by decide) ?_
  refine lv_iadd hx hb dX6_meet_37 ?_
  refine lv_topi (fun z_2 ez_2 => ?_)
  obtain rfl : z_2 = nI (al + 1) := ez_2.trans (eq_add rfl rfl)
  refine va_put (D := D) (ci := 5) (v := .int (nI (al + 1))) (ty := .int) (C := RX6) (T := TX6) (N := 6) hx hb hts in_X6 tyX6 tyX6_ok nmX6 hown hK hP hD hS 0 rfl rfl 2 (by decide) (hts _ q511) (fun _ h9 => h9) rfl (by decide +kernel) rfl rfl (Nat.le_of_ble_eq_true rfl) dX6_meet_38 (fun H locs hP hD hS => ?_)
  have hP : va_P D vwCl [(lo, .inr (5, [.int (nI n0), .int (nI M), .int (nI (al + 1)), .int (nI pr), .int w0, .null]))] H := hP
  have hD : va_D A [(lo, .inr (5, [.int (nI n0), .int (nI M), .int (nI (al + 1)), .int (nI pr), .int w0, .null]))] := hD
  refine lv_aload_n hx hb dX6_meet_41 rfl (lv_at hl 0 rfl) ?_
  refine lv_dup hx hb dX6_meet_42 rfl ?_
  refine va_get (D := D) (ci := 5) (v := .int (nI pr)) (C := RX6) (T := TX6) (N := 6) hx hb hts in_X6 hown hK hP 0 rfl rfl 3 (by decide) (hts _ q512) (fun _ h9 => h9) rfl dX6_meet_43 ?_
  refine lv_iload hx hb dX6_meet_46 (lv_at hl 5 rfl) ?_
  refine lv_if_eq (tgt := 75) hx hb dX6_meet_48 (by decide) (fun c_3 => ?_) (fun c_3 => absurd (by decide) c_3)
  refine lv_iconst (v := 0) hx hb dX6_meet_75 (by decide) ?_
  refine lv_iadd hx hb dX6_meet_76 ?_
  refine lv_topi (fun z_4 ez_4 => ?_)
  obtain rfl : z_4 = nI (pr + 0 * alI n0 (ya, yb, yc, yd)) := ez_4.trans (by rw [Nat.zero_mul]; exact eq_add (a := pr) (b := 0) rfl rfl)
  refine va_put (D := D) (ci := 5) (v := .int (nI (pr + 0 * alI n0 (ya, yb, yc, yd)))) (ty := .int) (C := RX6) (T := TX6) (N := 6) hx hb hts in_X6 tyX6 tyX6_ok nmX6 hown hK hP hD hS 0 rfl rfl 3 (by decide) (hts _ q512) (fun _ h9 => h9) rfl (by decide +kernel) rfl rfl (Nat.le_of_ble_eq_true rfl) dX6_meet_77 (fun H locs hP hD hS => ?_)
  have hP : va_P D vwCl [(lo, .inr (5, [.int (nI n0), .int (nI M), .int (nI (al + 1)), .int (nI (pr + 0 * alI n0 (ya, yb, yc, yd))), .int w0, .null]))] H := hP
  have hD : va_D A [(lo, .inr (5, [.int (nI n0), .int (nI M), .int (nI (al + 1)), .int (nI (pr + 0 * alI n0 (ya, yb, yc, yd))), .int w0, .null]))] := hD
  exact k_vret () hx hb hr hlocks (trivial) hP hD trivial hS (Nat.le_of_ble_eq_true rfl) (Nat.le_of_ble_eq_true rfl) dX6_meet_80
set_option maxHeartbeats 4000000 in
set_option maxRecDepth 100000 in
theorem ct_X6_meet_y (l : Launch) (D : va_G) (ca : Nat → ClassId) (zH : Nat) (lo n0 M al pr : Nat) (w0 : Int32) (ya yb yc yd : Int) (hn0 : n0 ≤ 200) (hal : al < 2 ^ 30) (hw : nI al = w0) : Met l yX6_meet (ws_ yX6_meet cX6_meet 6 none) ({ frames := 2, cells := 1, slots := 4, locals := 48 }) (va_Pc [.ref lo, .int (iZ ya), .int (iZ yb), .int (iZ yc), .int (iZ yd), .int 0] (pr_ NW D ca [(lo, .inr (5, [.int (nI n0), .int (nI M), .int (nI al), .int (nI pr), .int w0, .null]))] zH (fun _ => True))) (qV D (fun (u : Nat) => True) (fun u => [(lo, .inr (5, [.int (nI n0), .int (nI M), .int (nI (al + 1)), .int (nI pr), .int w0, .ref u])), (u, f4 (qz (ya, yb, yc, yd)))]) (fun u H => True) (va_A [(lo, .inr (5, [.int (nI n0), .int (nI M), .int (nI al), .int (nI pr), .int w0, .null]))] zH)) 1 4 (va_A [(lo, .inr (5, [.int (nI n0), .int (nI M), .int (nI al), .int (nI pr), .int w0, .null]))] zH) := by
  have hk := NW_ok
  refine k_ofW (Qc := qV D (fun (u : Nat) => True) (fun u => [(lo, .inr (5, [.int (nI n0), .int (nI M), .int (nI (al + 1)), .int (nI pr), .int w0, .ref u])), (u, f4 (qz (ya, yb, yc, yd)))]) (fun u H => True)) (by decide) (Nat.le_of_ble_eq_true rfl) ?_
  intro p e s m below meth c ls A H hH hx hb hr hts hown hlocks hnm hml hsz hP hD hK hN hA hAn hS hro hl
  have hl : lv_has ls 6 [(0, .ref lo), (1, .int (iZ ya)), (2, .int (iZ yb)), (3, .int (iZ yc)), (4, .int (iZ yd)), (5, .int 0)] := hl
  refine lv_aload_n hx hb dX6_meet_0 rfl (lv_at hl 0 rfl) ?_
  refine va_get (D := D) (ci := 5) (v := .int (nI al)) (C := RX6) (T := TX6) (N := 6) hx hb hts in_X6 hown hK hP 0 rfl rfl 2 (by decide) (hts _ q511) (fun _ h9 => h9) rfl dX6_meet_1 ?_
  refine lv_aload_n hx hb dX6_meet_4 rfl (lv_at hl 0 rfl) ?_
  refine va_get (D := D) (ci := 5) (v := .int w0) (C := RX6) (T := TX6) (N := 6) hx hb hts in_X6 hown hK hP 0 rfl rfl 4 (by decide) (hts _ q514) (fun _ h9 => h9) rfl dX6_meet_5 ?_
  refine lv_icmp_ne (tgt := 31) hx hb dX6_meet_8 (by decide) (fun c_1 => absurd hw c_1) (fun c_1 => ?_)
  refine lv_aload_n hx hb dX6_meet_11 rfl (lv_at hl 0 rfl) ?_
  refine va_new (ci := 1) (fs := [.long 0, .long 0, .long 0, .long 0]) (C := RX1) (T := TX1) (N := 4) hx hb hts in_X1 tyX1 tyX1_ok hown (hts _ q542) (hts _ q228) (hts _ q20) hK hP hD hS hA rfl (fun j hj => by rcases (show j = 0 ∨ j = 1 ∨ j = 2 ∨ j = 3 by omega) with rfl | rfl | rfl | rfl <;> rfl) (Nat.le_of_ble_eq_true rfl) (Nat.le_of_ble_eq_true rfl) dX6_meet_12 (fun q_2 H hP hD hS => ?_)
  have hP : va_P D vwCl [(lo, .inr (5, [.int (nI n0), .int (nI M), .int (nI al), .int (nI pr), .int w0, .null])), (q_2, .inr (1, [.long 0, .long 0, .long 0, .long 0]))] H := hP
  have hD : va_D A [(lo, .inr (5, [.int (nI n0), .int (nI M), .int (nI al), .int (nI pr), .int w0, .null])), (q_2, .inr (1, [.long 0, .long 0, .long 0, .long 0]))] := hD
  refine lv_dup hx hb dX6_meet_15 rfl ?_
  refine lv_iload_n hx hb dX6_meet_16 rfl (lv_at hl 1 rfl) ?_
  refine lv_i2l (v := (iZ ya).toInt64) hx hb dX6_meet_17 rfl ?_
  refine lv_iload_n hx hb dX6_meet_18 rfl (lv_at hl 2 rfl) ?_
  refine lv_i2l (v := (iZ yb).toInt64) hx hb dX6_meet_19 rfl ?_
  refine lv_iload_n hx hb dX6_meet_20 rfl (lv_at hl 3 rfl) ?_
  refine lv_i2l (v := (iZ yc).toInt64) hx hb dX6_meet_21 rfl ?_
  refine lv_iload hx hb dX6_meet_22 (lv_at hl 4 rfl) ?_
  refine lv_i2l (v := (iZ yd).toInt64) hx hb dX6_meet_24 rfl ?_
  refine k_callv (wr := [(lo, .inr (5, [.int (nI n0), .int (nI M), .int (nI al), .int (nI pr), .int w0, .null]))]) (va_runI (As := [.long ((iZ ya).toInt64), .long ((iZ yb).toInt64), .long ((iZ yc).toInt64), .long ((iZ yd).toInt64)]) (rest := [.ref q_2, .ref lo]) ⟨hx, hb, hml, hown, hts⟩ (ct_X1_init hk l D ca H.size q_2 ((iZ ya).toInt64) ((iZ yb).toInt64) ((iZ yc).toInt64) ((iZ yd).toInt64) (0, 0, 0, 0)) (cwI 4 hts (lw_meth q231) rfl rfl rfl (hts _ q20) (hts _ q543) (hts _ q230) rfl (by decide +kernel) ⟨Nat.le_of_ble_eq_true rfl, Nat.le_of_ble_eq_true rfl⟩) (k_pre hk hK hN hP hD [1] (by decide) rfl trivial) rfl rfl hl.1 rfl (lv_room (Nat.le_of_ble_eq_true rfl)) dX6_meet_25 ⟨Nat.le_of_ble_eq_true rfl, Nat.le_of_ble_eq_true rfl⟩) hP hD hS hA [1] [0] rfl rfl (by decide) (by decide) (fun u_4 H locs w_5 hP hD hxw_5 hzw_5 hqw_5 hS => ?_)
  have hP : va_P D vwCl [(lo, .inr (5, [.int (nI n0), .int (nI M), .int (nI al), .int (nI pr), .int w0, .null])), (q_2, f4 ((iZ ya).toInt64, (iZ yb).toInt64, (iZ yc).toInt64, (iZ yd).toInt64))] H := hP
  have hD : va_D A [(lo, .inr (5, [.int (nI n0), .int (nI M), .int (nI al), .int (nI pr), .int w0, .null])), (q_2, f4 ((iZ ya).toInt64, (iZ yb).toInt64, (iZ yc).toInt64, (iZ yd).toInt64))] := hD
  refine va_put (D := D) (ci := 5) (v := .ref q_2) (ty := (.object "FourParts$Four")) (C := RX6) (T := TX6) (N := 6) hx hb hts in_X6 tyX6 tyX6_ok nmX6 hown hK hP hD hS 0 rfl rfl 5 (by decide) (hts _ q515) (fun _ h9 => h9) rfl (by decide +kernel) rfl rfl (Nat.le_of_ble_eq_true rfl) dX6_meet_28 (fun H locs hP hD hS => ?_)
  have hP : va_P D vwCl [(lo, .inr (5, [.int (nI n0), .int (nI M), .int (nI al), .int (nI pr), .int w0, .ref q_2])), (q_2, f4 ((iZ ya).toInt64, (iZ yb).toInt64, (iZ yc).toInt64, (iZ yd).toInt64))] H := hP
  have hD : va_D A [(lo, .inr (5, [.int (nI n0), .int (nI M), .int (nI al), .int (nI pr), .int w0, .ref q_2])), (q_2, f4 ((iZ ya).toInt64, (iZ yb).toInt64, (iZ yc).toInt64, (iZ yd).toInt64))] := hD
  refine lv_aload_n hx hb dX6_meet_31 rfl (lv_at hl 0 rfl) ?_
  refine lv_dup hx hb dX6_meet_32 rfl ?_
  refine va_get (D := D) (ci := 5) (v := .int (nI al)) (C := RX6) (T := TX6) (N := 6) hx hb hts in_X6 hown hK hP 0 rfl rfl 2 (by decide) (hts _ q511) (fun _ h9 => h9) rfl dX6_meet_33 ?_
  refine lv_iconst (v := 1) hx hb dX6_meet_36 (by decide) ?_
  refine lv_iadd hx hb dX6_meet_37 ?_
  refine lv_topi (fun z_6 ez_6 => ?_)
  obtain rfl : z_6 = nI (al + 1) := ez_6.trans (eq_add rfl rfl)
  refine va_put (D := D) (ci := 5) (v := .int (nI (al + 1))) (ty := .int) (C := RX6) (T := TX6) (N := 6) hx hb hts in_X6 tyX6 tyX6_ok nmX6 hown hK hP hD hS 0 rfl rfl 2 (by decide) (hts _ q511) (fun _ h9 => h9) rfl (by decide +kernel) rfl rfl (Nat.le_of_ble_eq_true rfl) dX6_meet_38 (fun H locs hP hD hS => ?_)
  have hP : va_P D vwCl [(lo, .inr (5, [.int (nI n0), .int (nI M), .int (nI (al + 1)), .int (nI pr), .int w0, .ref q_2])), (q_2, f4 ((iZ ya).toInt64, (iZ yb).toInt64, (iZ yc).toInt64, (iZ yd).toInt64))] H := hP
  have hD : va_D A [(lo, .inr (5, [.int (nI n0), .int (nI M), .int (nI (al + 1)), .int (nI pr), .int w0, .ref q_2])), (q_2, f4 ((iZ ya).toInt64, (iZ yb).toInt64, (iZ yc).toInt64, (iZ yd).toInt64))] := hD
  refine lv_aload_n hx hb dX6_meet_41 rfl (lv_at hl 0 rfl) ?_
  refine lv_dup hx hb dX6_meet_42 rfl ?_
  refine va_get (D := D) (ci := 5) (v := .int (nI pr)) (C := RX6) (T := TX6) (N := 6) hx hb hts in_X6 hown hK hP 0 rfl rfl 3 (by decide) (hts _ q512) (fun _ h9 => h9) rfl dX6_meet_43 ?_
  refine lv_iload hx hb dX6_meet_46 (lv_at hl 5 rfl) ?_
  refine lv_if_eq (tgt := 75) hx hb dX6_meet_48 (by decide) (fun c_7 => ?_) (fun c_7 => absurd (by decide) c_7)
  refine lv_iconst (v := 0) hx hb dX6_meet_75 (by decide) ?_
  refine lv_iadd hx hb dX6_meet_76 ?_
  refine lv_topi (fun z_8 ez_8 => ?_)
  obtain rfl : z_8 = nI pr := ez_8.trans (eq_add (a := pr) (b := 0) rfl rfl)
  refine va_put (D := D) (ci := 5) (v := .int (nI pr)) (ty := .int) (C := RX6) (T := TX6) (N := 6) hx hb hts in_X6 tyX6 tyX6_ok nmX6 hown hK hP hD hS 0 rfl rfl 3 (by decide) (hts _ q512) (fun _ h9 => h9) rfl (by decide +kernel) rfl rfl (Nat.le_of_ble_eq_true rfl) dX6_meet_77 (fun H locs hP hD hS => ?_)
  have hP : va_P D vwCl [(lo, .inr (5, [.int (nI n0), .int (nI M), .int (nI (al + 1)), .int (nI pr), .int w0, .ref q_2])), (q_2, f4 ((iZ ya).toInt64, (iZ yb).toInt64, (iZ yc).toInt64, (iZ yd).toInt64))] H := hP
  have hD : va_D A [(lo, .inr (5, [.int (nI n0), .int (nI M), .int (nI (al + 1)), .int (nI pr), .int w0, .ref q_2])), (q_2, f4 ((iZ ya).toInt64, (iZ yb).toInt64, (iZ yc).toInt64, (iZ yd).toInt64))] := hD
  exact k_vret q_2 hx hb hr hlocks (trivial) hP hD trivial hS (Nat.le_of_ble_eq_true rfl) (Nat.le_of_ble_eq_true rfl) dX6_meet_80
