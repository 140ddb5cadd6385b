set_option maxHeartbeats 4000000 in
set_option maxRecDepth 100000 in
theorem lp_X6_last_y  {l : Launch} {D : va_G} {ca : Nat → ClassId} (lo : Nat) (n0 : Nat) (M : Nat) (al : Nat) (pr : Nat) (ww : Nat) (ya : Int) (yb : Int) (yc : Int) (lf : Int) (N : Int) (hn0 : n0 ≤ 200) (hal : al < 2 ^ 29) (hpr : pr < 2 ^ 29) (hba : -28 ≤ ya ∧ ya ≤ 28) (hbb : -28 ≤ yb ∧ yb ≤ 28) (hbc : -28 ≤ yc ∧ yc ≤ 28) (hlf : lf ≤ 800) (hlf0 : -2400 ≤ lf) (hNl : lf = N - ya * ya - yb * yb - yc * yc) (hab : (ya - yb) % 2 = 0) (hM : N < (((M + 1) * (M + 1) : Nat) : Int)) (hw1 : al ≤ ww) (hw2 : ww < al + (ds N M ya yb yc).length) (hac : (ya - yc) % 2 = 0) {p : Program} {e : Env} {s : State} {m : MethodId} {below : List Frame} {meth : Method} {c : Code} {A : Nat → Prop}  (hx : p.tables.exec = Jvm.exec) (hb : c.code = cX6_last) (hr : meth.sig.returnType = none) (hts : ∀ w ∈ lw_all, w.before ([.ref lo, .int (iZ ya), .int (iZ yb), .int (iZ yc), .int (iZ lf), .int 0] : List Value).toArray s = true) (hown : s.vm.findClass yX6_last.cls = some m.cls) (hlocks : meth.locks = false) (hnm : meth.name = yX6_last.name) (hml : c.maxLocals = 7) (hK : va_K D vwCl (tysG ca) s) (hN : NW s) (hA : ∀ q, s.heap.size ≤ q → A q)  :
    ∀ (n : Nat) (d : Nat), (∀ e : Nat, e < d → ((e * e : Nat) : Int) < lf) → (30 ≤ n + d) →  ∀ (H : Heap) (locs : List Loc) (ls : Array Slot), va_P D vwCl [(lo, .inr (5, [.int (nI n0), .int (nI M), .int (nI al), .int (nI pr), .int (nI ww), .null]))] H → va_D A [(lo, .inr (5, [.int (nI n0), .int (nI M), .int (nI al), .int (nI pr), .int (nI ww), .null]))] → va_S A s.heap H locs → lv_has ls 7 [(6, .int (nI d)), (0, .ref lo), (1, .int (iZ ya)), (2, .int (iZ yb)), (3, .int (iZ yc)), (4, .int (iZ lf)), (5, .int 0)] → W p l e ({ frames := 3, cells := 1, slots := 4, locals := 73 }) s m ([.ref lo, .int (iZ ya), .int (iZ yb), .int (iZ yc), .int (iZ lf), .int 0] : List Value).toArray below meth c H locs 0 0 (MQ below (qV D (fun (u : Nat) => True) (fun u => [(lo, .inr (5, [.int (nI n0), .int (nI M), .int (nI (ww + 1)), .int (nI pr), .int (nI ww), .ref u])), (u, f4 (qz ((S3 N M ya yb yc).getD (ww - al) (0, 0, 0, 0))))]) (fun u H => True) A) ([.ref lo, .int (iZ ya), .int (iZ yb), .int (iZ yc), .int (iZ lf), .int 0] : List Value).toArray s 1 4 A) (F0 m 17 ls []) := by
  intro n
  induction n with
  | zero =>
    intro d hd hfuel H locs ls hP hD hS hl 
    have := dz_bd hd hlf; omega
  | succ n ih =>
    intro d hd hfuel H locs ls hP hD hS hl 
    have hk := NW_ok
    refine lv_iload hx hb dX6_last_17 (lv_at hl 0 rfl) ?_
    refine lv_iload hx hb dX6_last_19 (lv_at hl 0 rfl) ?_
    refine lv_imul hx hb dX6_last_21 ?_
    refine lv_topi (fun z_1 ez_1 => ?_)
    obtain rfl : z_1 = iZ (((d : Nat) : Int) * ((d : Nat) : Int)) := ez_1.trans (zmul (iZ_n _) (iZ_n _))
    refine lv_iload hx hb dX6_last_22 (lv_at hl 5 rfl) ?_
    refine lv_icmp_ge (tgt := 33) hx hb dX6_last_24 (by decide) (fun c_2 => ?_) (fun c_2 => ?_)
    · obtain ⟨hd1, hd2, hd3⟩ := dz_bd hd hlf
      have c_2 := lez_y (a := lf) (b := ((d : Nat) : Int) * ((d : Nat) : Int)) rfl rfl (by omega) (by omega) c_2
      refine lv_iload hx hb dX6_last_33 (lv_at hl 0 rfl) ?_
      refine lv_iload hx hb dX6_last_35 (lv_at hl 0 rfl) ?_
      refine lv_imul hx hb dX6_last_37 ?_
      refine lv_topi (fun z_3 ez_3 => ?_)
      obtain rfl : z_3 = iZ (((d : Nat) : Int) * ((d : Nat) : Int)) := ez_3.trans (zmul (iZ_n _) (iZ_n _))
      refine lv_iload hx hb dX6_last_38 (lv_at hl 5 rfl) ?_
      refine lv_icmp_ne (tgt := 87) hx hb dX6_last_40 (by decide) (fun c_4 => ?_) (fun c_4 => ?_)
      · have c_4 := eqz_no (a := ((d : Nat) : Int) * ((d : Nat) : Int)) (b := lf) rfl rfl (by omega) (by omega) c_4
        have hds : ds N M ya yb yc = [] := ds_nsq hNl hd (fun z => c_4 (by rw [← z, Int.natCast_mul])) (by rw [Int.natCast_mul]; exact c_2)
        exact absurd hw2 (by rw [hds]; simp; omega)
      · have c_4 := eqz_y (a := ((d : Nat) : Int) * ((d : Nat) : Int)) (b := lf) rfl rfl (by omega) (by omega) c_4
        refine lv_iload hx hb dX6_last_43 (lv_at hl 0 rfl) ?_
        refine lv_iload_n hx hb dX6_last_45 rfl (lv_at hl 2 rfl) ?_
        refine lv_isub hx hb dX6_last_46 ?_
        refine lv_topi (fun z_5 ez_5 => ?_)
        obtain rfl : z_5 = iZ (((d : Nat) : Int) - ya) := ez_5.trans (zsub (iZ_n _) rfl)
        refine lv_iconst (v := 2) hx hb dX6_last_47 (by decide) ?_
        refine lv_irem hx hb dX6_last_48 (by decide) ?_
        refine lv_topi (fun z_6 ez_6 => ?_)
        obtain rfl : z_6 = iZ (rm2 (((d : Nat) : Int) - ya)) := ez_6.trans (remz2 rfl (by omega))
        have bz_6 := rm2_bd (((d : Nat) : Int) - ya)
        refine lv_if_ne (tgt := 87) hx hb dX6_last_49 (by decide) (fun c_7 => ?_) (fun c_7 => ?_)
        · have c_7 := eqz_no (a := rm2 (((d : Nat) : Int) - ya)) (b := 0) rfl (by decide) (by omega) (by omega) c_7
          have hds : ds N M ya yb yc = [] := ds_npar hNl (dz_c c_4) (fun z => c_7 ((rm2_0 _).mpr z))
          exact absurd hw2 (by rw [hds]; simp; omega)
        · have c_7 := eqz_y (a := rm2 (((d : Nat) : Int) - ya)) (b := 0) rfl (by decide) (by omega) (by omega) c_7
          have hds := ds_sq (M := M) hNl hab hac hM (d := d) (dz_c c_4) ((rm2_0 _).mp c_7)
          have hai := alI_le n0 (ya, yb, yc, ((d : Nat) : Int))
          have hlen : (ds N M ya yb yc).length ≤ 2 := by rw [hds]; split <;> simp
          rcases (show ww = al ∨ ww = al + 1 by omega) with hw3 | hw3
          · refine lv_aload_n hx hb dX6_last_52 rfl (lv_at hl 1 rfl) ?_
            refine lv_iload_n hx hb dX6_last_53 rfl (lv_at hl 2 rfl) ?_
            refine lv_iload_n hx hb dX6_last_54 rfl (lv_at hl 3 rfl) ?_
            refine lv_iload_n hx hb dX6_last_55 rfl (lv_at hl 4 rfl) ?_
            refine lv_iload hx hb dX6_last_56 (lv_at hl 0 rfl) ?_
            refine lv_topi (fun z_8 ez_8 => ?_)
            obtain rfl : z_8 = iZ ((d : Nat) : Int) := ez_8.trans (iZ_n d)
            refine lv_iload hx hb dX6_last_58 (lv_at hl 6 rfl) ?_
            refine k_callv (wr := []) (va_runV (As := [.int (iZ ya), .int (iZ yb), .int (iZ yc), .int (iZ ((d : Nat) : Int)), .int 0]) (rest := []) ⟨hx, hb, hml, hown, hts⟩ (ct_X6_meet_y l D ca H.size lo n0 M al pr (nI ww) ya yb yc ((d : Nat) : Int) (by omega) (by omega) (by rw [hw3])) (cwV 5 hts (lw_V q538 q540 qs5 q36 q541) rfl rfl rfl (by decide +kernel) ⟨Nat.le_of_ble_eq_true rfl, Nat.le_of_ble_eq_true rfl⟩) (k_preV hk hK hN hP hD [0] (by decide) rfl trivial hP rfl (q0 := 0) rfl) rfl rfl hl.1 rfl (lv_room (Nat.le_of_ble_eq_true rfl)) dX6_last_60 ⟨Nat.le_of_ble_eq_true rfl, Nat.le_of_ble_eq_true rfl⟩) hP hD hS hA [0] [] rfl rfl (by decide) (by decide) (fun u_10 H locs w_11 hP hD hxw_11 hzw_11 hqw_11 hS => ?_)
            have hP : va_P D vwCl [(lo, .inr (5, [.int (nI n0), .int (nI M), .int (nI (al + 1)), .int (nI pr), .int (nI ww), .ref u_10])), (u_10, f4 (qz (ya, yb, yc, ((d : Nat) : Int))))] H := hP
            have hD : va_D A [(lo, .inr (5, [.int (nI n0), .int (nI M), .int (nI (al + 1)), .int (nI pr), .int (nI ww), .ref u_10])), (u_10, f4 (qz (ya, yb, yc, ((d : Nat) : Int))))] := hD
            refine lv_iload hx hb dX6_last_63 (lv_at hl 0 rfl) ?_
            refine lv_if_le (tgt := 87) hx hb dX6_last_65 (by decide) (fun c_12 => ?_) (fun c_12 => ?_)
            · have c_12 := le_y (a := d) (b := 0) rfl rfl (by omega) (by omega) c_12
              have hgd : (S3 N M ya yb yc).getD (ww - al) (0, 0, 0, 0) = (ya, yb, yc, ((d : Nat) : Int)) := by
                rw [S3, hds, hw3, Nat.sub_self]; split
                · rfl
                · obtain rfl : d = 0 := by omega
                  rfl
              have hw4 : ww + 1 = al + 1 := by omega
              have hP : va_P D vwCl [(lo, .inr (5, [.int (nI n0), .int (nI M), .int (nI (ww + 1)), .int (nI pr), .int (nI ww), .ref u_10])), (u_10, f4 (qz ((S3 N M ya yb yc).getD (ww - al) (0, 0, 0, 0))))] H := by rw [hgd, hw4]; exact hP.sub [0, 1] rfl
              have hD : va_D A [(lo, .inr (5, [.int (nI n0), .int (nI M), .int (nI (ww + 1)), .int (nI pr), .int (nI ww), .ref u_10])), (u_10, f4 (qz ((S3 N M ya yb yc).getD (ww - al) (0, 0, 0, 0))))] := by rw [hgd, hw4]; exact hD.sub [0, 1] (by decide) rfl
              exact k_vret u_10 hx hb hr hlocks trivial hP hD trivial hS (Nat.le_of_ble_eq_true rfl) (Nat.le_of_ble_eq_true rfl) dX6_last_87
            · have c_12 := le_no (a := d) (b := 0) rfl rfl (by omega) (by omega) c_12
              refine lv_aload_n hx hb dX6_last_68 rfl (lv_at hl 1 rfl) ?_
              refine va_get (D := D) (ci := 5) (v := .ref u_10) (C := RX6) (T := TX6) (N := 6) hx hb hts in_X6 hown hK hP 0 rfl rfl 5 (by decide) (hts _ q515) (fun _ h9 => h9) rfl dX6_last_69 ?_
              refine lv_ifnonnull (tgt := 87) hx hb dX6_last_72 (by decide) ?_
              have hgd : (S3 N M ya yb yc).getD (ww - al) (0, 0, 0, 0) = (ya, yb, yc, ((d : Nat) : Int)) := by
                rw [S3, hds, hw3, Nat.sub_self]; split
                · rfl
                · obtain rfl : d = 0 := by omega
                  rfl
              have hw4 : ww + 1 = al + 1 := by omega
              have hP : va_P D vwCl [(lo, .inr (5, [.int (nI n0), .int (nI M), .int (nI (ww + 1)), .int (nI pr), .int (nI ww), .ref u_10])), (u_10, f4 (qz ((S3 N M ya yb yc).getD (ww - al) (0, 0, 0, 0))))] H := by rw [hgd, hw4]; exact hP.sub [0, 1] rfl
              have hD : va_D A [(lo, .inr (5, [.int (nI n0), .int (nI M), .int (nI (ww + 1)), .int (nI pr), .int (nI ww), .ref u_10])), (u_10, f4 (qz ((S3 N M ya yb yc).getD (ww - al) (0, 0, 0, 0))))] := by rw [hgd, hw4]; exact hD.sub [0, 1] (by decide) rfl
              exact k_vret u_10 hx hb hr hlocks trivial hP hD trivial hS (Nat.le_of_ble_eq_true rfl) (Nat.le_of_ble_eq_true rfl) dX6_last_87
          · have hd0 : 0 < d := by
              rcases Nat.eq_zero_or_pos d with e0 | e0
              · rw [e0, if_neg (Nat.lt_irrefl 0)] at hds
                rw [hds] at hw2
                simp at hw2
                omega
              · exact e0
            refine lv_aload_n hx hb dX6_last_52 rfl (lv_at hl 1 rfl) ?_
            refine lv_iload_n hx hb dX6_last_53 rfl (lv_at hl 2 rfl) ?_
            refine lv_iload_n hx hb dX6_last_54 rfl (lv_at hl 3 rfl) ?_
            refine lv_iload_n hx hb dX6_last_55 rfl (lv_at hl 4 rfl) ?_
            refine lv_iload hx hb dX6_last_56 (lv_at hl 0 rfl) ?_
            refine lv_topi (fun z_13 ez_13 => ?_)
            obtain rfl : z_13 = iZ ((d : Nat) : Int) := ez_13.trans (iZ_n d)
            refine lv_iload hx hb dX6_last_58 (lv_at hl 6 rfl) ?_
            refine k_callv (wr := []) (va_runV (As := [.int (iZ ya), .int (iZ yb), .int (iZ yc), .int (iZ ((d : Nat) : Int)), .int 0]) (rest := []) ⟨hx, hb, hml, hown, hts⟩ (ct_X6_meet_n0 l D ca H.size lo n0 M al pr (nI ww) ya yb yc ((d : Nat) : Int) (by omega) (by omega) (by omega) (fun z => absurd (eq_y (a := al) (b := ww) rfl rfl (by omega) (by omega) z) (by omega))) (cwV 5 hts (lw_V q538 q540 qs5 q36 q541) rfl rfl rfl (by decide +kernel) ⟨Nat.le_of_ble_eq_true rfl, Nat.le_of_ble_eq_true rfl⟩) (k_preV hk hK hN hP hD [0] (by decide) rfl trivial hP rfl (q0 := 0) rfl) rfl rfl hl.1 rfl (lv_room (Nat.le_of_ble_eq_true rfl)) dX6_last_60 ⟨Nat.le_of_ble_eq_true rfl, Nat.le_of_ble_eq_true rfl⟩) hP hD hS hA [0] [] rfl rfl (by decide) (by decide) (fun u_15 H locs w_16 hP hD hxw_16 hzw_16 hqw_16 hS => ?_)
            have hP : va_P D vwCl [(lo, .inr (5, [.int (nI n0), .int (nI M), .int (nI (al + 1)), .int (nI (pr + 0 * alI n0 (ya, yb, yc, ((d : Nat) : Int)))), .int (nI ww), .null]))] H := hP
            have hD : va_D A [(lo, .inr (5, [.int (nI n0), .int (nI M), .int (nI (al + 1)), .int (nI (pr + 0 * alI n0 (ya, yb, yc, ((d : Nat) : Int)))), .int (nI ww), .null]))] := hD
            refine lv_iload hx hb dX6_last_63 (lv_at hl 0 rfl) ?_
            refine lv_if_le (tgt := 87) hx hb dX6_last_65 (by decide) (fun c_17 => absurd c_17 (fun z => absurd ((le_n (a := d) (b := 0) rfl rfl (by omega) (by decide)).mp z) (by omega))) (fun c_17 => ?_)
            refine lv_aload_n hx hb dX6_last_68 rfl (lv_at hl 1 rfl) ?_
            refine va_get (D := D) (ci := 5) (v := .null) (C := RX6) (T := TX6) (N := 6) hx hb hts in_X6 hown hK hP 0 rfl rfl 5 (by decide) (hts _ q515) (fun _ h9 => h9) rfl dX6_last_69 ?_
            refine lv_ifnonnullN hx hb dX6_last_72 ?_
            refine lv_aload_n hx hb dX6_last_75 rfl (lv_at hl 1 rfl) ?_
            refine lv_iload_n hx hb dX6_last_76 rfl (lv_at hl 2 rfl) ?_
            refine lv_iload_n hx hb dX6_last_77 rfl (lv_at hl 3 rfl) ?_
            refine lv_iload_n hx hb dX6_last_78 rfl (lv_at hl 4 rfl) ?_
            refine lv_iload hx hb dX6_last_79 (lv_at hl 0 rfl) ?_
            refine lv_ineg hx hb dX6_last_81 ?_
            refine lv_topi (fun z_18 ez_18 => ?_)
            obtain rfl : z_18 = iZ (-((d : Nat) : Int)) := ez_18.trans (zneg (iZ_n _))
            refine lv_iload hx hb dX6_last_82 (lv_at hl 6 rfl) ?_
            refine k_callv (wr := []) (va_runV (As := [.int (iZ ya), .int (iZ yb), .int (iZ yc), .int (iZ (-((d : Nat) : Int))), .int 0]) (rest := []) ⟨hx, hb, hml, hown, hts⟩ (ct_X6_meet_y l D ca H.size lo n0 M (al + 1) (pr + 0 * alI n0 (ya, yb, yc, ((d : Nat) : Int))) (nI ww) ya yb yc (-((d : Nat) : Int)) (by omega) (by omega) (by rw [hw3])) (cwV 5 hts (lw_V q538 q540 qs5 q36 q541) rfl rfl rfl (by decide +kernel) ⟨Nat.le_of_ble_eq_true rfl, Nat.le_of_ble_eq_true rfl⟩) (k_preV hk hK hN hP hD [0] (by decide) rfl trivial hP rfl (q0 := 0) rfl) rfl rfl hl.1 rfl (lv_room (Nat.le_of_ble_eq_true rfl)) dX6_last_84 ⟨Nat.le_of_ble_eq_true rfl, Nat.le_of_ble_eq_true rfl⟩) hP hD hS hA [0] [] rfl rfl (by decide) (by decide) (fun u_20 H locs w_21 hP hD hxw_21 hzw_21 hqw_21 hS => ?_)
            have hP : va_P D vwCl [(lo, .inr (5, [.int (nI n0), .int (nI M), .int (nI ((al + 1) + 1)), .int (nI (pr + 0 * alI n0 (ya, yb, yc, ((d : Nat) : Int)))), .int (nI ww), .ref u_20])), (u_20, f4 (qz (ya, yb, yc, -((d : Nat) : Int))))] H := hP
            have hD : va_D A [(lo, .inr (5, [.int (nI n0), .int (nI M), .int (nI ((al + 1) + 1)), .int (nI (pr + 0 * alI n0 (ya, yb, yc, ((d : Nat) : Int)))), .int (nI ww), .ref u_20])), (u_20, f4 (qz (ya, yb, yc, -((d : Nat) : Int))))] := hD
            have hgd : (S3 N M ya yb yc).getD (ww - al) (0, 0, 0, 0) = (ya, yb, yc, -((d : Nat) : Int)) := by
              rw [S3, hds, if_pos (show 0 < d by omega), hw3, Nat.add_sub_cancel_left]; rfl
            have hz0 : pr + 0 * alI n0 (ya, yb, yc, ((d : Nat) : Int)) = pr := by rw [Nat.zero_mul, Nat.add_zero]
            rw [hz0] at hP hD
            have hw4 : ww + 1 = (al + 1) + 1 := by omega
            have hP : va_P D vwCl [(lo, .inr (5, [.int (nI n0), .int (nI M), .int (nI (ww + 1)), .int (nI pr), .int (nI ww), .ref u_20])), (u_20, f4 (qz ((S3 N M ya yb yc).getD (ww - al) (0, 0, 0, 0))))] H := by rw [hgd, hw4]; exact hP.sub [0, 1] rfl
            have hD : va_D A [(lo, .inr (5, [.int (nI n0), .int (nI M), .int (nI (ww + 1)), .int (nI pr), .int (nI ww), .ref u_20])), (u_20, f4 (qz ((S3 N M ya yb yc).getD (ww - al) (0, 0, 0, 0))))] := by rw [hgd, hw4]; exact hD.sub [0, 1] (by decide) rfl
            exact k_vret u_20 hx hb hr hlocks trivial hP hD trivial hS (Nat.le_of_ble_eq_true rfl) (Nat.le_of_ble_eq_true rfl) dX6_last_87
    · obtain ⟨hd1, hd2, hd3⟩ := dz_bd hd hlf
      have c_2 := lez_no (a := lf) (b := ((d : Nat) : Int) * ((d : Nat) : Int)) rfl rfl (by omega) (by omega) c_2
      refine lv_iinc (v := nI (d + 1)) (lv' := [(6, .int (nI (d + 1))), (0, .ref lo), (1, .int (iZ ya)), (2, .int (iZ yb)), (3, .int (iZ yc)), (4, .int (iZ lf)), (5, .int 0)]) hx hb dX6_last_27 hl (k := 0) rfl (eq_add rfl rfl) (by decide) rfl (fun ls hl => ?_)
      refine lv_goto (tgt := 17) hx hb dX6_last_30 (by decide) ?_
      exact ih (d + 1) (dz_ext hd c_2) (by omega) _ _ _ hP hD hS (lv_sub hl [0, 1, 2, 3, 4, 5, 6] rfl) 
set_option maxHeartbeats 4000000 in
set_option maxRecDepth 100000 in
theorem ct_X6_last_y (l : Launch) (D : va_G) (ca : Nat → ClassId) (zH : Nat) (lo n0 M al pr : Nat) (ww : Nat) (ya yb yc lf N : Int) (hn0 : n0 ≤ 200) (hal : al < 2 ^ 29) (hpr : pr < 2 ^ 29) (hba : -28 ≤ ya ∧ ya ≤ 28) (hbb : -28 ≤ yb ∧ yb ≤ 28) (hbc : -28 ≤ yc ∧ yc ≤ 28) (hlf : lf ≤ 800) (hlf0 : -2400 ≤ lf) (hNl : lf = N - ya * ya - yb * yb - yc * yc) (hab : (ya - yb) % 2 = 0) (hM : N < (((M + 1) * (M + 1) : Nat) : Int)) (hw1 : al ≤ ww) (hw2 : ww < al + (ds N M ya yb yc).length) : Met l yX6_last (ws_ yX6_last cX6_last 7 none) ({ frames := 3, cells := 1, slots := 4, locals := 73 }) (va_Pc [.ref lo, .int (iZ ya), .int (iZ yb), .int (iZ yc), .int (iZ lf), .int 0] (pr_ NW D ca [(lo, .inr (5, [.int (nI n0), .int (nI M), .int (nI al), .int (nI pr), .int (nI ww), .null]))] zH (fun _ => True))) (qV D (fun (u : Nat) => True) (fun u => [(lo, .inr (5, [.int (nI n0), .int (nI M), .int (nI (ww + 1)), .int (nI pr), .int (nI ww), .ref u])), (u, f4 (qz ((S3 N M ya yb yc).getD (ww - al) (0, 0, 0, 0))))]) (fun u H => True) (va_A [(lo, .inr (5, [.int (nI n0), .int (nI M), .int (nI al), .int (nI pr), .int (nI ww), .null]))] zH)) 1 4 (va_A [(lo, .inr (5, [.int (nI n0), .int (nI M), .int (nI al), .int (nI pr), .int (nI ww), .null]))] zH) := by
  have hk := NW_ok
  refine k_ofW (Qc := qV D (fun (u : Nat) => True) (fun u => [(lo, .inr (5, [.int (nI n0), .int (nI M), .int (nI (ww + 1)), .int (nI pr), .int (nI ww), .ref u])), (u, f4 (qz ((S3 N M ya yb yc).getD (ww - al) (0, 0, 0, 0))))]) (fun u H => True)) (by decide) (Nat.le_of_ble_eq_true rfl) ?_
  intro p e s m below meth c ls A H hH hx hb hr hts hown hlocks hnm hml hsz hP hD hK hN hA hAn hS hro hl
  have hl : lv_has ls 7 [(0, .ref lo), (1, .int (iZ ya)), (2, .int (iZ yb)), (3, .int (iZ yc)), (4, .int (iZ lf)), (5, .int 0)] := hl
  refine lv_iload hx hb dX6_last_0 (lv_at hl 4 rfl) ?_
  refine lv_if_lt (tgt := 13) hx hb dX6_last_2 (by decide) (fun c_1 => ?_) (fun c_1 => ?_)
  · have c_1 := ltz_y (a := lf) (b := 0) rfl (by decide) (by omega) (by omega) c_1
    have hds : ds N M ya yb yc = [] := ds_neg hNl c_1
    exact absurd hw2 (by rw [hds]; simp; omega)
  · have c_1 := ltz_no (a := lf) (b := 0) rfl (by decide) (by omega) (by omega) c_1
    refine lv_iload_n hx hb dX6_last_5 rfl (lv_at hl 1 rfl) ?_
    refine lv_iload_n hx hb dX6_last_6 rfl (lv_at hl 3 rfl) ?_
    refine lv_isub hx hb dX6_last_7 ?_
    refine lv_topi (fun z_2 ez_2 => ?_)
    obtain rfl : z_2 = iZ (ya - yc) := ez_2.trans (zsub rfl rfl)
    refine lv_iconst (v := 2) hx hb dX6_last_8 (by decide) ?_
    refine lv_irem hx hb dX6_last_9 (by decide) ?_
    refine lv_topi (fun z_3 ez_3 => ?_)
    obtain rfl : z_3 = iZ (rm2 (ya - yc)) := ez_3.trans (remz2 rfl (by omega))
    have bz_3 := rm2_bd (ya - yc)
    refine lv_if_eq (tgt := 14) hx hb dX6_last_10 (by decide) (fun c_4 => ?_) (fun c_4 => ?_)
    · have c_4 := eqz_y (a := rm2 (ya - yc)) (b := 0) rfl (by decide) (by omega) (by omega) c_4
      refine lv_iconst (v := 0) hx hb dX6_last_14 (by decide) ?_
      refine lv_istore (lv' := [(6, .int 0), (0, .ref lo), (1, .int (iZ ya)), (2, .int (iZ yb)), (3, .int (iZ yc)), (4, .int (iZ lf)), (5, .int 0)]) hx hb dX6_last_15 hl (by decide) rfl (fun ls hl => ?_)
      exact lp_X6_last_y lo n0 M al pr ww ya yb yc lf N hn0 hal hpr hba hbb hbc hlf hlf0 hNl hab hM hw1 hw2 ((rm2_0 _).mp c_4)  hx hb hr hts hown hlocks hnm hml hK hN hA  30 0 (fun e he => absurd he (Nat.not_lt_zero e)) (by omega) _ _ _ hP hD hS (lv_sub hl [0, 1, 2, 3, 4, 5, 6] rfl) 
    · have c_4 := eqz_no (a := rm2 (ya - yc)) (b := 0) rfl (by decide) (by omega) (by omega) c_4
      have hds : ds N M ya yb yc = [] := ds_par (fun z => c_4 ((rm2_0 _).mpr z))
      exact absurd hw2 (by rw [hds]; simp; omega)
