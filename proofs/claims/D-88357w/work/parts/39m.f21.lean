def TA (N : Int) (M : Nat) (a : Int) : List Z4' := (dn a (a + M + 1).toNat).flatMap (S1 N M)
def TB (N : Int) (M : Nat) (a b : Int) : List Z4' := (dn b (b + M + 1).toNat).flatMap (S2 N M a)
def TC (N : Int) (M : Nat) (a b c : Int) : List Z4' := (dn c (c + M + 1).toNat).flatMap (S3 N M a b)
theorem dn_s {c : Int} {M : Nat} (h : -(M : Int) ≤ c) : dn c (c + M + 1).toNat = c :: dn (c - 1) (c - 1 + M + 1).toNat := by
  rw [show (c + M + 1).toNat = (c - 1 + M + 1).toNat + 1 by omega]
  rfl
theorem dn_e {c : Int} {M : Nat} (h : c < -(M : Int)) : dn c (c + M + 1).toNat = [] := by
  rw [show (c + M + 1).toNat = 0 by omega]
  rfl
theorem II_dn (M : Nat) : II M = dn M ((M : Int) + M + 1).toNat := by
  rw [II, show ((M : Int) + M + 1).toNat = 2 * M + 1 by omega]
theorem TA_s {N a : Int} {M : Nat} (h : -(M : Int) ≤ a) : TA N M a = TB N M a M ++ TA N M (a - 1) := by
  rw [TA, dn_s h, List.flatMap_cons, S1, II_dn]; rfl
theorem TA_e {N a : Int} {M : Nat} (h : a < -(M : Int)) : TA N M a = [] := by rw [TA, dn_e h]; rfl
theorem TA_0 (N : Int) (M : Nat) : TA N M M = S0 N M := by rw [TA, S0, II_dn]
theorem TB_s {N a b : Int} {M : Nat} (h : -(M : Int) ≤ b) : TB N M a b = TC N M a b M ++ TB N M a (b - 1) := by
  rw [TB, dn_s h, List.flatMap_cons, S2, II_dn]; rfl
theorem TB_e {N a b : Int} {M : Nat} (h : b < -(M : Int)) : TB N M a b = [] := by rw [TB, dn_e h]; rfl
theorem TC_s {N a b c : Int} {M : Nat} (h : -(M : Int) ≤ c) : TC N M a b c = S3 N M a b c ++ TC N M a b (c - 1) := by
  rw [TC, dn_s h, List.flatMap_cons]; rfl
theorem TC_e {N a b c : Int} {M : Nat} (h : c < -(M : Int)) : TC N M a b c = [] := by rw [TC, dn_e h]; rfl
theorem fm_nil {l : List Int} {f : Int → List Z4'} (h : ∀ x ∈ l, f x = []) : l.flatMap f = [] := by
  induction l with
  | nil => rfl
  | cons x l ih => rw [List.flatMap_cons, h x (by simp), ih (fun y hy => h y (by simp [hy]))]; rfl
theorem TC_neg {N a b c : Int} {M : Nat} (h : N - a * a - b * b < 0) : TC N M a b c = [] := fm_nil (fun x _ => by
  have := toNat_sq x
  rw [S3, ds_neg (lf := N - a * a - b * b - x * x) rfl (by omega)]; rfl)
theorem TC_par {N a b c : Int} {M : Nat} (h : ¬ (a - b) % 2 = 0) : TC N M a b c = [] := fm_nil (fun x _ => by rw [S3, ds_parb h]; rfl)
theorem S3_len (N : Int) (M : Nat) (a b c : Int) : (S3 N M a b c).length = (ds N M a b c).length := by rw [S3, List.length_map]
set_option maxHeartbeats 4000000 in
set_option maxRecDepth 100000 in
theorem lp_X6_go_c1  {l : Launch} {D : va_G} {ca : Nat → ClassId} (lo : Nat) (n0 : Nat) (M : Nat) (T : Nat) (P : Nat) (w0 : Int32) (N : Int) (ya : Int) (yb : Int) (lf : Int) (R : List Z4') (hn0 : n0 ≤ 200) (hM28 : M ≤ 28) (hM0 : 4 * n0 < (M + 1) * (M + 1)) (hNn : N = 4 * (n0 : Int)) (hTb : T ≤ 2 ^ 20) (hPb : P ≤ 2 ^ 20) (hw : ∀ k : Nat, k < T → ¬ nI k = w0) (hba : -(M : Int) ≤ ya ∧ ya ≤ M) (hbb : -(M : Int) ≤ yb ∧ yb ≤ M) (hlf : lf = N - ya * ya - yb * yb) {p : Program} {e : Env} {s : State} {m : MethodId} {below : List Frame} {meth : Method} {c : Code} {A : Nat → Prop} (hOut : ∀ (al pr : Nat), al + (R).length = T → pr + alS 1 n0 (R) = P → ∀ (H : Heap) (locs : List Loc) (ls : Array Slot), va_P D vwCl [(lo, .inr (5, [.int (nI n0), .int (nI M), .int (nI al), .int (nI pr), .int w0, .null]))] H → va_D A [(lo, .inr (5, [.int (nI n0), .int (nI M), .int (nI al), .int (nI pr), .int w0, .null]))] → va_S A s.heap H locs → lv_has ls 6 [(0, .ref lo), (1, .int 1), (2, .int (iZ ya)), (3, .int (iZ yb))] → W p l e ({ frames := 3, cells := 0, slots := 0, locals := 86 }) s m ([.ref lo, .int 1] : List Value).toArray below meth c H locs 0 0 (MQ below (qV D (fun (u : Unit) => True) (fun u => [(lo, .inr (5, [.int (nI n0), .int (nI M), .int (nI T), .int (nI P), .int w0, .null]))]) (fun u H => True) A) ([.ref lo, .int 1] : List Value).toArray s 0 0 A) (F0 m 117 ls [])) (hx : p.tables.exec = Jvm.exec) (hb : c.code = cX6_go) (hr : meth.sig.returnType = none) (hts : ∀ w ∈ lw_all, w.before ([.ref lo, .int 1] : List Value).toArray s = true) (hown : s.vm.findClass yX6_go.cls = some m.cls) (hlocks : meth.locks = false) (hnm : meth.name = yX6_go.name) (hml : c.maxLocals = 6) (hK : va_K D vwCl (tysG ca) s) (hN : NW s) (hA : ∀ q, s.heap.size ≤ q → A q)  :
    ∀ (n : Nat) (yc : Int) (al : Nat) (pr : Nat), (-(M : Int) - 1 ≤ yc) → (yc ≤ M) → (al + (TC N M ya yb yc ++ R).length = T) → (pr + alS 1 n0 (TC N M ya yb yc ++ R) = P) → (yc + M + 1 < (n : Int)) →  ∀ (H : Heap) (locs : List Loc) (ls : Array Slot), va_P D vwCl [(lo, .inr (5, [.int (nI n0), .int (nI M), .int (nI al), .int (nI pr), .int w0, .null]))] H → va_D A [(lo, .inr (5, [.int (nI n0), .int (nI M), .int (nI al), .int (nI pr), .int w0, .null]))] → va_S A s.heap H locs → lv_has ls 6 [(5, .int (iZ yc)), (0, .ref lo), (1, .int 1), (2, .int (iZ ya)), (3, .int (iZ yb)), (4, .int (iZ lf))] → W p l e ({ frames := 3, cells := 0, slots := 0, locals := 86 }) s m ([.ref lo, .int 1] : List Value).toArray below meth c H locs 0 0 (MQ below (qV D (fun (u : Unit) => True) (fun u => [(lo, .inr (5, [.int (nI n0), .int (nI M), .int (nI T), .int (nI P), .int w0, .null]))]) (fun u H => True) A) ([.ref lo, .int 1] : List Value).toArray s 0 0 A) (F0 m 64 ls []) := by
  intro n
  induction n with
  | zero =>
    intro yc al pr hc1 hc2 hT hPr hfuel H locs ls hP hD hS hl 
    exact absurd hfuel (by omega)
  | succ n ih =>
    intro yc al pr hc1 hc2 hT hPr hfuel H locs ls hP hD hS hl 
    have hk := NW_ok
    have hqa := sqz (a := ya) (by omega) (by omega)
    have hqb := sqz (a := yb) (by omega) (by omega)
    refine lv_iload hx hb dX6_go_64 (lv_at hl 0 rfl) ?_
    refine lv_aload_n hx hb dX6_go_66 rfl (lv_at hl 1 rfl) ?_
    refine va_get (D := D) (ci := 5) (v := .int (nI M)) (C := RX6) (T := TX6) (N := 6) hx hb hts in_X6 hown hK hP 0 rfl rfl 1 (by decide) (hts _ q510) (fun _ h9 => h9) rfl dX6_go_67 ?_
    refine lv_ineg hx hb dX6_go_70 ?_
    refine lv_topi (fun z_1 ez_1 => ?_)
    obtain rfl : z_1 = iZ (-((M : Nat) : Int)) := ez_1.trans (zneg (iZ_n _))
    refine lv_icmp_lt (tgt := 117) hx hb dX6_go_71 (by decide) (fun c_2 => ?_) (fun c_2 => ?_)
    · have c_2 := ltz_y (a := yc) (b := -((M : Nat) : Int)) rfl rfl (by omega) (by omega) c_2
      rw [TC_e (by omega), List.nil_append] at hT hPr
      exact hOut al pr hT hPr _ _ _ hP hD hS (lv_sub hl [1, 2, 3, 4] rfl)
    · have c_2 := ltz_no (a := yc) (b := -((M : Nat) : Int)) rfl rfl (by omega) (by omega) c_2
      refine lv_iload hx hb dX6_go_74 (lv_at hl 5 rfl) ?_
      refine lv_if_lt (tgt := 117) hx hb dX6_go_76 (by decide) (fun c_3 => ?_) (fun c_3 => ?_)
      · have c_3 := ltz_y (a := lf) (b := 0) rfl (by decide) (by omega) (by omega) c_3
        rw [TC_neg (by omega), List.nil_append] at hT hPr
        exact hOut al pr hT hPr _ _ _ hP hD hS (lv_sub hl [1, 2, 3, 4] rfl)
      · have c_3 := ltz_no (a := lf) (b := 0) rfl (by decide) (by omega) (by omega) c_3
        refine lv_iload_n hx hb dX6_go_79 rfl (lv_at hl 3 rfl) ?_
        refine lv_iload_n hx hb dX6_go_80 rfl (lv_at hl 4 rfl) ?_
        refine lv_isub hx hb dX6_go_81 ?_
        refine lv_topi (fun z_4 ez_4 => ?_)
        obtain rfl : z_4 = iZ (ya - yb) := ez_4.trans (zsub rfl rfl)
        refine lv_iconst (v := 2) hx hb dX6_go_82 (by decide) ?_
        refine lv_irem hx hb dX6_go_83 (by decide) ?_
        refine lv_topi (fun z_5 ez_5 => ?_)
        obtain rfl : z_5 = iZ (rm2 (ya - yb)) := ez_5.trans (remz2 rfl (by omega))
        have bz_5 := rm2_bd (ya - yb)
        refine lv_if_ne (tgt := 117) hx hb dX6_go_84 (by decide) (fun c_6 => ?_) (fun c_6 => ?_)
        · have c_6 := eqz_no (a := rm2 (ya - yb)) (b := 0) rfl (by decide) (by omega) (by omega) c_6
          rw [TC_par (fun z => c_6 ((rm2_0 _).mpr z)), List.nil_append] at hT hPr
          exact hOut al pr hT hPr _ _ _ hP hD hS (lv_sub hl [1, 2, 3, 4] rfl)
        · have c_6 := eqz_y (a := rm2 (ya - yb)) (b := 0) rfl (by decide) (by omega) (by omega) c_6
          refine lv_aload_n hx hb dX6_go_87 rfl (lv_at hl 1 rfl) ?_
          refine va_get (D := D) (ci := 5) (v := .null) (C := RX6) (T := TX6) (N := 6) hx hb hts in_X6 hown hK hP 0 rfl rfl 5 (by decide) (hts _ q515) (fun _ h9 => h9) rfl dX6_go_88 ?_
          refine lv_ifnonnullN hx hb dX6_go_91 ?_
          have hqc := sqz (a := yc) (by omega) (by omega)
          rw [TC_s (by omega), List.append_assoc] at hT hPr
          rw [List.length_append, S3_len] at hT
          rw [alS_app] at hPr
          refine lv_aload_n hx hb dX6_go_94 rfl (lv_at hl 1 rfl) ?_
          refine lv_iload_n hx hb dX6_go_95 rfl (lv_at hl 3 rfl) ?_
          refine lv_iload_n hx hb dX6_go_96 rfl (lv_at hl 4 rfl) ?_
          refine lv_iload hx hb dX6_go_97 (lv_at hl 0 rfl) ?_
          refine lv_iload hx hb dX6_go_99 (lv_at hl 5 rfl) ?_
          refine lv_iload hx hb dX6_go_101 (lv_at hl 0 rfl) ?_
          refine lv_iload hx hb dX6_go_103 (lv_at hl 0 rfl) ?_
          refine lv_imul hx hb dX6_go_105 ?_
          refine lv_topi (fun z_7 ez_7 => ?_)
          obtain rfl : z_7 = iZ (yc * yc) := ez_7.trans (zmul rfl rfl)
          refine lv_isub hx hb dX6_go_106 ?_
          refine lv_topi (fun z_8 ez_8 => ?_)
          obtain rfl : z_8 = iZ (lf - (yc * yc)) := ez_8.trans (zsub rfl rfl)
          refine lv_iload_n hx hb dX6_go_107 rfl (lv_at hl 2 rfl) ?_
          refine k_callv (wr := []) (va_runV (As := [.int (iZ ya), .int (iZ yb), .int (iZ yc), .int (iZ (lf - (yc * yc))), .int 1]) (rest := []) ⟨hx, hb, hml, hown, hts⟩ (ct_X6_last_n1 l D ca H.size lo n0 M al pr w0 ya yb yc (lf - (yc * yc)) N hn0 (by omega) (by omega) (by omega) (by omega) (by omega) (by omega) (by omega) (by omega) ((rm2_0 _).mp c_6) (by rw [hNn]; omega) (fun k hk9 => hw _ (by omega))) (cwV 5 hts (lw_V q534 q536 qs4 q36 q537) rfl rfl rfl (by decide +kernel) ⟨Nat.le_of_ble_eq_true rfl, Nat.le_of_ble_eq_true rfl⟩) (k_preV hk hK hN hP hD [0] (by decide) rfl trivial hP rfl (q0 := 0) rfl) rfl rfl hl.1 rfl (lv_room (Nat.le_of_ble_eq_true rfl)) dX6_go_108 ⟨Nat.le_of_ble_eq_true rfl, Nat.le_of_ble_eq_true rfl⟩) hP hD hS hA [0] [] rfl rfl (by decide) (by decide) (fun u_10 H locs w_11 hP hD hxw_11 hzw_11 hqw_11 hS => ?_)
          have hP : va_P D vwCl [(lo, .inr (5, [.int (nI n0), .int (nI M), .int (nI (al + (ds N M ya yb yc).length)), .int (nI (pr + alS 1 n0 (S3 N M ya yb yc))), .int w0, .null]))] H := hP
          have hD : va_D A [(lo, .inr (5, [.int (nI n0), .int (nI M), .int (nI (al + (ds N M ya yb yc).length)), .int (nI (pr + alS 1 n0 (S3 N M ya yb yc))), .int w0, .null]))] := hD
          refine lv_iinc (v := iZ (yc - 1)) (lv' := [(5, .int (iZ (yc - 1))), (0, .ref lo), (1, .int 1), (2, .int (iZ ya)), (3, .int (iZ yb)), (4, .int (iZ lf))]) hx hb dX6_go_111 hl (k := 0) rfl ((zadd rfl (b := -1) (by decide)).trans (by rw [Int.sub_eq_add_neg])) (by decide) rfl (fun ls hl => ?_)
          refine lv_goto (tgt := 64) hx hb dX6_go_114 (by decide) ?_
          exact ih (yc - 1) _ _ (by omega) (by omega) (by omega) (by omega) (by omega) _ _ _ hP hD hS (lv_sub hl [0, 1, 2, 3, 4, 5] rfl) 
set_option maxHeartbeats 4000000 in
set_option maxRecDepth 100000 in
theorem lp_X6_go_b1  {l : Launch} {D : va_G} {ca : Nat → ClassId} (lo : Nat) (n0 : Nat) (M : Nat) (T : Nat) (P : Nat) (w0 : Int32) (N : Int) (ya : Int) (R : List Z4') (hn0 : n0 ≤ 200) (hM28 : M ≤ 28) (hM0 : 4 * n0 < (M + 1) * (M + 1)) (hNn : N = 4 * (n0 : Int)) (hTb : T ≤ 2 ^ 20) (hPb : P ≤ 2 ^ 20) (hw : ∀ k : Nat, k < T → ¬ nI k = w0) (hba : -(M : Int) ≤ ya ∧ ya ≤ M) {p : Program} {e : Env} {s : State} {m : MethodId} {below : List Frame} {meth : Method} {c : Code} {A : Nat → Prop} (hOut : ∀ (al pr : Nat), al + (R).length = T → pr + alS 1 n0 (R) = P → ∀ (H : Heap) (locs : List Loc) (ls : Array Slot), va_P D vwCl [(lo, .inr (5, [.int (nI n0), .int (nI M), .int (nI al), .int (nI pr), .int w0, .null]))] H → va_D A [(lo, .inr (5, [.int (nI n0), .int (nI M), .int (nI al), .int (nI pr), .int w0, .null]))] → va_S A s.heap H locs → lv_has ls 6 [(0, .ref lo), (1, .int 1), (2, .int (iZ ya))] → W p l e ({ frames := 3, cells := 0, slots := 0, locals := 86 }) s m ([.ref lo, .int 1] : List Value).toArray below meth c H locs 0 0 (MQ below (qV D (fun (u : Unit) => True) (fun u => [(lo, .inr (5, [.int (nI n0), .int (nI M), .int (nI T), .int (nI P), .int w0, .null]))]) (fun u H => True) A) ([.ref lo, .int 1] : List Value).toArray s 0 0 A) (F0 m 123 ls [])) (hx : p.tables.exec = Jvm.exec) (hb : c.code = cX6_go) (hr : meth.sig.returnType = none) (hts : ∀ w ∈ lw_all, w.before ([.ref lo, .int 1] : List Value).toArray s = true) (hown : s.vm.findClass yX6_go.cls = some m.cls) (hlocks : meth.locks = false) (hnm : meth.name = yX6_go.name) (hml : c.maxLocals = 6) (hK : va_K D vwCl (tysG ca) s) (hN : NW s) (hA : ∀ q, s.heap.size ≤ q → A q)  :
    ∀ (n : Nat) (yb : Int) (al : Nat) (pr : Nat), (-(M : Int) - 1 ≤ yb) → (yb ≤ M) → (al + (TB N M ya yb ++ R).length = T) → (pr + alS 1 n0 (TB N M ya yb ++ R) = P) → (yb + M + 1 < (n : Int)) →  ∀ (H : Heap) (locs : List Loc) (ls : Array Slot), va_P D vwCl [(lo, .inr (5, [.int (nI n0), .int (nI M), .int (nI al), .int (nI pr), .int w0, .null]))] H → va_D A [(lo, .inr (5, [.int (nI n0), .int (nI M), .int (nI al), .int (nI pr), .int w0, .null]))] → va_S A s.heap H locs → lv_has ls 6 [(3, .int (iZ yb)), (0, .ref lo), (1, .int 1), (2, .int (iZ ya))] → W p l e ({ frames := 3, cells := 0, slots := 0, locals := 86 }) s m ([.ref lo, .int 1] : List Value).toArray below meth c H locs 0 0 (MQ below (qV D (fun (u : Unit) => True) (fun u => [(lo, .inr (5, [.int (nI n0), .int (nI M), .int (nI T), .int (nI P), .int w0, .null]))]) (fun u H => True) A) ([.ref lo, .int 1] : List Value).toArray s 0 0 A) (F0 m 26 ls []) := by
  intro n
  induction n with
  | zero =>
    intro yb al pr hb1 hb2 hT hPr hfuel H locs ls hP hD hS hl 
    exact absurd hfuel (by omega)
  | succ n ih =>
    intro yb al pr hb1 hb2 hT hPr hfuel H locs ls hP hD hS hl 
    have hk := NW_ok
    have hqa := sqz (a := ya) (by omega) (by omega)
    refine lv_iload_n hx hb dX6_go_26 rfl (lv_at hl 0 rfl) ?_
    refine lv_aload_n hx hb dX6_go_27 rfl (lv_at hl 1 rfl) ?_
    refine va_get (D := D) (ci := 5) (v := .int (nI M)) (C := RX6) (T := TX6) (N := 6) hx hb hts in_X6 hown hK hP 0 rfl rfl 1 (by decide) (hts _ q510) (fun _ h9 => h9) rfl dX6_go_28 ?_
    refine lv_ineg hx hb dX6_go_31 ?_
    refine lv_topi (fun z_1 ez_1 => ?_)
    obtain rfl : z_1 = iZ (-((M : Nat) : Int)) := ez_1.trans (zneg (iZ_n _))
    refine lv_icmp_lt (tgt := 123) hx hb dX6_go_32 (by decide) (fun c_2 => ?_) (fun c_2 => ?_)
    · have c_2 := ltz_y (a := yb) (b := -((M : Nat) : Int)) rfl rfl (by omega) (by omega) c_2
      rw [TB_e (by omega), List.nil_append] at hT hPr
      exact hOut al pr hT hPr _ _ _ hP hD hS (lv_sub hl [1, 2, 3] rfl)
    · have c_2 := ltz_no (a := yb) (b := -((M : Nat) : Int)) rfl rfl (by omega) (by omega) c_2
      refine lv_aload_n hx hb dX6_go_35 rfl (lv_at hl 1 rfl) ?_
      refine va_get (D := D) (ci := 5) (v := .null) (C := RX6) (T := TX6) (N := 6) hx hb hts in_X6 hown hK hP 0 rfl rfl 5 (by decide) (hts _ q515) (fun _ h9 => h9) rfl dX6_go_36 ?_
      refine lv_ifnonnullN hx hb dX6_go_39 ?_
      have hqb := sqz (a := yb) (by omega) (by omega)
      refine lv_iconst (v := 4) hx hb dX6_go_42 (by decide) ?_
      refine lv_aload_n hx hb dX6_go_43 rfl (lv_at hl 1 rfl) ?_
      refine va_get (D := D) (ci := 5) (v := .int (nI n0)) (C := RX6) (T := TX6) (N := 6) hx hb hts in_X6 hown hK hP 0 rfl rfl 0 (by decide) (hts _ q509) (fun _ h9 => h9) rfl dX6_go_44 ?_
      refine lv_imul hx hb dX6_go_47 ?_
      refine lv_topi (fun z_3 ez_3 => ?_)
      obtain rfl : z_3 = iZ (4 * ((n0 : Nat) : Int)) := ez_3.trans (zmul (by decide) (iZ_n _))
      refine lv_iload_n hx hb dX6_go_48 rfl (lv_at hl 3 rfl) ?_
      refine lv_iload_n hx hb dX6_go_49 rfl (lv_at hl 3 rfl) ?_
      refine lv_imul hx hb dX6_go_50 ?_
      refine lv_topi (fun z_4 ez_4 => ?_)
      obtain rfl : z_4 = iZ (ya * ya) := ez_4.trans (zmul rfl rfl)
      refine lv_isub hx hb dX6_go_51 ?_
      refine lv_topi (fun z_5 ez_5 => ?_)
      obtain rfl : z_5 = iZ ((4 * ((n0 : Nat) : Int)) - (ya * ya)) := ez_5.trans (zsub rfl rfl)
      refine lv_iload_n hx hb dX6_go_52 rfl (lv_at hl 0 rfl) ?_
      refine lv_iload_n hx hb dX6_go_53 rfl (lv_at hl 0 rfl) ?_
      refine lv_imul hx hb dX6_go_54 ?_
      refine lv_topi (fun z_6 ez_6 => ?_)
      obtain rfl : z_6 = iZ (yb * yb) := ez_6.trans (zmul rfl rfl)
      refine lv_isub hx hb dX6_go_55 ?_
      refine lv_topi (fun z_7 ez_7 => ?_)
      obtain rfl : z_7 = iZ (((4 * ((n0 : Nat) : Int)) - (ya * ya)) - (yb * yb)) := ez_7.trans (zsub rfl rfl)
      refine lv_istore (lv' := [(4, .int (iZ (((4 * ((n0 : Nat) : Int)) - (ya * ya)) - (yb * yb)))), (3, .int (iZ yb)), (0, .ref lo), (1, .int 1), (2, .int (iZ ya))]) hx hb dX6_go_56 hl (by decide) rfl (fun ls hl => ?_)
      refine lv_aload_n hx hb dX6_go_58 rfl (lv_at hl 2 rfl) ?_
      refine va_get (D := D) (ci := 5) (v := .int (nI M)) (C := RX6) (T := TX6) (N := 6) hx hb hts in_X6 hown hK hP 0 rfl rfl 1 (by decide) (hts _ q510) (fun _ h9 => h9) rfl dX6_go_59 ?_
      refine lv_topi (fun z_8 ez_8 => ?_)
      obtain rfl : z_8 = iZ ((M : Nat) : Int) := ez_8.trans (iZ_n M)
      refine lv_istore (lv' := [(5, .int (iZ ((M : Nat) : Int))), (4, .int (iZ (((4 * ((n0 : Nat) : Int)) - (ya * ya)) - (yb * yb)))), (3, .int (iZ yb)), (0, .ref lo), (1, .int 1), (2, .int (iZ ya))]) hx hb dX6_go_62 hl (by decide) rfl (fun ls hl => ?_)
      rw [TB_s (by omega), List.append_assoc] at hT hPr
      refine lp_X6_go_c1 lo n0 M T P w0 N ya yb (((4 * ((n0 : Nat) : Int)) - (ya * ya)) - (yb * yb)) (TB N M ya (yb - 1) ++ R) hn0 hM28 hM0 hNn hTb hPb hw hba (by omega) (by omega) (fun al pr hT hPr H locs ls hP hD hS hl => ?_) hx hb hr hts hown hlocks hnm hml hK hN hA  (((M : Int) + M + 2).toNat) ((M : Nat) : Int) al pr (by omega) (by omega) hT hPr (by omega) _ _ _ hP hD hS (lv_sub hl [0, 3, 4, 5, 2, 1] rfl)
      refine lv_iinc (v := iZ (yb - 1)) (lv' := [(3, .int (iZ (yb - 1))), (0, .ref lo), (1, .int 1), (2, .int (iZ ya))]) hx hb dX6_go_117 hl (k := 3) rfl ((zadd rfl (b := -1) (by decide)).trans (by rw [Int.sub_eq_add_neg])) (by decide) rfl (fun ls hl => ?_)
      refine lv_goto (tgt := 26) hx hb dX6_go_120 (by decide) ?_
      exact ih (yb - 1) al pr (by omega) (by omega) hT hPr (by omega) _ _ _ hP hD hS (lv_sub hl [0, 1, 2, 3] rfl) 
set_option maxHeartbeats 4000000 in
set_option maxRecDepth 100000 in
theorem lp_X6_go_a1  {l : Launch} {D : va_G} {ca : Nat → ClassId} (lo : Nat) (n0 : Nat) (M : Nat) (T : Nat) (P : Nat) (w0 : Int32) (N : Int) (hn0 : n0 ≤ 200) (hM28 : M ≤ 28) (hM0 : 4 * n0 < (M + 1) * (M + 1)) (hNn : N = 4 * (n0 : Int)) (hTb : T ≤ 2 ^ 20) (hPb : P ≤ 2 ^ 20) (hw : ∀ k : Nat, k < T → ¬ nI k = w0) {p : Program} {e : Env} {s : State} {m : MethodId} {below : List Frame} {meth : Method} {c : Code} {A : Nat → Prop}  (hx : p.tables.exec = Jvm.exec) (hb : c.code = cX6_go) (hr : meth.sig.returnType = none) (hts : ∀ w ∈ lw_all, w.before ([.ref lo, .int 1] : List Value).toArray s = true) (hown : s.vm.findClass yX6_go.cls = some m.cls) (hlocks : meth.locks = false) (hnm : meth.name = yX6_go.name) (hml : c.maxLocals = 6) (hK : va_K D vwCl (tysG ca) s) (hN : NW s) (hA : ∀ q, s.heap.size ≤ q → A q)  :
    ∀ (n : Nat) (ya : Int) (al : Nat) (pr : Nat), (-(M : Int) - 1 ≤ ya) → (ya ≤ M) → (al + (TA N M ya).length = T) → (pr + alS 1 n0 (TA N M ya) = P) → (ya + M + 1 < (n : Int)) →  ∀ (H : Heap) (locs : List Loc) (ls : Array Slot), va_P D vwCl [(lo, .inr (5, [.int (nI n0), .int (nI M), .int (nI al), .int (nI pr), .int w0, .null]))] H → va_D A [(lo, .inr (5, [.int (nI n0), .int (nI M), .int (nI al), .int (nI pr), .int w0, .null]))] → va_S A s.heap H locs → lv_has ls 6 [(2, .int (iZ ya)), (0, .ref lo), (1, .int 1)] → W p l e ({ frames := 3, cells := 0, slots := 0, locals := 86 }) s m ([.ref lo, .int 1] : List Value).toArray below meth c H locs 0 0 (MQ below (qV D (fun (u : Unit) => True) (fun u => [(lo, .inr (5, [.int (nI n0), .int (nI M), .int (nI T), .int (nI P), .int w0, .null]))]) (fun u H => True) A) ([.ref lo, .int 1] : List Value).toArray s 0 0 A) (F0 m 5 ls []) := by
  intro n
  induction n with
  | zero =>
    intro ya al pr ha1 ha2 hT hPr hfuel H locs ls hP hD hS hl 
    exact absurd hfuel (by omega)
  | succ n ih =>
    intro ya al pr ha1 ha2 hT hPr hfuel H locs ls hP hD hS hl 
    have hk := NW_ok
    refine lv_iload_n hx hb dX6_go_5 rfl (lv_at hl 0 rfl) ?_
    refine lv_aload_n hx hb dX6_go_6 rfl (lv_at hl 1 rfl) ?_
    refine va_get (D := D) (ci := 5) (v := .int (nI M)) (C := RX6) (T := TX6) (N := 6) hx hb hts in_X6 hown hK hP 0 rfl rfl 1 (by decide) (hts _ q510) (fun _ h9 => h9) rfl dX6_go_7 ?_
    refine lv_ineg hx hb dX6_go_10 ?_
    refine lv_topi (fun z_1 ez_1 => ?_)
    obtain rfl : z_1 = iZ (-((M : Nat) : Int)) := ez_1.trans (zneg (iZ_n _))
    refine lv_icmp_lt (tgt := 129) hx hb dX6_go_11 (by decide) (fun c_2 => ?_) (fun c_2 => ?_)
    · have c_2 := ltz_y (a := ya) (b := -((M : Nat) : Int)) rfl rfl (by omega) (by omega) c_2
      rw [TA_e (by omega)] at hT hPr
      obtain rfl : al = T := hT
      obtain rfl : pr = P := hPr
      exact k_vret () hx hb hr hlocks (trivial) hP hD trivial hS (Nat.le_of_ble_eq_true rfl) (Nat.le_of_ble_eq_true rfl) dX6_go_129
    · have c_2 := ltz_no (a := ya) (b := -((M : Nat) : Int)) rfl rfl (by omega) (by omega) c_2
      refine lv_aload_n hx hb dX6_go_14 rfl (lv_at hl 1 rfl) ?_
      refine va_get (D := D) (ci := 5) (v := .null) (C := RX6) (T := TX6) (N := 6) hx hb hts in_X6 hown hK hP 0 rfl rfl 5 (by decide) (hts _ q515) (fun _ h9 => h9) rfl dX6_go_15 ?_
      refine lv_ifnonnullN hx hb dX6_go_18 ?_
      refine lv_aload_n hx hb dX6_go_21 rfl (lv_at hl 1 rfl) ?_
      refine va_get (D := D) (ci := 5) (v := .int (nI M)) (C := RX6) (T := TX6) (N := 6) hx hb hts in_X6 hown hK hP 0 rfl rfl 1 (by decide) (hts _ q510) (fun _ h9 => h9) rfl dX6_go_22 ?_
      refine lv_topi (fun z_3 ez_3 => ?_)
      obtain rfl : z_3 = iZ ((M : Nat) : Int) := ez_3.trans (iZ_n M)
      refine lv_istore_n (lv' := [(3, .int (iZ ((M : Nat) : Int))), (2, .int (iZ ya)), (0, .ref lo), (1, .int 1)]) hx hb dX6_go_25 rfl hl (by decide) rfl (fun ls hl => ?_)
      rw [TA_s (by omega)] at hT hPr
      refine lp_X6_go_b1 lo n0 M T P w0 N ya (TA N M (ya - 1)) hn0 hM28 hM0 hNn hTb hPb hw (by omega) (fun al pr hT hPr H locs ls hP hD hS hl => ?_) hx hb hr hts hown hlocks hnm hml hK hN hA  (((M : Int) + M + 2).toNat) ((M : Nat) : Int) al pr (by omega) (by omega) hT hPr (by omega) _ _ _ hP hD hS (lv_sub hl [0, 2, 3, 1] rfl)
      refine lv_iinc (v := iZ (ya - 1)) (lv' := [(2, .int (iZ (ya - 1))), (0, .ref lo), (1, .int 1)]) hx hb dX6_go_123 hl (k := 2) rfl ((zadd rfl (b := -1) (by decide)).trans (by rw [Int.sub_eq_add_neg])) (by decide) rfl (fun ls hl => ?_)
      refine lv_goto (tgt := 5) hx hb dX6_go_126 (by decide) ?_
      exact ih (ya - 1) al pr (by omega) (by omega) hT hPr (by omega) _ _ _ hP hD hS (lv_sub hl [0, 1, 2] rfl) 
set_option maxHeartbeats 4000000 in
set_option maxRecDepth 100000 in
theorem ct_X6_go_n1 (l : Launch) (D : va_G) (ca : Nat → ClassId) (zH : Nat) (lo n0 M T P : Nat) (w0 : Int32) (N : Int) (hn0 : n0 ≤ 200) (hM28 : M ≤ 28) (hM0 : 4 * n0 < (M + 1) * (M + 1)) (hNn : N = 4 * (n0 : Int)) (hTb : T ≤ 2 ^ 20) (hPb : P ≤ 2 ^ 20) (hw : ∀ k : Nat, k < T → ¬ nI k = w0) (hTT : (S0 N M).length = T) (hPP : alS 1 n0 (S0 N M) = P) : Met l yX6_go (ws_ yX6_go cX6_go 6 none) ({ frames := 3, cells := 0, slots := 0, locals := 86 }) (va_Pc [.ref lo, .int 1] (pr_ NW D ca [(lo, .inr (5, [.int (nI n0), .int (nI M), .int 0, .int 0, .int w0, .null]))] zH (fun _ => True))) (qV D (fun (u : Unit) => True) (fun u => [(lo, .inr (5, [.int (nI n0), .int (nI M), .int (nI T), .int (nI P), .int w0, .null]))]) (fun u H => True) (va_A [(lo, .inr (5, [.int (nI n0), .int (nI M), .int 0, .int 0, .int w0, .null]))] zH)) 0 0 (va_A [(lo, .inr (5, [.int (nI n0), .int (nI M), .int 0, .int 0, .int w0, .null]))] zH) := by
  have hk := NW_ok
  refine k_ofW (Qc := qV D (fun (u : Unit) => True) (fun u => [(lo, .inr (5, [.int (nI n0), .int (nI M), .int (nI T), .int (nI P), .int w0, .null]))]) (fun u H => True)) (by decide) (Nat.le_of_ble_eq_true rfl) ?_
  intro p e s m below meth c ls A H hH hx hb hr hts hown hlocks hnm hml hsz hP hD hK hN hA hAn hS hro hl
  have hl : lv_has ls 6 [(0, .ref lo), (1, .int 1)] := hl
  refine lv_aload_n hx hb dX6_go_0 rfl (lv_at hl 0 rfl) ?_
  refine va_get (D := D) (ci := 5) (v := .int (nI M)) (C := RX6) (T := TX6) (N := 6) hx hb hts in_X6 hown hK hP 0 rfl rfl 1 (by decide) (hts _ q510) (fun _ h9 => h9) rfl dX6_go_1 ?_
  refine lv_topi (fun z_1 ez_1 => ?_)
  obtain rfl : z_1 = iZ ((M : Nat) : Int) := ez_1.trans (iZ_n M)
  refine lv_istore_n (lv' := [(2, .int (iZ ((M : Nat) : Int))), (0, .ref lo), (1, .int 1)]) hx hb dX6_go_4 rfl hl (by decide) rfl (fun ls hl => ?_)
  exact lp_X6_go_a1 lo n0 M T P w0 N hn0 hM28 hM0 hNn hTb hPb hw  hx hb hr hts hown hlocks hnm hml hK hN hA  (((M : Int) + M + 2).toNat) ((M : Nat) : Int) 0 0 (by omega) (by omega) (by rw [TA_0, hTT, Nat.zero_add]) (by rw [TA_0, hPP, Nat.zero_add]) (by omega) _ _ _ hP hD hS (lv_sub hl [0, 1, 2] rfl) 
set_option maxHeartbeats 4000000 in
set_option maxRecDepth 100000 in
theorem lp_X6_go_c0  {l : Launch} {D : va_G} {ca : Nat → ClassId} (lo : Nat) (n0 : Nat) (M : Nat) (T : Nat) (P : Nat) (w0 : Int32) (N : Int) (ya : Int) (yb : Int) (lf : Int) (R : List Z4') (hn0 : n0 ≤ 200) (hM28 : M ≤ 28) (hM0 : 4 * n0 < (M + 1) * (M + 1)) (hNn : N = 4 * (n0 : Int)) (hTb : T ≤ 2 ^ 20) (hPb : P ≤ 2 ^ 20) (hw : ∀ k : Nat, k < T → ¬ nI k = w0) (hba : -(M : Int) ≤ ya ∧ ya ≤ M) (hbb : -(M : Int) ≤ yb ∧ yb ≤ M) (hlf : lf = N - ya * ya - yb * yb) {p : Program} {e : Env} {s : State} {m : MethodId} {below : List Frame} {meth : Method} {c : Code} {A : Nat → Prop} (hOut : ∀ (al pr : Nat), al + (R).length = T → pr + alS 0 n0 (R) = P → ∀ (H : Heap) (locs : List Loc) (ls : Array Slot), va_P D vwCl [(lo, .inr (5, [.int (nI n0), .int (nI M), .int (nI al), .int (nI pr), .int w0, .null]))] H → va_D A [(lo, .inr (5, [.int (nI n0), .int (nI M), .int (nI al), .int (nI pr), .int w0, .null]))] → va_S A s.heap H locs → lv_has ls 6 [(0, .ref lo), (1, .int 0), (2, .int (iZ ya)), (3, .int (iZ yb))] → W p l e ({ frames := 3, cells := 0, slots := 0, locals := 86 }) s m ([.ref lo, .int 0] : List Value).toArray below meth c H locs 0 0 (MQ below (qV D (fun (u : Unit) => True) (fun u => [(lo, .inr (5, [.int (nI n0), .int (nI M), .int (nI T), .int (nI P), .int w0, .null]))]) (fun u H => True) A) ([.ref lo, .int 0] : List Value).toArray s 0 0 A) (F0 m 117 ls [])) (hx : p.tables.exec = Jvm.exec) (hb : c.code = cX6_go) (hr : meth.sig.returnType = none) (hts : ∀ w ∈ lw_all, w.before ([.ref lo, .int 0] : List Value).toArray s = true) (hown : s.vm.findClass yX6_go.cls = some m.cls) (hlocks : meth.locks = false) (hnm : meth.name = yX6_go.name) (hml : c.maxLocals = 6) (hK : va_K D vwCl (tysG ca) s) (hN : NW s) (hA : ∀ q, s.heap.size ≤ q → A q)  :
    ∀ (n : Nat) (yc : Int) (al : Nat) (pr : Nat), (-(M : Int) - 1 ≤ yc) → (yc ≤ M) → (al + (TC N M ya yb yc ++ R).length = T) → (pr + alS 0 n0 (TC N M ya yb yc ++ R) = P) → (yc + M + 1 < (n : Int)) →  ∀ (H : Heap) (locs : List Loc) (ls : Array Slot), va_P D vwCl [(lo, .inr (5, [.int (nI n0), .int (nI M), .int (nI al), .int (nI pr), .int w0, .null]))] H → va_D A [(lo, .inr (5, [.int (nI n0), .int (nI M), .int (nI al), .int (nI pr), .int w0, .null]))] → va_S A s.heap H locs → lv_has ls 6 [(5, .int (iZ yc)), (0, .ref lo), (1, .int 0), (2, .int (iZ ya)), (3, .int (iZ yb)), (4, .int (iZ lf))] → W p l e ({ frames := 3, cells := 0, slots := 0, locals := 86 }) s m ([.ref lo, .int 0] : List Value).toArray below meth c H locs 0 0 (MQ below (qV D (fun (u : Unit) => True) (fun u => [(lo, .inr (5, [.int (nI n0), .int (nI M), .int (nI T), .int (nI P), .int w0, .null]))]) (fun u H => True) A) ([.ref lo, .int 0] : List Value).toArray s 0 0 A) (F0 m 64 ls []) := by
  intro n
  induction n with
  | zero =>
    intro yc al pr hc1 hc2 hT hPr hfuel H locs ls hP hD hS hl 
    exact absurd hfuel (by omega)
  | succ n ih =>
    intro yc al pr hc1 hc2 hT hPr hfuel H locs ls hP hD hS hl 
    have hk := NW_ok
    have hqa := sqz (a := ya) (by omega) (by omega)
    have hqb := sqz (a := yb) (by omega) (by omega)
    refine lv_iload hx hb dX6_go_64 (lv_at hl 0 rfl) ?_
    refine lv_aload_n hx hb dX6_go_66 rfl (lv_at hl 1 rfl) ?_
    refine va_get (D := D) (ci := 5) (v := .int (nI M)) (C := RX6) (T := TX6) (N := 6) hx hb hts in_X6 hown hK hP 0 rfl rfl 1 (by decide) (hts _ q510) (fun _ h9 => h9) rfl dX6_go_67 ?_
    refine lv_ineg hx hb dX6_go_70 ?_
    refine lv_topi (fun z_1 ez_1 => ?_)
    obtain rfl : z_1 = iZ (-((M : Nat) : Int)) := ez_1.trans (zneg (iZ_n _))
    refine lv_icmp_lt (tgt := 117) hx hb dX6_go_71 (by decide) (fun c_2 => ?_) (fun c_2 => ?_)
    · have c_2 := ltz_y (a := yc) (b := -((M : Nat) : Int)) rfl rfl (by omega) (by omega) c_2
      rw [TC_e (by omega), List.nil_append] at hT hPr
      exact hOut al pr hT hPr _ _ _ hP hD hS (lv_sub hl [1, 2, 3, 4] rfl)
    · have c_2 := ltz_no (a := yc) (b := -((M : Nat) : Int)) rfl rfl (by omega) (by omega) c_2
      refine lv_iload hx hb dX6_go_74 (lv_at hl 5 rfl) ?_
      refine lv_if_lt (tgt := 117) hx hb dX6_go_76 (by decide) (fun c_3 => ?_) (fun c_3 => ?_)
      · have c_3 := ltz_y (a := lf) (b := 0) rfl (by decide) (by omega) (by omega) c_3
        rw [TC_neg (by omega), List.nil_append] at hT hPr
        exact hOut al pr hT hPr _ _ _ hP hD hS (lv_sub hl [1, 2, 3, 4] rfl)
      · have c_3 := ltz_no (a := lf) (b := 0) rfl (by decide) (by omega) (by omega) c_3
        refine lv_iload_n hx hb dX6_go_79 rfl (lv_at hl 3 rfl) ?_
        refine lv_iload_n hx hb dX6_go_80 rfl (lv_at hl 4 rfl) ?_
        refine lv_isub hx hb dX6_go_81 ?_
        refine lv_topi (fun z_4 ez_4 => ?_)
        obtain rfl : z_4 = iZ (ya - yb) := ez_4.trans (zsub rfl rfl)
        refine lv_iconst (v := 2) hx hb dX6_go_82 (by decide) ?_
        refine lv_irem hx hb dX6_go_83 (by decide) ?_
        refine lv_topi (fun z_5 ez_5 => ?_)
        obtain rfl : z_5 = iZ (rm2 (ya - yb)) := ez_5.trans (remz2 rfl (by omega))
        have bz_5 := rm2_bd (ya - yb)
        refine lv_if_ne (tgt := 117) hx hb dX6_go_84 (by decide) (fun c_6 => ?_) (fun c_6 => ?_)
        · have c_6 := eqz_no (a := rm2 (ya - yb)) (b := 0) rfl (by decide) (by omega) (by omega) c_6
          rw [TC_par (fun z => c_6 ((rm2_0 _).mpr z)), List.nil_append] at hT hPr
          exact hOut al pr hT hPr _ _ _ hP hD hS (lv_sub hl [1, 2, 3, 4] rfl)
        · have c_6 := eqz_y (a := rm2 (ya - yb)) (b := 0) rfl (by decide) (by omega) (by omega) c_6
          refine lv_aload_n hx hb dX6_go_87 rfl (lv_at hl 1 rfl) ?_
          refine va_get (D := D) (ci := 5) (v := .null) (C := RX6) (T := TX6) (N := 6) hx hb hts in_X6 hown hK hP 0 rfl rfl 5 (by decide) (hts _ q515) (fun _ h9 => h9) rfl dX6_go_88 ?_
          refine lv_ifnonnullN hx hb dX6_go_91 ?_
          have hqc := sqz (a := yc) (by omega) (by omega)
          rw [TC_s (by omega), List.append_assoc] at hT hPr
          rw [List.length_append, S3_len] at hT
          rw [alS_app] at hPr
          refine lv_aload_n hx hb dX6_go_94 rfl (lv_at hl 1 rfl) ?_
          refine lv_iload_n hx hb dX6_go_95 rfl (lv_at hl 3 rfl) ?_
          refine lv_iload_n hx hb dX6_go_96 rfl (lv_at hl 4 rfl) ?_
          refine lv_iload hx hb dX6_go_97 (lv_at hl 0 rfl) ?_
          refine lv_iload hx hb dX6_go_99 (lv_at hl 5 rfl) ?_
          refine lv_iload hx hb dX6_go_101 (lv_at hl 0 rfl) ?_
          refine lv_iload hx hb dX6_go_103 (lv_at hl 0 rfl) ?_
          refine lv_imul hx hb dX6_go_105 ?_
          refine lv_topi (fun z_7 ez_7 => ?_)
          obtain rfl : z_7 = iZ (yc * yc) := ez_7.trans (zmul rfl rfl)
          refine lv_isub hx hb dX6_go_106 ?_
          refine lv_topi (fun z_8 ez_8 => ?_)
          obtain rfl : z_8 = iZ (lf - (yc * yc)) := ez_8.trans (zsub rfl rfl)
          refine lv_iload_n hx hb dX6_go_107 rfl (lv_at hl 2 rfl) ?_
          refine k_callv (wr := []) (va_runV (As := [.int (iZ ya), .int (iZ yb), .int (iZ yc), .int (iZ (lf - (yc * yc))), .int 0]) (rest := []) ⟨hx, hb, hml, hown, hts⟩ (ct_X6_last_n0 l D ca H.size lo n0 M al pr w0 ya yb yc (lf - (yc * yc)) N hn0 (by omega) (by omega) (by omega) (by omega) (by omega) (by omega) (by omega) (by omega) ((rm2_0 _).mp c_6) (by rw [hNn]; omega) (fun k hk9 => hw _ (by omega))) (cwV 5 hts (lw_V q534 q536 qs4 q36 q537) rfl rfl rfl (by decide +kernel) ⟨Nat.le_of_ble_eq_true rfl, Nat.le_of_ble_eq_true rfl⟩) (k_preV hk hK hN hP hD [0] (by decide) rfl trivial hP rfl (q0 := 0) rfl) rfl rfl hl.1 rfl (lv_room (Nat.le_of_ble_eq_true rfl)) dX6_go_108 ⟨Nat.le_of_ble_eq_true rfl, Nat.le_of_ble_eq_true rfl⟩) hP hD hS hA [0] [] rfl rfl (by decide) (by decide) (fun u_10 H locs w_11 hP hD hxw_11 hzw_11 hqw_11 hS => ?_)
          have hP : va_P D vwCl [(lo, .inr (5, [.int (nI n0), .int (nI M), .int (nI (al + (ds N M ya yb yc).length)), .int (nI (pr + alS 0 n0 (S3 N M ya yb yc))), .int w0, .null]))] H := hP
          have hD : va_D A [(lo, .inr (5, [.int (nI n0), .int (nI M), .int (nI (al + (ds N M ya yb yc).length)), .int (nI (pr + alS 0 n0 (S3 N M ya yb yc))), .int w0, .null]))] := hD
          refine lv_iinc (v := iZ (yc - 1)) (lv' := [(5, .int (iZ (yc - 1))), (0, .ref lo), (1, .int 0), (2, .int (iZ ya)), (3, .int (iZ yb)), (4, .int (iZ lf))]) hx hb dX6_go_111 hl (k := 0) rfl ((zadd rfl (b := -1) (by decide)).trans (by rw [Int.sub_eq_add_neg])) (by decide) rfl (fun ls hl => ?_)
          refine lv_goto (tgt := 64) hx hb dX6_go_114 (by decide) ?_
          exact ih (yc - 1) _ _ (by omega) (by omega) (by omega) (by omega) (by omega) _ _ _ hP hD hS (lv_sub hl [0, 1, 2, 3, 4, 5] rfl) 
set_option maxHeartbeats 4000000 in
set_option maxRecDepth 100000 in
theorem lp_X6_go_b0  {l : Launch} {D : va_G} {ca : Nat → ClassId} (lo : Nat) (n0 : Nat) (M : Nat) (T : Nat) (P : Nat) (w0 : Int32) (N : Int) (ya : Int) (R : List Z4') (hn0 : n0 ≤ 200) (hM28 : M ≤ 28) (hM0 : 4 * n0 < (M + 1) * (M + 1)) (hNn : N = 4 * (n0 : Int)) (hTb : T ≤ 2 ^ 20) (hPb : P ≤ 2 ^ 20) (hw : ∀ k : Nat, k < T → ¬ nI k = w0) (hba : -(M : Int) ≤ ya ∧ ya ≤ M) {p : Program} {e : Env} {s : State} {m : MethodId} {below : List Frame} {meth : Method} {c : Code} {A : Nat → Prop} (hOut : ∀ (al pr : Nat), al + (R).length = T → pr + alS 0 n0 (R) = P → ∀ (H : Heap) (locs : List Loc) (ls : Array Slot), va_P D vwCl [(lo, .inr (5, [.int (nI n0), .int (nI M), .int (nI al), .int (nI pr), .int w0, .null]))] H → va_D A [(lo, .inr (5, [.int (nI n0), .int (nI M), .int (nI al), .int (nI pr), .int w0, .null]))] → va_S A s.heap H locs → lv_has ls 6 [(0, .ref lo), (1, .int 0), (2, .int (iZ ya))] → W p l e ({ frames := 3, cells := 0, slots := 0, locals := 86 }) s m ([.ref lo, .int 0] : List Value).toArray below meth c H locs 0 0 (MQ below (qV D (fun (u : Unit) => True) (fun u => [(lo, .inr (5, [.int (nI n0), .int (nI M), .int (nI T), .int (nI P), .int w0, .null]))]) (fun u H => True) A) ([.ref lo, .int 0] : List Value).toArray s 0 0 A) (F0 m 123 ls [])) (hx : p.tables.exec = Jvm.exec) (hb : c.code = cX6_go) (hr : meth.sig.returnType = none) (hts : ∀ w ∈ lw_all, w.before ([.ref lo, .int 0] : List Value).toArray s = true) (hown : s.vm.findClass yX6_go.cls = some m.cls) (hlocks : meth.locks = false) (hnm : meth.name = yX6_go.name) (hml : c.maxLocals = 6) (hK : va_K D vwCl (tysG ca) s) (hN : NW s) (hA : ∀ q, s.heap.size ≤ q → A q)  :
    ∀ (n : Nat) (yb : Int) (al : Nat) (pr : Nat), (-(M : Int) - 1 ≤ yb) → (yb ≤ M) → (al + (TB N M ya yb ++ R).length = T) → (pr + alS 0 n0 (TB N M ya yb ++ R) = P) → (yb + M + 1 < (n : Int)) →  ∀ (H : Heap) (locs : List Loc) (ls : Array Slot), va_P D vwCl [(lo, .inr (5, [.int (nI n0), .int (nI M), .int (nI al), .int (nI pr), .int w0, .null]))] H → va_D A [(lo, .inr (5, [.int (nI n0), .int (nI M), .int (nI al), .int (nI pr), .int w0, .null]))] → va_S A s.heap H locs → lv_has ls 6 [(3, .int (iZ yb)), (0, .ref lo), (1, .int 0), (2, .int (iZ ya))] → W p l e ({ frames := 3, cells := 0, slots := 0, locals := 86 }) s m ([.ref lo, .int 0] : List Value).toArray below meth c H locs 0 0 (MQ below (qV D (fun (u : Unit) => True) (fun u => [(lo, .inr (5, [.int (nI n0), .int (nI M), .int (nI T), .int (nI P), .int w0, .null]))]) (fun u H => True) A) ([.ref lo, .int 0] : List Value).toArray s 0 0 A) (F0 m 26 ls []) := by
  intro n
  induction n with
  | zero =>
    intro yb al pr hb1 hb2 hT hPr hfuel H locs ls hP hD hS hl 
    exact absurd hfuel (by omega)
  | succ n ih =>
    intro yb al pr hb1 hb2 hT hPr hfuel H locs ls hP hD hS hl 
    have hk := NW_ok
    have hqa := sqz (a := ya) (by omega) (by omega)
    refine lv_iload_n hx hb dX6_go_26 rfl (lv_at hl 0 rfl) ?_
    refine lv_aload_n hx hb dX6_go_27 rfl (lv_at hl 1 rfl) ?_
    refine va_get (D := D) (ci := 5) (v := .int (nI M)) (C := RX6) (T := TX6) (N := 6) hx hb hts in_X6 hown hK hP 0 rfl rfl 1 (by decide) (hts _ q510) (fun _ h9 => h9) rfl dX6_go_28 ?_
    refine lv_ineg hx hb dX6_go_31 ?_
    refine lv_topi (fun z_1 ez_1 => ?_)
    obtain rfl : z_1 = iZ (-((M : Nat) : Int)) := ez_1.trans (zneg (iZ_n _))
    refine lv_icmp_lt (tgt := 123) hx hb dX6_go_32 (by decide) (fun c_2 => ?_) (fun c_2 => ?_)
    · have c_2 := ltz_y (a := yb) (b := -((M : Nat) : Int)) rfl rfl (by omega) (by omega) c_2
      rw [TB_e (by omega), List.nil_append] at hT hPr
      exact hOut al pr hT hPr _ _ _ hP hD hS (lv_sub hl [1, 2, 3] rfl)
    · have c_2 := ltz_no (a := yb) (b := -((M : Nat) : Int)) rfl rfl (by omega) (by omega) c_2
      refine lv_aload_n hx hb dX6_go_35 rfl (lv_at hl 1 rfl) ?_
      refine va_get (D := D) (ci := 5) (v := .null) (C := RX6) (T := TX6) (N := 6) hx hb hts in_X6 hown hK hP 0 rfl rfl 5 (by decide) (hts _ q515) (fun _ h9 => h9) rfl dX6_go_36 ?_
      refine lv_ifnonnullN hx hb dX6_go_39 ?_
      have hqb := sqz (a := yb) (by omega) (by omega)
      refine lv_iconst (v := 4) hx hb dX6_go_42 (by decide) ?_
      refine lv_aload_n hx hb dX6_go_43 rfl (lv_at hl 1 rfl) ?_
      refine va_get (D := D) (ci := 5) (v := .int (nI n0)) (C := RX6) (T := TX6) (N := 6) hx hb hts in_X6 hown hK hP 0 rfl rfl 0 (by decide) (hts _ q509) (fun _ h9 => h9) rfl dX6_go_44 ?_
      refine lv_imul hx hb dX6_go_47 ?_
      refine lv_topi (fun z_3 ez_3 => ?_)
      obtain rfl : z_3 = iZ (4 * ((n0 : Nat) : Int)) := ez_3.trans (zmul (by decide) (iZ_n _))
      refine lv_iload_n hx hb dX6_go_48 rfl (lv_at hl 3 rfl) ?_
      refine lv_iload_n hx hb dX6_go_49 rfl (lv_at hl 3 rfl) ?_
      refine lv_imul hx hb dX6_go_50 ?_
      refine lv_topi (fun z_4 ez_4 => ?_)
      obtain rfl : z_4 = iZ (ya * ya) := ez_4.trans (zmul rfl rfl)
      refine lv_isub hx hb dX6_go_51 ?_
      refine lv_topi (fun z_5 ez_5 => ?_)
      obtain rfl : z_5 = iZ ((4 * ((n0 : Nat) : Int)) - (ya * ya)) := ez_5.trans (zsub rfl rfl)
      refine lv_iload_n hx hb dX6_go_52 rfl (lv_at hl 0 rfl) ?_
      refine lv_iload_n hx hb dX6_go_53 rfl (lv_at hl 0 rfl) ?_
      refine lv_imul hx hb dX6_go_54 ?_
      refine lv_topi (fun z_6 ez_6 => ?_)
      obtain rfl : z_6 = iZ (yb * yb) := ez_6.trans (zmul rfl rfl)
      refine lv_isub hx hb dX6_go_55 ?_
      refine lv_topi (fun z_7 ez_7 => ?_)
      obtain rfl : z_7 = iZ (((4 * ((n0 : Nat) : Int)) - (ya * ya)) - (yb * yb)) := ez_7.trans (zsub rfl rfl)
      refine lv_istore (lv' := [(4, .int (iZ (((4 * ((n0 : Nat) : Int)) - (ya * ya)) - (yb * yb)))), (3, .int (iZ yb)), (0, .ref lo), (1, .int 0), (2, .int (iZ ya))]) hx hb dX6_go_56 hl (by decide) rfl (fun ls hl => ?_)
      refine lv_aload_n hx hb dX6_go_58 rfl (lv_at hl 2 rfl) ?_
      refine va_get (D := D) (ci := 5) (v := .int (nI M)) (C := RX6) (T := TX6) (N := 6) hx hb hts in_X6 hown hK hP 0 rfl rfl 1 (by decide) (hts _ q510) (fun _ h9 => h9) rfl dX6_go_59 ?_
      refine lv_topi (fun z_8 ez_8 => ?_)
      obtain rfl : z_8 = iZ ((M : Nat) : Int) := ez_8.trans (iZ_n M)
      refine lv_istore (lv' := [(5, .int (iZ ((M : Nat) : Int))), (4, .int (iZ (((4 * ((n0 : Nat) : Int)) - (ya * ya)) - (yb * yb)))), (3, .int (iZ yb)), (0, .ref lo), (1, .int 0), (2, .int (iZ ya))]) hx hb dX6_go_62 hl (by decide) rfl (fun ls hl => ?_)
      rw [TB_s (by omega), List.append_assoc] at hT hPr
      refine lp_X6_go_c0 lo n0 M T P w0 N ya yb (((4 * ((n0 : Nat) : Int)) - (ya * ya)) - (yb * yb)) (TB N M ya (yb - 1) ++ R) hn0 hM28 hM0 hNn hTb hPb hw hba (by omega) (by omega) (fun al pr hT hPr H locs ls hP hD hS hl => ?_) hx hb hr hts hown hlocks hnm hml hK hN hA  (((M : Int) + M + 2).toNat) ((M : Nat) : Int) al pr (by omega) (by omega) hT hPr (by omega) _ _ _ hP hD hS (lv_sub hl [0, 3, 4, 5, 2, 1] rfl)
      refine lv_iinc (v := iZ (yb - 1)) (lv' := [(3, .int (iZ (yb - 1))), (0, .ref lo), (1, .int 0), (2, .int (iZ ya))]) hx hb dX6_go_117 hl (k := 3) rfl ((zadd rfl (b := -1) (by decide)).trans (by rw [Int.sub_eq_add_neg])) (by decide) rfl (fun ls hl => ?_)
      refine lv_goto (tgt := 26) hx hb dX6_go_120 (by decide) ?_
      exact ih (yb - 1) al pr (by omega) (by omega) hT hPr (by omega) _ _ _ hP hD hS (lv_sub hl [0, 1, 2, 3] rfl) 
set_option maxHeartbeats 4000000 in
set_option maxRecDepth 100000 in
theorem lp_X6_go_a0  {l : Launch} {D : va_G} {ca : Nat → ClassId} (lo : Nat) (n0 : Nat) (M : Nat) (T : Nat) (P : Nat) (w0 : Int32) (N : Int) (hn0 : n0 ≤ 200) (hM28 : M ≤ 28) (hM0 : 4 * n0 < (M + 1) * (M + 1)) (hNn : N = 4 * (n0 : Int)) (hTb : T ≤ 2 ^ 20) (hPb : P ≤ 2 ^ 20) (hw : ∀ k : Nat, k < T → ¬ nI k = w0) {p : Program} {e : Env} {s : State} {m : MethodId} {below : List Frame} {meth : Method} {c : Code} {A : Nat → Prop}  (hx : p.tables.exec = Jvm.exec) (hb : c.code = cX6_go) (hr : meth.sig.returnType = none) (hts : ∀ w ∈ lw_all, w.before ([.ref lo, .int 0] : List Value).toArray s = true) (hown : s.vm.findClass yX6_go.cls = some m.cls) (hlocks : meth.locks = false) (hnm : meth.name = yX6_go.name) (hml : c.maxLocals = 6) (hK : va_K D vwCl (tysG ca) s) (hN : NW s) (hA : ∀ q, s.heap.size ≤ q → A q)  :
    ∀ (n : Nat) (ya : Int) (al : Nat) (pr : Nat), (-(M : Int) - 1 ≤ ya) → (ya ≤ M) → (al + (TA N M ya).length = T) → (pr + alS 0 n0 (TA N M ya) = P) → (ya + M + 1 < (n : Int)) →  ∀ (H : Heap) (locs : List Loc) (ls : Array Slot), va_P D vwCl [(lo, .inr (5, [.int (nI n0), .int (nI M), .int (nI al), .int (nI pr), .int w0, .null]))] H → va_D A [(lo, .inr (5, [.int (nI n0), .int (nI M), .int (nI al), .int (nI pr), .int w0, .null]))] → va_S A s.heap H locs → lv_has ls 6 [(2, .int (iZ ya)), (0, .ref lo), (1, .int 0)] → W p l e ({ frames := 3, cells := 0, slots := 0, locals := 86 }) s m ([.ref lo, .int 0] : List Value).toArray below meth c H locs 0 0 (MQ below (qV D (fun (u : Unit) => True) (fun u => [(lo, .inr (5, [.int (nI n0), .int (nI M), .int (nI T), .int (nI P), .int w0, .null]))]) (fun u H => True) A) ([.ref lo, .int 0] : List Value).toArray s 0 0 A) (F0 m 5 ls []) := by
  intro n
  induction n with
  | zero =>
    intro ya al pr ha1 ha2 hT hPr hfuel H locs ls hP hD hS hl 
    exact absurd hfuel (by omega)
  | succ n ih =>
    intro ya al pr ha1 ha2 hT hPr hfuel H locs ls hP hD hS hl 
    have hk := NW_ok
    refine lv_iload_n hx hb dX6_go_5 rfl (lv_at hl 0 rfl) ?_
    refine lv_aload_n hx hb dX6_go_6 rfl (lv_at hl 1 rfl) ?_
    refine va_get (D := D) (ci := 5) (v := .int (nI M)) (C := RX6) (T := TX6) (N := 6) hx hb hts in_X6 hown hK hP 0 rfl rfl 1 (by decide) (hts _ q510) (fun _ h9 => h9) rfl dX6_go_7 ?_
    refine lv_ineg hx hb dX6_go_10 ?_
    refine lv_topi (fun z_1 ez_1 => ?_)
    obtain rfl : z_1 = iZ (-((M : Nat) : Int)) := ez_1.trans (zneg (iZ_n _))
    refine lv_icmp_lt (tgt := 129) hx hb dX6_go_11 (by decide) (fun c_2 => ?_) (fun c_2 => ?_)
    · have c_2 := ltz_y (a := ya) (b := -((M : Nat) : Int)) rfl rfl (by omega) (by omega) c_2
      rw [TA_e (by omega)] at hT hPr
      obtain rfl : al = T := hT
      obtain rfl : pr = P := hPr
      exact k_vret () hx hb hr hlocks (trivial) hP hD trivial hS (Nat.le_of_ble_eq_true rfl) (Nat.le_of_ble_eq_true rfl) dX6_go_129
    · have c_2 := ltz_no (a := ya) (b := -((M : Nat) : Int)) rfl rfl (by omega) (by omega) c_2
      refine lv_aload_n hx hb dX6_go_14 rfl (lv_at hl 1 rfl) ?_
      refine va_get (D := D) (ci := 5) (v := .null) (C := RX6) (T := TX6) (N := 6) hx hb hts in_X6 hown hK hP 0 rfl rfl 5 (by decide) (hts _ q515) (fun _ h9 => h9) rfl dX6_go_15 ?_
      refine lv_ifnonnullN hx hb dX6_go_18 ?_
      refine lv_aload_n hx hb dX6_go_21 rfl (lv_at hl 1 rfl) ?_
      refine va_get (D := D) (ci := 5) (v := .int (nI M)) (C := RX6) (T := TX6) (N := 6) hx hb hts in_X6 hown hK hP 0 rfl rfl 1 (by decide) (hts _ q510) (fun _ h9 => h9) rfl dX6_go_22 ?_
      refine lv_topi (fun z_3 ez_3 => ?_)
      obtain rfl : z_3 = iZ ((M : Nat) : Int) := ez_3.trans (iZ_n M)
      refine lv_istore_n (lv' := [(3, .int (iZ ((M : Nat) : Int))), (2, .int (iZ ya)), (0, .ref lo), (1, .int 0)]) hx hb dX6_go_25 rfl hl (by decide) rfl (fun ls hl => ?_)
      rw [TA_s (by omega)] at hT hPr
      refine lp_X6_go_b0 lo n0 M T P w0 N ya (TA N M (ya - 1)) hn0 hM28 hM0 hNn hTb hPb hw (by omega) (fun al pr hT hPr H locs ls hP hD hS hl => ?_) hx hb hr hts hown hlocks hnm hml hK hN hA  (((M : Int) + M + 2).toNat) ((M : Nat) : Int) al pr (by omega) (by omega) hT hPr (by omega) _ _ _ hP hD hS (lv_sub hl [0, 2, 3, 1] rfl)
      refine lv_iinc (v := iZ (ya - 1)) (lv' := [(2, .int (iZ (ya - 1))), (0, .ref lo), (1, .int 0)]) hx hb dX6_go_123 hl (k := 2) rfl ((zadd rfl (b := -1) (by decide)).trans (by rw [Int.sub_eq_add_neg])) (by decide) rfl (fun ls hl => ?_)
      refine lv_goto (tgt := 5) hx hb dX6_go_126 (by decide) ?_
      exact ih (ya - 1) al pr (by omega) (by omega) hT hPr (by omega) _ _ _ hP hD hS (lv_sub hl [0, 1, 2] rfl) 
set_option maxHeartbeats 4000000 in
set_option maxRecDepth 100000 in
theorem ct_X6_go_n0 (l : Launch) (D : va_G) (ca : Nat → ClassId) (zH : Nat) (lo n0 M T P : Nat) (w0 : Int32) (N : Int) (hn0 : n0 ≤ 200) (hM28 : M ≤ 28) (hM0 : 4 * n0 < (M + 1) * (M + 1)) (hNn : N = 4 * (n0 : Int)) (hTb : T ≤ 2 ^ 20) (hPb : P ≤ 2 ^ 20) (hw : ∀ k : Nat, k < T → ¬ nI k = w0) (hTT : (S0 N M).length = T) (hPP : alS 0 n0 (S0 N M) = P) : Met l yX6_go (ws_ yX6_go cX6_go 6 none) ({ frames := 3, cells := 0, slots := 0, locals := 86 }) (va_Pc [.ref lo, .int 0] (pr_ NW D ca [(lo, .inr (5, [.int (nI n0), .int (nI M), .int 0, .int 0, .int w0, .null]))] zH (fun _ => True))) (qV D (fun (u : Unit) => True) (fun u => [(lo, .inr (5, [.int (nI n0), .int (nI M), .int (nI T), .int (nI P), .int w0, .null]))]) (fun u H => True) (va_A [(lo, .inr (5, [.int (nI n0), .int (nI M), .int 0, .int 0, .int w0, .null]))] zH)) 0 0 (va_A [(lo, .inr (5, [.int (nI n0), .int (nI M), .int 0, .int 0, .int w0, .null]))] zH) := by
  have hk := NW_ok
  refine k_ofW (Qc := qV D (fun (u : Unit) => True) (fun u => [(lo, .inr (5, [.int (nI n0), .int (nI M), .int (nI T), .int (nI P), .int w0, .null]))]) (fun u H => True)) (by decide) (Nat.le_of_ble_eq_true rfl) ?_
  intro p e s m below meth c ls A H hH hx hb hr hts hown hlocks hnm hml hsz hP hD hK hN hA hAn hS hro hl
  have hl : lv_has ls 6 [(0, .ref lo), (1, .int 0)] := hl
  refine lv_aload_n hx hb dX6_go_0 rfl (lv_at hl 0 rfl) ?_
  refine va_get (D := D) (ci := 5) (v := .int (nI M)) (C := RX6) (T := TX6) (N := 6) hx hb hts in_X6 hown hK hP 0 rfl rfl 1 (by decide) (hts _ q510) (fun _ h9 => h9) rfl dX6_go_1 ?_
  refine lv_topi (fun z_1 ez_1 => ?_)
  obtain rfl : z_1 = iZ ((M : Nat) : Int) := ez_1.trans (iZ_n M)
  refine lv_istore_n (lv' := [(2, .int (iZ ((M : Nat) : Int))), (0, .ref lo), (1, .int 0)]) hx hb dX6_go_4 rfl hl (by decide) rfl (fun ls hl => ?_)
  exact lp_X6_go_a0 lo n0 M T P w0 N hn0 hM28 hM0 hNn hTb hPb hw  hx hb hr hts hown hlocks hnm hml hK hN hA  (((M : Int) + M + 2).toNat) ((M : Nat) : Int) 0 0 (by omega) (by omega) (by rw [TA_0, hTT, Nat.zero_add]) (by rw [TA_0, hPP, Nat.zero_add]) (by omega) _ _ _ hP hD hS (lv_sub hl [0, 1, 2] rfl) 
