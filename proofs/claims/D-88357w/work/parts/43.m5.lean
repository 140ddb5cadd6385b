set_option maxHeartbeats 4000000 in
set_option maxRecDepth 100000 in
theorem lp_X5_copy2 {KN : State → Prop} (hk : KNok KN) {l : Launch} {D : va_G} {ca : Nat → ClassId} (o : Nat) (ad : Nat → Nat) (nf : Int32) (mo : Int32) (kd : AI) (sz : AI) (sh : AL) (mid : AL) (jr : Nat) (ai : Nat) (jt : Nat) (aj : Nat) (nn : Nat) (hjr : jr < 6) (hjt : jt < 6) (hai : ai + nn ≤ 16) (haj : aj + nn ≤ 16) (hsp : m_copy kd sz sh (nI jr) (nI ai) (nI jt) (nI aj) (nI nn) = (0, cpk sh (16 * jr + ai) (16 * jt + aj) nn)) {p : Program} {e : Env} {s : State} {m : MethodId} {below : List Frame} {meth : Method} {c : Code} {A : Nat → Prop}  (hx : p.tables.exec = Jvm.exec) (hb : c.code = cX5_copy) (hr : meth.sig.returnType = (some .int)) (hts : ∀ w ∈ lw_all, w.before ([.ref o, .int (nI jr), .int (nI ai), .int (nI jt), .int (nI aj), .int (nI nn)] : List Value).toArray s = true) (hown : s.vm.findClass yX5_copy.cls = some m.cls) (hlocks : meth.locks = false) (hnm : meth.name = yX5_copy.name) (hml : c.maxLocals = 7) (hK : va_K D vwCl (tysG ca) s) (hN : KN s) (hA : ∀ q, s.heap.size ≤ q → A q)  :
    ∀ (n : Nat) (k : Nat), (k ≤ nn) → (nn < n + k) →  ∀ (H : Heap) (locs : List Loc) (ls : Array Slot), va_P D vwCl [(o, mO ad nf mo), (ad 0, aI ca 6 kd), (ad 1, aI ca 6 sz), (ad 2, aL ca 96 (cpk sh (16 * jr + ai) (16 * jt + aj) k)), (ad 7, aL ca 16 (mdk sh mid (16 * jr + ai) nn))] H → va_D A [(o, mO ad nf mo), (ad 0, aI ca 6 kd), (ad 1, aI ca 6 sz), (ad 2, aL ca 96 (cpk sh (16 * jr + ai) (16 * jt + aj) k)), (ad 7, aL ca 16 (mdk sh mid (16 * jr + ai) nn))] → va_S A s.heap H locs → lv_has ls 7 [(6, .int (nI k)), (0, .ref o), (1, .int (nI jr)), (2, .int (nI ai)), (3, .int (nI jt)), (4, .int (nI aj)), (5, .int (nI nn))] → W p l e ({ frames := 2, cells := 0, slots := 0, locals := 45 }) s m ([.ref o, .int (nI jr), .int (nI ai), .int (nI jt), .int (nI aj), .int (nI nn)] : List Value).toArray below meth c H locs 0 0 (MQ below (qI D (fun (r : Int32) (u : AL × AL) => (r, u.1) = m_copy kd sz sh (nI jr) (nI ai) (nI jt) (nI aj) (nI nn)) (fun u => [(o, mO ad nf mo), (ad 0, aI ca 6 kd), (ad 1, aI ca 6 sz), (ad 2, aL ca 96 u.1), (ad 7, aL ca 16 u.2)]) (fun u H => True) A) ([.ref o, .int (nI jr), .int (nI ai), .int (nI jt), .int (nI aj), .int (nI nn)] : List Value).toArray s 0 0 A) (F0 m 126 ls []) := by
  intro n
  induction n with
  | zero =>
    intro k hkn hfuel H locs ls hP hD hS hl 
    exact absurd hfuel (by omega)
  | succ n ih =>
    intro k hkn hfuel H locs ls hP hD hS hl 
    refine lv_iload hx hb dX5_copy_126 (lv_at hl 0 rfl) ?_
    refine lv_iload hx hb dX5_copy_128 (lv_at hl 6 rfl) ?_
    refine lv_icmp_ge (tgt := 161) hx hb dX5_copy_130 (by decide) (fun c_1 => ?_) (fun c_1 => ?_)
    · have c_1 := le_y (a := nn) (b := k) rfl rfl (by omega) (by omega) c_1
      refine lv_iconst (v := 0) hx hb dX5_copy_161 (by decide) ?_
      exact k_iret (cpk sh (16 * jr + ai) (16 * jt + aj) k, mdk sh mid (16 * jr + ai) nn) hx hb hr hlocks (by rw [hsp, show k = nn by omega]) hP hD trivial hS (Nat.le_of_ble_eq_true rfl) (Nat.le_of_ble_eq_true rfl) dX5_copy_162
    · have c_1 := le_no (a := nn) (b := k) rfl rfl (by omega) (by omega) c_1
      refine lv_aload_n hx hb dX5_copy_133 rfl (lv_at hl 1 rfl) ?_
      refine va_get (D := D) (ci := 4) (v := .ref (ad 2)) (C := RX5) (T := TX5) (N := 18) hx hb hts in_X5 hown hK hP 0 rfl rfl 2 (by decide) (hts _ q575) (fun _ h9 => h9) rfl dX5_copy_134 ?_
      refine lv_bipush (v := 16) hx hb dX5_copy_137 (by decide) ?_
      refine lv_iload_n hx hb dX5_copy_139 rfl (lv_at hl 4 rfl) ?_
      refine lv_imul hx hb dX5_copy_140 ?_
      refine lv_iload hx hb dX5_copy_141 (lv_at hl 5 rfl) ?_
      refine lv_iadd hx hb dX5_copy_143 ?_
      refine lv_iload hx hb dX5_copy_144 (lv_at hl 0 rfl) ?_
      refine lv_iadd hx hb dX5_copy_146 ?_
      refine lv_aload_n hx hb dX5_copy_147 rfl (lv_at hl 1 rfl) ?_
      refine va_get (D := D) (ci := 4) (v := .ref (ad 7)) (C := RX5) (T := TX5) (N := 18) hx hb hts in_X5 hown hK hP 0 rfl rfl 7 (by decide) (hts _ q580) (fun _ h9 => h9) rfl dX5_copy_148 ?_
      refine lv_iload hx hb dX5_copy_151 (lv_at hl 0 rfl) ?_
      refine va_lald hx hb hK hP 4 2 rfl rfl (vin_nI (a := k) rfl (by omega) (by omega)) dX5_copy_153 ?_
      refine lv_topl (fun z_2 ez_2 => ?_)
      obtain rfl : z_2 = (mdk sh mid (16 * jr + ai) nn) k := ez_2.trans (cl_nI (a := k) (mdk sh mid (16 * jr + ai) nn) rfl (by omega))
      refine lv_topl (fun z_3 ez_3 => ?_)
      obtain rfl : z_3 = sh ((16 * jr + ai) + k) := ez_3.trans (mdk_in (by omega))
      refine va_last hx hb hK hP hD hS 3 2 rfl rfl (vin_nI (a := ((16 * jt) + aj) + k) (eq_add (eq_add (eq_mul rfl rfl) rfl) rfl) (by omega) (by omega)) dX5_copy_154 (fun H locs hP hD hS => ?_)
      rw [cn_nI (i := ((16 * (nI jt)) + (nI aj)) + (nI k)) (a := ((16 * jt) + aj) + k) (eq_add (eq_add (eq_mul rfl rfl) rfl) rfl) (by omega)] at hP hD
      have hP : va_P D vwCl [(o, mO ad nf mo), (ad 0, aI ca 6 kd), (ad 1, aI ca 6 sz), (ad 2, aL ca 96 (vp_updL (cpk sh (16 * jr + ai) (16 * jt + aj) k) (((16 * jt) + aj) + k) (sh ((16 * jr + ai) + k)))), (ad 7, aL ca 16 (mdk sh mid (16 * jr + ai) nn))] H := hP
      have hD : va_D A [(o, mO ad nf mo), (ad 0, aI ca 6 kd), (ad 1, aI ca 6 sz), (ad 2, aL ca 96 (vp_updL (cpk sh (16 * jr + ai) (16 * jt + aj) k) (((16 * jt) + aj) + k) (sh ((16 * jr + ai) + k)))), (ad 7, aL ca 16 (mdk sh mid (16 * jr + ai) nn))] := hD
      refine lv_iinc (v := nI (k + 1)) (lv' := [(6, .int (nI (k + 1))), (0, .ref o), (1, .int (nI jr)), (2, .int (nI ai)), (3, .int (nI jt)), (4, .int (nI aj)), (5, .int (nI nn))]) hx hb dX5_copy_155 hl (k := 0) rfl (eq_add rfl rfl) (by decide) rfl (fun ls hl => ?_)
      refine lv_goto (tgt := 126) hx hb dX5_copy_158 (by decide) ?_
      rw [cpk_s] at hP hD
      exact ih (k + 1) (by omega) (by omega) _ _ _ hP hD hS (lv_sub hl [0, 1, 2, 3, 4, 5, 6] rfl) 
set_option maxHeartbeats 4000000 in
set_option maxRecDepth 100000 in
theorem lp_X5_copy1 {KN : State → Prop} (hk : KNok KN) {l : Launch} {D : va_G} {ca : Nat → ClassId} (o : Nat) (ad : Nat → Nat) (nf : Int32) (mo : Int32) (kd : AI) (sz : AI) (sh : AL) (mid : AL) (jr : Nat) (ai : Nat) (jt : Nat) (aj : Nat) (nn : Nat) (hjr : jr < 6) (hjt : jt < 6) (hai : ai + nn ≤ 16) (haj : aj + nn ≤ 16) (hsp : m_copy kd sz sh (nI jr) (nI ai) (nI jt) (nI aj) (nI nn) = (0, cpk sh (16 * jr + ai) (16 * jt + aj) nn)) {p : Program} {e : Env} {s : State} {m : MethodId} {below : List Frame} {meth : Method} {c : Code} {A : Nat → Prop}  (hx : p.tables.exec = Jvm.exec) (hb : c.code = cX5_copy) (hr : meth.sig.returnType = (some .int)) (hts : ∀ w ∈ lw_all, w.before ([.ref o, .int (nI jr), .int (nI ai), .int (nI jt), .int (nI aj), .int (nI nn)] : List Value).toArray s = true) (hown : s.vm.findClass yX5_copy.cls = some m.cls) (hlocks : meth.locks = false) (hnm : meth.name = yX5_copy.name) (hml : c.maxLocals = 7) (hK : va_K D vwCl (tysG ca) s) (hN : KN s) (hA : ∀ q, s.heap.size ≤ q → A q)  :
    ∀ (n : Nat) (k : Nat), (k ≤ nn) → (nn < n + k) →  ∀ (H : Heap) (locs : List Loc) (ls : Array Slot), va_P D vwCl [(o, mO ad nf mo), (ad 0, aI ca 6 kd), (ad 1, aI ca 6 sz), (ad 2, aL ca 96 sh), (ad 7, aL ca 16 (mdk sh mid (16 * jr + ai) k))] H → va_D A [(o, mO ad nf mo), (ad 0, aI ca 6 kd), (ad 1, aI ca 6 sz), (ad 2, aL ca 96 sh), (ad 7, aL ca 16 (mdk sh mid (16 * jr + ai) k))] → va_S A s.heap H locs → lv_has ls 7 [(6, .int (nI k)), (0, .ref o), (1, .int (nI jr)), (2, .int (nI ai)), (3, .int (nI jt)), (4, .int (nI aj)), (5, .int (nI nn))] → W p l e ({ frames := 2, cells := 0, slots := 0, locals := 45 }) s m ([.ref o, .int (nI jr), .int (nI ai), .int (nI jt), .int (nI aj), .int (nI nn)] : List Value).toArray below meth c H locs 0 0 (MQ below (qI D (fun (r : Int32) (u : AL × AL) => (r, u.1) = m_copy kd sz sh (nI jr) (nI ai) (nI jt) (nI aj) (nI nn)) (fun u => [(o, mO ad nf mo), (ad 0, aI ca 6 kd), (ad 1, aI ca 6 sz), (ad 2, aL ca 96 u.1), (ad 7, aL ca 16 u.2)]) (fun u H => True) A) ([.ref o, .int (nI jr), .int (nI ai), .int (nI jt), .int (nI aj), .int (nI nn)] : List Value).toArray s 0 0 A) (F0 m 89 ls []) := by
  intro n
  induction n with
  | zero =>
    intro k hkn hfuel H locs ls hP hD hS hl 
    exact absurd hfuel (by omega)
  | succ n ih =>
    intro k hkn hfuel H locs ls hP hD hS hl 
    refine lv_iload hx hb dX5_copy_89 (lv_at hl 0 rfl) ?_
    refine lv_iload hx hb dX5_copy_91 (lv_at hl 6 rfl) ?_
    refine lv_icmp_ge (tgt := 123) hx hb dX5_copy_93 (by decide) (fun c_1 => ?_) (fun c_1 => ?_)
    · have c_1 := le_y (a := nn) (b := k) rfl rfl (by omega) (by omega) c_1
      refine lv_iconst (v := 0) hx hb dX5_copy_123 (by decide) ?_
      refine lv_istore (lv' := [(6, .int 0), (0, .ref o), (1, .int (nI jr)), (2, .int (nI ai)), (3, .int (nI jt)), (4, .int (nI aj)), (5, .int (nI nn))]) hx hb dX5_copy_124 hl (by decide) rfl (fun ls hl => ?_)
      have hkk : k = nn := by omega
      rw [hkk] at hP hD
      have hP : va_P D vwCl [(o, mO ad nf mo), (ad 0, aI ca 6 kd), (ad 1, aI ca 6 sz), (ad 2, aL ca 96 (cpk sh (16 * jr + ai) (16 * jt + aj) 0)), (ad 7, aL ca 16 (mdk sh mid (16 * jr + ai) nn))] H := by rw [cpk_0]; exact hP
      have hD : va_D A [(o, mO ad nf mo), (ad 0, aI ca 6 kd), (ad 1, aI ca 6 sz), (ad 2, aL ca 96 (cpk sh (16 * jr + ai) (16 * jt + aj) 0)), (ad 7, aL ca 16 (mdk sh mid (16 * jr + ai) nn))] := by rw [cpk_0]; exact hD
      exact lp_X5_copy2 hk o ad nf mo kd sz sh mid jr ai jt aj nn hjr hjt hai haj hsp  hx hb hr hts hown hlocks hnm hml hK hN hA  (nn + 1) 0 (by omega) (by omega) _ _ _ hP hD hS (lv_sub hl [0, 1, 2, 3, 4, 5, 6] rfl) 
    · have c_1 := le_no (a := nn) (b := k) rfl rfl (by omega) (by omega) c_1
      refine lv_aload_n hx hb dX5_copy_96 rfl (lv_at hl 1 rfl) ?_
      refine va_get (D := D) (ci := 4) (v := .ref (ad 7)) (C := RX5) (T := TX5) (N := 18) hx hb hts in_X5 hown hK hP 0 rfl rfl 7 (by decide) (hts _ q580) (fun _ h9 => h9) rfl dX5_copy_97 ?_
      refine lv_iload hx hb dX5_copy_100 (lv_at hl 0 rfl) ?_
      refine lv_aload_n hx hb dX5_copy_102 rfl (lv_at hl 1 rfl) ?_
      refine va_get (D := D) (ci := 4) (v := .ref (ad 2)) (C := RX5) (T := TX5) (N := 18) hx hb hts in_X5 hown hK hP 0 rfl rfl 2 (by decide) (hts _ q575) (fun _ h9 => h9) rfl dX5_copy_103 ?_
      refine lv_bipush (v := 16) hx hb dX5_copy_106 (by decide) ?_
      refine lv_iload_n hx hb dX5_copy_108 rfl (lv_at hl 2 rfl) ?_
      refine lv_imul hx hb dX5_copy_109 ?_
      refine lv_iload_n hx hb dX5_copy_110 rfl (lv_at hl 3 rfl) ?_
      refine lv_iadd hx hb dX5_copy_111 ?_
      refine lv_iload hx hb dX5_copy_112 (lv_at hl 0 rfl) ?_
      refine lv_iadd hx hb dX5_copy_114 ?_
      refine va_lald hx hb hK hP 3 2 rfl rfl (vin_nI (a := ((16 * jr) + ai) + k) (eq_add (eq_add (eq_mul rfl rfl) rfl) rfl) (by omega) (by omega)) dX5_copy_115 ?_
      refine lv_topl (fun z_2 ez_2 => ?_)
      obtain rfl : z_2 = sh (((16 * jr) + ai) + k) := ez_2.trans (cl_nI (a := ((16 * jr) + ai) + k) sh (eq_add (eq_add (eq_mul rfl rfl) rfl) rfl) (by omega))
      refine va_last hx hb hK hP hD hS 4 2 rfl rfl (vin_nI (a := k) rfl (by omega) (by omega)) dX5_copy_116 (fun H locs hP hD hS => ?_)
      rw [cn_nI (i := nI k) (a := k) rfl (by omega)] at hP hD
      have hP : va_P D vwCl [(o, mO ad nf mo), (ad 0, aI ca 6 kd), (ad 1, aI ca 6 sz), (ad 2, aL ca 96 sh), (ad 7, aL ca 16 (vp_updL (mdk sh mid (16 * jr + ai) k) k (sh (((16 * jr) + ai) + k))))] H := hP
      have hD : va_D A [(o, mO ad nf mo), (ad 0, aI ca 6 kd), (ad 1, aI ca 6 sz), (ad 2, aL ca 96 sh), (ad 7, aL ca 16 (vp_updL (mdk sh mid (16 * jr + ai) k) k (sh (((16 * jr) + ai) + k))))] := hD
      refine lv_iinc (v := nI (k + 1)) (lv' := [(6, .int (nI (k + 1))), (0, .ref o), (1, .int (nI jr)), (2, .int (nI ai)), (3, .int (nI jt)), (4, .int (nI aj)), (5, .int (nI nn))]) hx hb dX5_copy_117 hl (k := 0) rfl (eq_add rfl rfl) (by decide) rfl (fun ls hl => ?_)
      refine lv_goto (tgt := 89) hx hb dX5_copy_120 (by decide) ?_
      rw [mdk_s] at hP hD
      exact ih (k + 1) (by omega) (by omega) _ _ _ hP hD hS (lv_sub hl [0, 1, 2, 3, 4, 5, 6] rfl) 
set_option maxHeartbeats 4000000 in
set_option maxRecDepth 100000 in
theorem ct_X5_copy {KN : State → Prop} (hk : KNok KN) (l : Launch) (D : va_G) (ca : Nat → ClassId) (zH : Nat) (o : Nat) (ad : Nat → Nat) (nf mo : Int32) (kd sz : AI) (sh mid : AL) (r0 i0 t0 j0 n0 : Int32) (hz : okS sz) : Met l yX5_copy (ws_ yX5_copy cX5_copy 7 (some .int)) ({ frames := 2, cells := 0, slots := 0, locals := 45 }) (va_Pc [.ref o, .int r0, .int i0, .int t0, .int j0, .int n0] (pr_ KN D ca [(o, mO ad nf mo), (ad 0, aI ca 6 kd), (ad 1, aI ca 6 sz), (ad 2, aL ca 96 sh), (ad 7, aL ca 16 mid)] zH (fun _ => True))) (qI D (fun (r : Int32) (u : AL × AL) => (r, u.1) = m_copy kd sz sh r0 i0 t0 j0 n0) (fun u => [(o, mO ad nf mo), (ad 0, aI ca 6 kd), (ad 1, aI ca 6 sz), (ad 2, aL ca 96 u.1), (ad 7, aL ca 16 u.2)]) (fun u H => True) (va_A [(o, mO ad nf mo), (ad 0, aI ca 6 kd), (ad 1, aI ca 6 sz), (ad 2, aL ca 96 sh), (ad 7, aL ca 16 mid)] zH)) 0 0 (va_A [(o, mO ad nf mo), (ad 0, aI ca 6 kd), (ad 1, aI ca 6 sz), (ad 2, aL ca 96 sh), (ad 7, aL ca 16 mid)] zH) := by
  refine k_ofW (Qc := qI D (fun (r : Int32) (u : AL × AL) => (r, u.1) = m_copy kd sz sh r0 i0 t0 j0 n0) (fun u => [(o, mO ad nf mo), (ad 0, aI ca 6 kd), (ad 1, aI ca 6 sz), (ad 2, aL ca 96 u.1), (ad 7, aL ca 16 u.2)]) (fun u H => True)) (by decide) (Nat.le_of_ble_eq_true rfl) ?_
  intro p e s m below meth c ls A H hH hx hb hr hts hown hlocks hnm hml hsz hP hD hK hN hA hAn hS hro hl
  have hl : lv_has ls 7 [(0, .ref o), (1, .int r0), (2, .int i0), (3, .int t0), (4, .int j0), (5, .int n0)] := hl
  refine lv_iload_n hx hb dX5_copy_0 rfl (lv_at hl 1 rfl) ?_
  refine k_calli (wr := [(o, mO ad nf mo), (ad 0, aI ca 6 kd), (ad 1, aI ca 6 sz), (ad 2, aL ca 96 sh), (ad 7, aL ca 16 mid)]) (va_runS (As := [.int r0]) (rest := []) ⟨hx, hb, hml, hown, hts⟩ (ct_X5_isSheet hk l D ca H.size r0) (va_cwS 1 hts (lw_S q631 q632 q24 q633) rfl rfl rfl (by decide +kernel) ⟨Nat.le_of_ble_eq_true rfl, Nat.le_of_ble_eq_true rfl⟩) (k_pre hk hK hN hP hD [] (by decide) rfl trivial) rfl rfl hl.1 rfl (lv_room (Nat.le_of_ble_eq_true rfl)) dX5_copy_1 ⟨Nat.le_of_ble_eq_true rfl, Nat.le_of_ble_eq_true rfl⟩) hP hD hS hA [] [0, 1, 2, 3, 4] rfl rfl (by decide) (by decide) (fun r_1 u_2 H locs w_3 hP hD hxw_3 hzw_3 hqw_3 hS => ?_)
  obtain rfl : r_1 = bI (p_in r0.toInt64 0 5) := w_3
  refine lv_if_eq (tgt := 14) hx hb dX5_copy_4 (by decide) (fun c_4 => ?_) (fun c_4 => ?_)
  · have c_4 := bI_z0 c_4
    refine lv_iconst (v := (-1)) hx hb dX5_copy_14 (by decide) ?_
    exact k_iret (sh, mid) hx hb hr hlocks (by simp [m_copy, c_4]) hP hD trivial hS (Nat.le_of_ble_eq_true rfl) (Nat.le_of_ble_eq_true rfl) dX5_copy_15
  · have c_4 := bI_z1 c_4
    obtain ⟨jr0, hjr0, rfl⟩ := in_nI (n := 6) (by decide) c_4
    refine lv_iload_n hx hb dX5_copy_7 rfl (lv_at hl 3 rfl) ?_
    refine k_calli (wr := [(o, mO ad nf mo), (ad 0, aI ca 6 kd), (ad 1, aI ca 6 sz), (ad 2, aL ca 96 sh), (ad 7, aL ca 16 mid)]) (va_runS (As := [.int t0]) (rest := []) ⟨hx, hb, hml, hown, hts⟩ (ct_X5_isSheet hk l D ca H.size t0) (va_cwS 1 hts (lw_S q631 q632 q24 q633) rfl rfl rfl (by decide +kernel) ⟨Nat.le_of_ble_eq_true rfl, Nat.le_of_ble_eq_true rfl⟩) (k_pre hk hK hN hP hD [] (by decide) rfl trivial) rfl rfl hl.1 rfl (lv_room (Nat.le_of_ble_eq_true rfl)) dX5_copy_8 ⟨Nat.le_of_ble_eq_true rfl, Nat.le_of_ble_eq_true rfl⟩) hP hD hS hA [] [0, 1, 2, 3, 4] rfl rfl (by decide) (by decide) (fun r_5 u_6 H locs w_7 hP hD hxw_7 hzw_7 hqw_7 hS => ?_)
    obtain rfl : r_5 = bI (p_in t0.toInt64 0 5) := w_7
    refine lv_if_ne (tgt := 16) hx hb dX5_copy_11 (by decide) (fun c_8 => ?_) (fun c_8 => ?_)
    · have c_8 := bI_z1 c_8
      obtain ⟨jt0, hjt0, rfl⟩ := in_nI (n := 6) (by decide) c_8
      refine lv_aload_n hx hb dX5_copy_16 rfl (lv_at hl 0 rfl) ?_
      refine va_get (D := D) (ci := 4) (v := .ref (ad 0)) (C := RX5) (T := TX5) (N := 18) hx hb hts in_X5 hown hK hP 0 rfl rfl 0 (by decide) (hts _ q573) (fun _ h9 => h9) rfl dX5_copy_17 ?_
      refine lv_iload_n hx hb dX5_copy_20 rfl (lv_at hl 1 rfl) ?_
      refine va_iald hx hb hK hP 1 1 rfl rfl (vin_nI (a := jr0) rfl (by omega) (by omega)) dX5_copy_21 ?_
      refine lv_topi (fun z_9 ez_9 => ?_)
      obtain rfl : z_9 = kd jr0 := ez_9.trans (cl_nI (a := jr0) kd rfl (by omega))
      refine lv_if_lt (tgt := 34) hx hb dX5_copy_22 (by decide) (fun c_10 => ?_) (fun c_10 => ?_)
      · refine lv_bipush (v := (-11)) hx hb dX5_copy_34 (by decide) ?_
        exact k_iret (sh, mid) hx hb hr hlocks (by simp [m_copy, c_4, c_8, c_10, nI_clamp (show jr0 < 2 ^ 31 by omega), nI_clamp (show jt0 < 2 ^ 31 by omega)]) hP hD trivial hS (Nat.le_of_ble_eq_true rfl) (Nat.le_of_ble_eq_true rfl) dX5_copy_36
      · refine lv_aload_n hx hb dX5_copy_25 rfl (lv_at hl 0 rfl) ?_
        refine va_get (D := D) (ci := 4) (v := .ref (ad 0)) (C := RX5) (T := TX5) (N := 18) hx hb hts in_X5 hown hK hP 0 rfl rfl 0 (by decide) (hts _ q573) (fun _ h9 => h9) rfl dX5_copy_26 ?_
        refine lv_iload_n hx hb dX5_copy_29 rfl (lv_at hl 3 rfl) ?_
        refine va_iald hx hb hK hP 1 1 rfl rfl (vin_nI (a := jt0) rfl (by omega) (by omega)) dX5_copy_30 ?_
        refine lv_topi (fun z_11 ez_11 => ?_)
        obtain rfl : z_11 = kd jt0 := ez_11.trans (cl_nI (a := jt0) kd rfl (by omega))
        refine lv_if_ge (tgt := 37) hx hb dX5_copy_31 (by decide) (fun c_12 => ?_) (fun c_12 => ?_)
        · refine lv_aload_n hx hb dX5_copy_37 rfl (lv_at hl 0 rfl) ?_
          refine va_get (D := D) (ci := 4) (v := .ref (ad 0)) (C := RX5) (T := TX5) (N := 18) hx hb hts in_X5 hown hK hP 0 rfl rfl 0 (by decide) (hts _ q573) (fun _ h9 => h9) rfl dX5_copy_38 ?_
          refine lv_iload_n hx hb dX5_copy_41 rfl (lv_at hl 1 rfl) ?_
          refine va_iald hx hb hK hP 1 1 rfl rfl (vin_nI (a := jr0) rfl (by omega) (by omega)) dX5_copy_42 ?_
          refine lv_topi (fun z_13 ez_13 => ?_)
          obtain rfl : z_13 = kd jr0 := ez_13.trans (cl_nI (a := jr0) kd rfl (by omega))
          refine lv_aload_n hx hb dX5_copy_43 rfl (lv_at hl 0 rfl) ?_
          refine va_get (D := D) (ci := 4) (v := .ref (ad 0)) (C := RX5) (T := TX5) (N := 18) hx hb hts in_X5 hown hK hP 0 rfl rfl 0 (by decide) (hts _ q573) (fun _ h9 => h9) rfl dX5_copy_44 ?_
          refine lv_iload_n hx hb dX5_copy_47 rfl (lv_at hl 3 rfl) ?_
          refine va_iald hx hb hK hP 1 1 rfl rfl (vin_nI (a := jt0) rfl (by omega) (by omega)) dX5_copy_48 ?_
          refine lv_topi (fun z_14 ez_14 => ?_)
          obtain rfl : z_14 = kd jt0 := ez_14.trans (cl_nI (a := jt0) kd rfl (by omega))
          refine lv_icmp_eq (tgt := 55) hx hb dX5_copy_49 (by decide) (fun c_15 => ?_) (fun c_15 => ?_)
          · refine lv_iload hx hb dX5_copy_55 (lv_at hl 5 rfl) ?_
            refine lv_if_lt (tgt := 83) hx hb dX5_copy_57 (by decide) (fun c_16 => ?_) (fun c_16 => ?_)
            · refine lv_bipush (v := (-12)) hx hb dX5_copy_83 (by decide) ?_
              exact k_iret (sh, mid) hx hb hr hlocks (by simp [m_copy, c_4, c_8, c_10, c_12, c_15, c_16, nI_clamp (show jr0 < 2 ^ 31 by omega), nI_clamp (show jt0 < 2 ^ 31 by omega)]) hP hD trivial hS (Nat.le_of_ble_eq_true rfl) (Nat.le_of_ble_eq_true rfl) dX5_copy_85
            · obtain ⟨nn, hnn, rfl⟩ := nI_of c_16
              refine lv_aload_n hx hb dX5_copy_60 rfl (lv_at hl 0 rfl) ?_
              refine lv_iload_n hx hb dX5_copy_61 rfl (lv_at hl 1 rfl) ?_
              refine lv_iload_n hx hb dX5_copy_62 rfl (lv_at hl 2 rfl) ?_
              refine lv_iload hx hb dX5_copy_63 (lv_at hl 5 rfl) ?_
              refine k_calli (wr := [(ad 2, aL ca 96 sh), (ad 7, aL ca 16 mid)]) (va_runV (As := [.int (nI jr0), .int i0, .int (nI nn)]) (rest := []) ⟨hx, hb, hml, hown, hts⟩ (ct_X5_against hk l D ca H.size o ad nf mo kd sz jr0 i0 (nI nn) (by omega)) (cwV 3 hts (lw_V q644 q646 qs6 q24 q647) rfl rfl rfl (by decide +kernel) ⟨Nat.le_of_ble_eq_true rfl, Nat.le_of_ble_eq_true rfl⟩) (k_preV hk hK hN hP hD [0, 1, 2] (by decide) rfl trivial hP rfl (q0 := 0) rfl) rfl rfl hl.1 rfl (lv_room (Nat.le_of_ble_eq_true rfl)) dX5_copy_65 ⟨Nat.le_of_ble_eq_true rfl, Nat.le_of_ble_eq_true rfl⟩) hP hD hS hA [0, 1, 2] [3, 4] rfl rfl (by decide) (by decide) (fun r_17 u_18 H locs w_19 hP hD hxw_19 hzw_19 hqw_19 hS => ?_)
              have hP : va_P D vwCl [(ad 2, aL ca 96 sh), (ad 7, aL ca 16 mid), (o, mO ad nf mo), (ad 0, aI ca 6 kd), (ad 1, aI ca 6 sz)] H := hP
              have hD : va_D A [(ad 2, aL ca 96 sh), (ad 7, aL ca 16 mid), (o, mO ad nf mo), (ad 0, aI ca 6 kd), (ad 1, aI ca 6 sz)] := hD
              obtain rfl : r_17 = m_ag kd sz jr0 i0 (nI nn) := w_19
              refine lv_if_ne (tgt := 83) hx hb dX5_copy_68 (by decide) (fun c_20 => ?_) (fun c_20 => ?_)
              · refine lv_bipush (v := (-12)) hx hb dX5_copy_83 (by decide) ?_
                exact k_iret (sh, mid) hx hb hr hlocks (by simp [m_copy, c_4, c_8, c_10, c_12, c_15, c_16, c_20, nI_clamp (show jr0 < 2 ^ 31 by omega), nI_clamp (show jt0 < 2 ^ 31 by omega), nI_clamp (show nn < 2 ^ 31 by omega)]) (hP.sub [2, 3, 4, 0, 1] rfl) (hD.sub [2, 3, 4, 0, 1] (by decide) rfl) trivial hS (Nat.le_of_ble_eq_true rfl) (Nat.le_of_ble_eq_true rfl) dX5_copy_85
              · obtain ⟨ai, rfl, hai, -, -, -⟩ := ag_0 (n := nn) hz hjr0 hnn c_20
                refine lv_aload_n hx hb dX5_copy_71 rfl (lv_at hl 0 rfl) ?_
                refine lv_iload_n hx hb dX5_copy_72 rfl (lv_at hl 3 rfl) ?_
                refine lv_iload hx hb dX5_copy_73 (lv_at hl 4 rfl) ?_
                refine lv_iload hx hb dX5_copy_75 (lv_at hl 5 rfl) ?_
                refine k_calli (wr := [(ad 2, aL ca 96 sh), (ad 7, aL ca 16 mid)]) (va_runV (As := [.int (nI jt0), .int j0, .int (nI nn)]) (rest := []) ⟨hx, hb, hml, hown, hts⟩ (ct_X5_against hk l D ca H.size o ad nf mo kd sz jt0 j0 (nI nn) (by omega)) (cwV 3 hts (lw_V q644 q646 qs6 q24 q647) rfl rfl rfl (by decide +kernel) ⟨Nat.le_of_ble_eq_true rfl, Nat.le_of_ble_eq_true rfl⟩) (k_preV hk hK hN hP hD [2, 3, 4] (by decide) rfl trivial hP rfl (q0 := 2) rfl) rfl rfl hl.1 rfl (lv_room (Nat.le_of_ble_eq_true rfl)) dX5_copy_77 ⟨Nat.le_of_ble_eq_true rfl, Nat.le_of_ble_eq_true rfl⟩) hP hD hS hA [2, 3, 4] [0, 1] rfl rfl (by decide) (by decide) (fun r_21 u_22 H locs w_23 hP hD hxw_23 hzw_23 hqw_23 hS => ?_)
                have hP : va_P D vwCl [(ad 2, aL ca 96 sh), (ad 7, aL ca 16 mid), (o, mO ad nf mo), (ad 0, aI ca 6 kd), (ad 1, aI ca 6 sz)] H := hP
                have hD : va_D A [(ad 2, aL ca 96 sh), (ad 7, aL ca 16 mid), (o, mO ad nf mo), (ad 0, aI ca 6 kd), (ad 1, aI ca 6 sz)] := hD
                obtain rfl : r_21 = m_ag kd sz jt0 j0 (nI nn) := w_23
                refine lv_if_eq (tgt := 86) hx hb dX5_copy_80 (by decide) (fun c_24 => ?_) (fun c_24 => ?_)
                · obtain ⟨aj, rfl, haj, -, -, -⟩ := ag_0 (n := nn) hz hjt0 hnn c_24
                  refine lv_iconst (v := 0) hx hb dX5_copy_86 (by decide) ?_
                  refine lv_istore (lv' := [(6, .int 0), (0, .ref o), (1, .int (nI jr0)), (2, .int (nI ai)), (3, .int (nI jt0)), (4, .int (nI aj)), (5, .int (nI nn))]) hx hb dX5_copy_87 hl (by decide) rfl (fun ls hl => ?_)
                  rw [← mdk_0 sh mid (16 * jr0 + ai)] at hP hD
                  exact lp_X5_copy1 hk o ad nf mo kd sz sh mid jr0 ai jt0 aj nn hjr0 hjt0 hai haj (by simp [m_copy, c_4, c_8, c_10, c_12, c_15, c_16, c_20, c_24, nI_clamp (show jr0 < 2 ^ 31 by omega), nI_clamp (show jt0 < 2 ^ 31 by omega), nI_clamp (show nn < 2 ^ 31 by omega), nI_clamp (show ai < 2 ^ 31 by omega), nI_clamp (show aj < 2 ^ 31 by omega)])  hx hb hr hts hown hlocks hnm hml hK hN hA  (nn + 1) 0 (by omega) (by omega) _ _ _ (hP.sub [2, 3, 4, 0, 1] rfl) (hD.sub [2, 3, 4, 0, 1] (by decide) rfl) hS (lv_sub hl [0, 1, 2, 3, 4, 5, 6] rfl) 
                · refine lv_bipush (v := (-12)) hx hb dX5_copy_83 (by decide) ?_
                  exact k_iret (sh, mid) hx hb hr hlocks (by simp [m_copy, c_4, c_8, c_10, c_12, c_15, c_16, c_20, c_24, nI_clamp (show jr0 < 2 ^ 31 by omega), nI_clamp (show jt0 < 2 ^ 31 by omega), nI_clamp (show nn < 2 ^ 31 by omega), nI_clamp (show ai < 2 ^ 31 by omega)]) (hP.sub [2, 3, 4, 0, 1] rfl) (hD.sub [2, 3, 4, 0, 1] (by decide) rfl) trivial hS (Nat.le_of_ble_eq_true rfl) (Nat.le_of_ble_eq_true rfl) dX5_copy_85
          · refine lv_bipush (v := (-14)) hx hb dX5_copy_52 (by decide) ?_
            exact k_iret (sh, mid) hx hb hr hlocks (by simp [m_copy, c_4, c_8, c_10, c_12, c_15, nI_clamp (show jr0 < 2 ^ 31 by omega), nI_clamp (show jt0 < 2 ^ 31 by omega)]) hP hD trivial hS (Nat.le_of_ble_eq_true rfl) (Nat.le_of_ble_eq_true rfl) dX5_copy_54
        · refine lv_bipush (v := (-11)) hx hb dX5_copy_34 (by decide) ?_
          exact k_iret (sh, mid) hx hb hr hlocks (by simp [m_copy, c_4, c_8, c_10, c_12, nI_clamp (show jr0 < 2 ^ 31 by omega), nI_clamp (show jt0 < 2 ^ 31 by omega)]) hP hD trivial hS (Nat.le_of_ble_eq_true rfl) (Nat.le_of_ble_eq_true rfl) dX5_copy_36
    · have c_8 := bI_z0 c_8
      refine lv_iconst (v := (-1)) hx hb dX5_copy_14 (by decide) ?_
      exact k_iret (sh, mid) hx hb hr hlocks (by simp [m_copy, c_4, c_8, nI_clamp (show jr0 < 2 ^ 31 by omega)]) hP hD trivial hS (Nat.le_of_ble_eq_true rfl) (Nat.le_of_ble_eq_true rfl) dX5_copy_15
