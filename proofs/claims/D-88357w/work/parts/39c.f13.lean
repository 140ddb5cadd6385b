theorem vin_cases (i : Int32) (n : Nat) (hn : n ≤ 16) : (∃ ai, i = nI ai ∧ ai < n) ∨ ¬ vp_in i n := by
  by_cases h : i < 0
  · exact Or.inr (fun z => z (Or.inl h))
  · obtain ⟨a, ha, rfl⟩ := nI_of h
    by_cases h2 : a < n
    · exact Or.inl ⟨a, rfl, h2⟩
    · exact Or.inr (fun z => z (Or.inr (by rw [nI_clamp ha]; omega)))
/-- an element is put into a row of n places -/
def p_put (n : Nat) (f : AL) (i : Int32) (y : Int64) : Int32 × AL := if i < 0 then (-12, f) else if i.toNatClampNeg < n then (0, vp_updL f i.toNatClampNeg y) else (-12, f)
theorem p_put_y {n ai : Nat} {f : AL} {y : Int64} (hn : n ≤ 16) (h : ai < n) : p_put n f (nI ai) y = (0, vp_updL f ai y) := by
  rw [p_put, if_neg (show ¬ nI ai < 0 from fun z => absurd (lt_y (a := ai) (b := 0) rfl rfl (by omega) (by decide) z) (Nat.not_lt_zero ai)), nI_clamp (by omega), if_pos h]
theorem p_put_n {n : Nat} {f : AL} {i : Int32} {y : Int64} (h : ¬ vp_in i n) : p_put n f i y = (-12, f) := by
  unfold p_put
  split
  · rfl
  · split
    · rename_i h1 h2
      exact absurd (fun z => z.elim h1 (fun q => absurd h2 (Nat.not_lt.mpr q))) h
    · rfl
theorem any_row {D : va_G} {ca : Nat → ClassId} {s : State} {H : Heap} {ws : va_W} (hK : va_K D vwCl (tysG ca) s) (hN : NW s) (hP : va_P D vwCl ws H) (q0 : Nat) {a k n : Nat} {f : AL} (hk : k < 3) (ha : ws[q0]? = some (a, rwE ca k n f)) : va_Any "java/lang/Object" s H a := by
  have key : ∀ (j : Nat) (x : vp_A) (C : String), s.vm.findClass C = some (ca j) → va_Nw (.castable C "java/lang/Object") s → H[a]? = some (vp_cell (ca j) x) → va_Any "java/lang/Object" s H a := by
    intro j x C h1 h2 h3
    obtain ⟨c3, c4, hc3, hc4, hasg⟩ := Cond.castable_spec (va_Nw.use (A := #[]) rfl h2)
    cases Option.some.inj (hc3.symm.trans h1)
    obtain ⟨kC, hkC, -⟩ := Vm.findClass_spec h1
    refine ⟨_, h3, ?_, ⟨kC, by rw [vp_cell_cls]; exact hkC⟩, fun comp hcomp => ?_⟩
    · obtain ⟨n, f | f | f | f | f⟩ := x <;> rfl
    · rw [vp_cell_cls]
      cases Option.some.inj (hc4.symm.trans hcomp)
      exact hasg
  have h0 := hP q0 _ ha
  match k, hk with
  | 0, _ => exact key 0 _ "[B" (hK.2 0 _ rfl).2 (hN.2.2.2.1 _ (List.mem_of_getElem? (i := 2) rfl)) h0
  | 1, _ => exact key 1 _ "[I" (hK.2 1 _ rfl).2 (hN.2.2.2.1 _ (List.mem_of_getElem? (i := 3) rfl)) h0
  | 2, _ => exact key 2 _ "[J" (hK.2 2 _ rfl).2 (hN.2.2.2.1 _ (List.mem_of_getElem? (i := 4) rfl)) h0
  | k + 3, h => omega
set_option maxHeartbeats 4000000 in
set_option maxRecDepth 100000 in
theorem ct_X0_put_0 (l : Launch) (hl0 : l.stackTraces = false) (D : va_G) (ca : Nat → ClassId) (zH : Nat) (xo : Nat) (r0 i0 : Int32) (v : Int64) (h1 : p_in r0.toInt64 0 5 = false) : vx_Met l yX0_put (wsH_ yX0_put cX0_put 6 (some .int) [((9 : Nat), (21 : Nat), (22 : Nat), (37 : Nat)), ((9 : Nat), (21 : Nat), (27 : Nat), (39 : Nat))]) ({ frames := 2, cells := 0, slots := 0, locals := 45 }) (va_Pc [.ref xo, .int r0, .int i0, .long v] (prX NW D ca [] zH (fun _ => True))) (qI D (fun (r : Int32) (u : Unit) => r = -1) (fun u => []) (fun u H => True) (va_A [] zH)) noX 0 0 (va_A [] zH) := by
  have hk := NW_ok
  refine k_ofH (Qc := qI D (fun (r : Int32) (u : Unit) => r = -1) (fun u => []) (fun u H => True)) (by decide) (Nat.le_of_ble_eq_true rfl) ?_
  intro p e s m below meth c ls A H hH hx hb hr hts hown hlocks hnm hml hsz hP hD hK hN hA hAn hS hro hl hX hZ htb
  have hl : lv_has ls 6 [(0, .ref xo), (1, .int r0), (2, .int i0), (3, .long v)] := hl
  refine lv_iload_n hx hb dX0_put_0 rfl (lv_at hl 1 rfl) ?_
  refine k_calli (wr := []) (va_runS (As := [.int r0]) (rest := []) ⟨hx, hb, hml, hown, hts⟩ (ct_X0_isSheet hk l D ca H.size r0) (va_cwS 1 hts (lw_S q127 q128 q19 q129) rfl rfl rfl (by decide +kernel) ⟨Nat.le_of_ble_eq_true rfl, Nat.le_of_ble_eq_true rfl⟩) (k_pre hk hK hN hP hD [] (by decide) rfl trivial) rfl rfl hl.1 rfl (lv_room (Nat.le_of_ble_eq_true rfl)) dX0_put_1 ⟨Nat.le_of_ble_eq_true rfl, Nat.le_of_ble_eq_true rfl⟩) hP hD hS hA [] [] rfl rfl (by decide) (by decide) (fun r_1 u_2 H locs w_3 hP hD hxw_3 hzw_3 hqw_3 hS => ?_)
  obtain rfl : r_1 = bI (p_in r0.toInt64 0 5) := w_3
  refine lv_if_ne (tgt := 9) hx hb dX0_put_4 (by decide) (fun c_4 => absurd (by rw [h1]; rfl) c_4) (fun c_4 => ?_)
  refine lv_iconst (v := (-1)) hx hb dX0_put_7 (by decide) ?_
  refine vx_ret ?_
  exact k_iret () hx hb hr hlocks (rfl) hP hD trivial hS (Nat.le_of_ble_eq_true rfl) (Nat.le_of_ble_eq_true rfl) dX0_put_8
theorem in_y {j : Nat} {hi : Int64} (h : (j : Int) ≤ hi.toInt ∧ j < 2 ^ 31) : p_in (nI j).toInt64 0 hi = true := by
  have h0 : (0 : Int64).toInt = 0 := by decide
  simp only [p_in, Bool.and_eq_true, Bool.not_eq_true', decide_eq_false_iff_not, Int64.lt_iff_toInt_lt, Int32.toInt_toInt64, nI_toInt h.2]
  omega
theorem in_5 {j : Nat} (h : j < 6) : p_in (nI j).toInt64 0 5 = true := by
  have h5 : (5 : Int64).toInt = 5 := by decide
  exact in_y (by omega)
set_option maxHeartbeats 4000000 in
set_option maxRecDepth 100000 in
theorem ct_X0_put_N (l : Launch) (hl0 : l.stackTraces = false) (D : va_G) (ca : Nat → ClassId) (zH : Nat) (xo xs xu xd xr xf : Nat) (sa : Nat → Option Nat) (j : Nat) (i0 : Int32) (v : Int64) (hj : j < 6) (hs : sa j = none) : vx_Met l yX0_put (wsH_ yX0_put cX0_put 6 (some .int) [((9 : Nat), (21 : Nat), (22 : Nat), (37 : Nat)), ((9 : Nat), (21 : Nat), (27 : Nat), (39 : Nat))]) ({ frames := 13, cells := 1, slots := 8, locals := 10423 }) (va_Pc [.ref xo, .int (nI j), .int i0, .long v] (prX NW D ca [(xo, oX xs xu xd xr xf), (xs, rA ca 3 6 sa)] zH (fun _ => True))) (qI D (fun (r : Int32) (u : Unit) => r = -11) (fun u => [(xo, oX xs xu xd xr xf), (xs, rA ca 3 6 sa)]) (fun u H => True) (va_A [(xo, oX xs xu xd xr xf), (xs, rA ca 3 6 sa)] zH)) noX 1 8 (va_A [(xo, oX xs xu xd xr xf), (xs, rA ca 3 6 sa)] zH) := by
  have hk := NW_ok
  refine k_ofH (Qc := qI D (fun (r : Int32) (u : Unit) => r = -11) (fun u => [(xo, oX xs xu xd xr xf), (xs, rA ca 3 6 sa)]) (fun u H => True)) (by decide) (Nat.le_of_ble_eq_true rfl) ?_
  intro p e s m below meth c ls A H hH hx hb hr hts hown hlocks hnm hml hsz hP hD hK hN hA hAn hS hro hl hX hZ htb
  have hl : lv_has ls 6 [(0, .ref xo), (1, .int (nI j)), (2, .int i0), (3, .long v)] := hl
  refine lv_iload_n hx hb dX0_put_0 rfl (lv_at hl 1 rfl) ?_
  refine k_calli (wr := [(xo, oX xs xu xd xr xf), (xs, rA ca 3 6 sa)]) (va_runS (As := [.int (nI j)]) (rest := []) ⟨hx, hb, hml, hown, hts⟩ (ct_X0_isSheet hk l D ca H.size (nI j)) (va_cwS 1 hts (lw_S q127 q128 q19 q129) rfl rfl rfl (by decide +kernel) ⟨Nat.le_of_ble_eq_true rfl, Nat.le_of_ble_eq_true rfl⟩) (k_pre hk hK hN hP hD [] (by decide) rfl trivial) rfl rfl hl.1 rfl (lv_room (Nat.le_of_ble_eq_true rfl)) dX0_put_1 ⟨Nat.le_of_ble_eq_true rfl, Nat.le_of_ble_eq_true rfl⟩) hP hD hS hA [] [0, 1] rfl rfl (by decide) (by decide) (fun r_1 u_2 H locs w_3 hP hD hxw_3 hzw_3 hqw_3 hS => ?_)
  obtain rfl : r_1 = bI (p_in (nI j).toInt64 0 5) := w_3
  refine lv_if_ne (tgt := 9) hx hb dX0_put_4 (by decide) (fun c_4 => ?_) (fun c_4 => absurd c_4 (by rw [in_5 hj]; decide))
  refine lv_aload_n hx hb dX0_put_9 rfl (lv_at hl 0 rfl) ?_
  refine va_get (D := D) (ci := 0) (v := .ref xs) (C := RX0) (T := TX0) (N := 5) hx hb hts in_X0 hown hK hP 0 rfl rfl 0 (by decide) (hts _ q293) (fun _ h9 => h9) rfl dX0_put_10 ?_
  refine lv_iload_n hx hb dX0_put_13 rfl (lv_at hl 1 rfl) ?_
  refine va_aldq hx hb hK hP 1 3 rfl rfl (vin_nI (a := j) rfl (by omega) (by decide)) dX0_put_14 ?_
  refine W.eq (g2 := F0 m 15 ls [.null]) (by rw [nI_clamp (show j < 2 ^ 31 by omega), hs]; rfl) ?_
  refine lv_iload_n hx hb dX0_put_15 rfl (lv_at hl 2 rfl) ?_
  refine lv_lload_n hx hb dX0_put_16 rfl (lv_at hl 3 rfl) ?_
  have hFc := va_free (wc := []) hD hS hA [] rfl
  refine vx_callv (vx_runS (As := [.null, .int i0, .long v]) (rest := []) ⟨hx, hb, hml, hown, hts⟩ (ct_X0_store_N l hl0 D ca H.size i0 v) (va_cwS 3 hts (lw_S q195 q196 q19 q197) rfl rfl rfl (by decide +kernel) ⟨Nat.le_of_ble_eq_true rfl, Nat.le_of_ble_eq_true rfl⟩) (k_preX hk hK hN hP hD [] (by decide) rfl trivial hX (hZ.kept hS.2.1)) rfl rfl hl.1 rfl (lv_room (Nat.le_of_ble_eq_true rfl)) dX0_put_17 ⟨Nat.le_of_ble_eq_true rfl, Nat.le_of_ble_eq_true rfl⟩) hS (fun q _ h => hFc q h) hFc (fun q h1 h2 => absurd h1 (Nat.not_lt.mpr h2)) (fun E ce q9 u t H9 locs ht hal hp9 hE hz h9 hS hce hcv hcl => ?_) (fun u t H9 locs ht hal hp9 => hp9.elim)
  have hE : E = "java/lang/NullPointerException" := hE
  subst hE
  have hPz := vp_same hP (fun q hq => h9 q hq (Nat.not_le.mpr hq))
  clear hP
  have hP := hPz
  clear hPz
  obtain ⟨H, rfl⟩ : ∃ z, z = H9 := ⟨_, rfl⟩
  have hP : va_P D vwCl [(xo, oX xs xu xd xr xf), (xs, rA ca 3 6 sa)] H := hP
  have hD : va_D A [(xo, oX xs xu xd xr xf), (xs, rA ca 3 6 sa)] := hD
  refine vx_catch (E := "java/lang/NullPointerException") (name := "java/lang/NullPointerException") hown [] (⟨9, 21, 22, 37⟩ : ExceptionTableEntry) [(⟨9, 21, 27, 39⟩ : ExceptionTableEntry)] (by rw [htb]; rfl) (fun z hz => absurd hz List.not_mem_nil) (by decide) (by decide) (hts _ q145) (va_Nw.use rfl (hN.2.2.2.1 _ (List.mem_of_getElem? (i := 6) rfl))) hce hcv hcl ?_
  refine lv_astore (lv' := [(5, .ref q9), (0, .ref xo), (1, .int (nI j)), (2, .int i0), (3, .long v)]) hx hb dX0_put_22 hl (by decide) rfl (fun ls hl => ?_)
  refine lv_bipush (v := (-11)) hx hb dX0_put_24 (by decide) ?_
  refine vx_ret ?_
  exact k_iret () hx hb hr hlocks (rfl) hP hD trivial hS (Nat.le_of_ble_eq_true rfl) (Nat.le_of_ble_eq_true rfl) dX0_put_26
set_option maxHeartbeats 4000000 in
set_option maxRecDepth 100000 in
theorem ct_X0_put_K0 (l : Launch) (hl0 : l.stackTraces = false) (D : va_G) (ca : Nat → ClassId) (zH : Nat) (xo xs xu xd xr xf : Nat) (sa : Nat → Option Nat) (j rw n : Nat) (f : AL) (i0 : Int32) (v : Int64) (hj : j < 6) (hs : sa j = some rw) (hn : n ≤ 16) : vx_Met l yX0_put (wsH_ yX0_put cX0_put 6 (some .int) [((9 : Nat), (21 : Nat), (22 : Nat), (37 : Nat)), ((9 : Nat), (21 : Nat), (27 : Nat), (39 : Nat))]) ({ frames := 13, cells := 3, slots := 222, locals := 10423 }) (va_Pc [.ref xo, .int (nI j), .int i0, .long v] (prX NW D ca [(xo, oX xs xu xd xr xf), (xs, rA ca 3 6 sa), (rw, rwE ca 0 n f)] zH (fun _ => True))) (qI D (fun (r : Int32) (u : AL) => (r, u) = p_put n f i0 (ck 0 v)) (fun u => [(xo, oX xs xu xd xr xf), (xs, rA ca 3 6 sa), (rw, rwE ca 0 n u)]) (fun u H => True) (va_A [(xo, oX xs xu xd xr xf), (xs, rA ca 3 6 sa), (rw, rwE ca 0 n f)] zH)) noX 3 222 (va_A [(xo, oX xs xu xd xr xf), (xs, rA ca 3 6 sa), (rw, rwE ca 0 n f)] zH) := by
  have hk := NW_ok
  refine k_ofH (Qc := qI D (fun (r : Int32) (u : AL) => (r, u) = p_put n f i0 (ck 0 v)) (fun u => [(xo, oX xs xu xd xr xf), (xs, rA ca 3 6 sa), (rw, rwE ca 0 n u)]) (fun u H => True)) (by decide) (Nat.le_of_ble_eq_true rfl) ?_
  intro p e s m below meth c ls A H hH hx hb hr hts hown hlocks hnm hml hsz hP hD hK hN hA hAn hS hro hl hX hZ htb
  have hl : lv_has ls 6 [(0, .ref xo), (1, .int (nI j)), (2, .int i0), (3, .long v)] := hl
  refine lv_iload_n hx hb dX0_put_0 rfl (lv_at hl 1 rfl) ?_
  refine k_calli (wr := [(xo, oX xs xu xd xr xf), (xs, rA ca 3 6 sa), (rw, rwE ca 0 n f)]) (va_runS (As := [.int (nI j)]) (rest := []) ⟨hx, hb, hml, hown, hts⟩ (ct_X0_isSheet hk l D ca H.size (nI j)) (va_cwS 1 hts (lw_S q127 q128 q19 q129) rfl rfl rfl (by decide +kernel) ⟨Nat.le_of_ble_eq_true rfl, Nat.le_of_ble_eq_true rfl⟩) (k_pre hk hK hN hP hD [] (by decide) rfl trivial) rfl rfl hl.1 rfl (lv_room (Nat.le_of_ble_eq_true rfl)) dX0_put_1 ⟨Nat.le_of_ble_eq_true rfl, Nat.le_of_ble_eq_true rfl⟩) hP hD hS hA [] [0, 1, 2] rfl rfl (by decide) (by decide) (fun r_1 u_2 H locs w_3 hP hD hxw_3 hzw_3 hqw_3 hS => ?_)
  obtain rfl : r_1 = bI (p_in (nI j).toInt64 0 5) := w_3
  refine lv_if_ne (tgt := 9) hx hb dX0_put_4 (by decide) (fun c_4 => ?_) (fun c_4 => absurd c_4 (by rw [in_5 hj]; decide))
  refine lv_aload_n hx hb dX0_put_9 rfl (lv_at hl 0 rfl) ?_
  refine va_get (D := D) (ci := 0) (v := .ref xs) (C := RX0) (T := TX0) (N := 5) hx hb hts in_X0 hown hK hP 0 rfl rfl 0 (by decide) (hts _ q293) (fun _ h9 => h9) rfl dX0_put_10 ?_
  refine lv_iload_n hx hb dX0_put_13 rfl (lv_at hl 1 rfl) ?_
  refine va_aldq hx hb hK hP 1 3 rfl rfl (vin_nI (a := j) rfl (by omega) (by decide)) dX0_put_14 ?_
  refine W.eq (g2 := F0 m 15 ls [.ref rw]) (by rw [nI_clamp (show j < 2 ^ 31 by omega), hs]; rfl) ?_
  refine lv_iload_n hx hb dX0_put_15 rfl (lv_at hl 2 rfl) ?_
  refine lv_lload_n hx hb dX0_put_16 rfl (lv_at hl 3 rfl) ?_
  rcases vin_cases i0 n hn with ⟨ai, rfl, hai⟩ | hout
  · refine k_callv (wr := [(xo, oX xs xu xd xr xf), (xs, rA ca 3 6 sa)]) (va_runS (As := [.ref rw, .int (nI ai), .long v]) (rest := []) ⟨hx, hb, hml, hown, hts⟩ (ct_X0_store_0 l D ca H.size rw n ai f v hn (by omega)) (va_cwS 3 hts (lw_S q195 q196 q19 q197) rfl rfl rfl (by decide +kernel) ⟨Nat.le_of_ble_eq_true rfl, Nat.le_of_ble_eq_true rfl⟩) (k_pre hk hK hN hP hD [2] (by decide) rfl trivial) rfl rfl hl.1 rfl (lv_room (Nat.le_of_ble_eq_true rfl)) dX0_put_17 ⟨Nat.le_of_ble_eq_true rfl, Nat.le_of_ble_eq_true rfl⟩) hP hD hS hA [2] [0, 1] rfl rfl (by decide) (by decide) (fun u_6 H locs w_7 hP hD hxw_7 hzw_7 hqw_7 hS => ?_)
    have hP : va_P D vwCl [(xo, oX xs xu xd xr xf), (xs, rA ca 3 6 sa), (rw, rwE ca 0 n (vp_updL f ai (ck 0 v)))] H := hP
    have hD : va_D A [(xo, oX xs xu xd xr xf), (xs, rA ca 3 6 sa), (rw, rwE ca 0 n (vp_updL f ai (ck 0 v)))] := hD
    refine lv_iconst (v := 0) hx hb dX0_put_20 (by decide) ?_
    refine vx_ret ?_
    exact k_iret (vp_updL f ai (ck 0 v)) hx hb hr hlocks ((p_put_y hn hai).symm) hP hD trivial hS (Nat.le_of_ble_eq_true rfl) (Nat.le_of_ble_eq_true rfl) dX0_put_21
  · have hFc := va_free (wc := [(rw, rwE ca 0 n f)]) hD hS hA [2] rfl
    refine vx_callv (vx_runS (As := [.ref rw, .int i0, .long v]) (rest := []) ⟨hx, hb, hml, hown, hts⟩ (ct_X0_store_O0 l hl0 D ca H.size rw n f i0 v hn hout) (va_cwS 3 hts (lw_S q195 q196 q19 q197) rfl rfl rfl (by decide +kernel) ⟨Nat.le_of_ble_eq_true rfl, Nat.le_of_ble_eq_true rfl⟩) (k_preX hk hK hN hP hD [2] (by decide) rfl trivial hX (hZ.kept hS.2.1)) rfl rfl hl.1 rfl (lv_room (Nat.le_of_ble_eq_true rfl)) dX0_put_17 ⟨Nat.le_of_ble_eq_true rfl, Nat.le_of_ble_eq_true rfl⟩) hS (fun q _ h => hFc q h) hFc (fun q h1 h2 => absurd h1 (Nat.not_lt.mpr h2)) (fun E ce q9 u t H9 locs ht hal hp9 hE hz h9 hS hce hcv hcl => ?_) (fun u t H9 locs ht hal hp9 => hp9.elim)
    have hE : E = "java/lang/ArrayIndexOutOfBoundsException" := hE
    subst hE
    have hPz := vp_same hP (fun q hq => h9 q hq (Nat.not_le.mpr hq))
    clear hP
    have hP := hPz
    clear hPz
    obtain ⟨H, rfl⟩ : ∃ z, z = H9 := ⟨_, rfl⟩
    have hP : va_P D vwCl [(xo, oX xs xu xd xr xf), (xs, rA ca 3 6 sa), (rw, rwE ca 0 n f)] H := hP
    have hD : va_D A [(xo, oX xs xu xd xr xf), (xs, rA ca 3 6 sa), (rw, rwE ca 0 n f)] := hD
    refine vx_catch (E := "java/lang/ArrayIndexOutOfBoundsException") (name := "java/lang/ArrayIndexOutOfBoundsException") hown [(⟨9, 21, 22, 37⟩ : ExceptionTableEntry)] (⟨9, 21, 27, 39⟩ : ExceptionTableEntry) [] (by rw [htb]; rfl) (List.forall_mem_cons.mpr ⟨Or.inr ⟨by decide, "java/lang/NullPointerException", hts _ q145, (hN.2.2.2.2.1 _ (List.mem_of_getElem? (i := 4) rfl))⟩, (fun z hz => absurd hz List.not_mem_nil)⟩) (by decide) (by decide) (hts _ q170) (va_Nw.use rfl (hN.2.2.2.1 _ (List.mem_of_getElem? (i := 7) rfl))) hce hcv hcl ?_
    refine lv_astore (lv' := [(5, .ref q9), (0, .ref xo), (1, .int (nI j)), (2, .int i0), (3, .long v)]) hx hb dX0_put_27 hl (by decide) rfl (fun ls hl => ?_)
    refine lv_bipush (v := (-12)) hx hb dX0_put_29 (by decide) ?_
    refine vx_ret ?_
    exact k_iret f hx hb hr hlocks ((p_put_n hout).symm) hP hD trivial hS (Nat.le_of_ble_eq_true rfl) (Nat.le_of_ble_eq_true rfl) dX0_put_31
set_option maxHeartbeats 4000000 in
set_option maxRecDepth 100000 in
theorem ct_X0_put_K1 (l : Launch) (hl0 : l.stackTraces = false) (D : va_G) (ca : Nat → ClassId) (zH : Nat) (xo xs xu xd xr xf : Nat) (sa : Nat → Option Nat) (j rw n : Nat) (f : AL) (i0 : Int32) (v : Int64) (hj : j < 6) (hs : sa j = some rw) (hn : n ≤ 16) : vx_Met l yX0_put (wsH_ yX0_put cX0_put 6 (some .int) [((9 : Nat), (21 : Nat), (22 : Nat), (37 : Nat)), ((9 : Nat), (21 : Nat), (27 : Nat), (39 : Nat))]) ({ frames := 13, cells := 3, slots := 222, locals := 10423 }) (va_Pc [.ref xo, .int (nI j), .int i0, .long v] (prX NW D ca [(xo, oX xs xu xd xr xf), (xs, rA ca 3 6 sa), (rw, rwE ca 1 n f)] zH (fun _ => True))) (qI D (fun (r : Int32) (u : AL) => (r, u) = p_put n f i0 (ck 1 v)) (fun u => [(xo, oX xs xu xd xr xf), (xs, rA ca 3 6 sa), (rw, rwE ca 1 n u)]) (fun u H => True) (va_A [(xo, oX xs xu xd xr xf), (xs, rA ca 3 6 sa), (rw, rwE ca 1 n f)] zH)) noX 3 222 (va_A [(xo, oX xs xu xd xr xf), (xs, rA ca 3 6 sa), (rw, rwE ca 1 n f)] zH) := by
  have hk := NW_ok
  refine k_ofH (Qc := qI D (fun (r : Int32) (u : AL) => (r, u) = p_put n f i0 (ck 1 v)) (fun u => [(xo, oX xs xu xd xr xf), (xs, rA ca 3 6 sa), (rw, rwE ca 1 n u)]) (fun u H => True)) (by decide) (Nat.le_of_ble_eq_true rfl) ?_
  intro p e s m below meth c ls A H hH hx hb hr hts hown hlocks hnm hml hsz hP hD hK hN hA hAn hS hro hl hX hZ htb
  have hl : lv_has ls 6 [(0, .ref xo), (1, .int (nI j)), (2, .int i0), (3, .long v)] := hl
  refine lv_iload_n hx hb dX0_put_0 rfl (lv_at hl 1 rfl) ?_
  refine k_calli (wr := [(xo, oX xs xu xd xr xf), (xs, rA ca 3 6 sa), (rw, rwE ca 1 n f)]) (va_runS (As := [.int (nI j)]) (rest := []) ⟨hx, hb, hml, hown, hts⟩ (ct_X0_isSheet hk l D ca H.size (nI j)) (va_cwS 1 hts (lw_S q127 q128 q19 q129) rfl rfl rfl (by decide +kernel) ⟨Nat.le_of_ble_eq_true rfl, Nat.le_of_ble_eq_true rfl⟩) (k_pre hk hK hN hP hD [] (by decide) rfl trivial) rfl rfl hl.1 rfl (lv_room (Nat.le_of_ble_eq_true rfl)) dX0_put_1 ⟨Nat.le_of_ble_eq_true rfl, Nat.le_of_ble_eq_true rfl⟩) hP hD hS hA [] [0, 1, 2] rfl rfl (by decide) (by decide) (fun r_1 u_2 H locs w_3 hP hD hxw_3 hzw_3 hqw_3 hS => ?_)
  obtain rfl : r_1 = bI (p_in (nI j).toInt64 0 5) := w_3
  refine lv_if_ne (tgt := 9) hx hb dX0_put_4 (by decide) (fun c_4 => ?_) (fun c_4 => absurd c_4 (by rw [in_5 hj]; decide))
  refine lv_aload_n hx hb dX0_put_9 rfl (lv_at hl 0 rfl) ?_
  refine va_get (D := D) (ci := 0) (v := .ref xs) (C := RX0) (T := TX0) (N := 5) hx hb hts in_X0 hown hK hP 0 rfl rfl 0 (by decide) (hts _ q293) (fun _ h9 => h9) rfl dX0_put_10 ?_
  refine lv_iload_n hx hb dX0_put_13 rfl (lv_at hl 1 rfl) ?_
  refine va_aldq hx hb hK hP 1 3 rfl rfl (vin_nI (a := j) rfl (by omega) (by decide)) dX0_put_14 ?_
  refine W.eq (g2 := F0 m 15 ls [.ref rw]) (by rw [nI_clamp (show j < 2 ^ 31 by omega), hs]; rfl) ?_
  refine lv_iload_n hx hb dX0_put_15 rfl (lv_at hl 2 rfl) ?_
  refine lv_lload_n hx hb dX0_put_16 rfl (lv_at hl 3 rfl) ?_
  rcases vin_cases i0 n hn with ⟨ai, rfl, hai⟩ | hout
  · refine k_callv (wr := [(xo, oX xs xu xd xr xf), (xs, rA ca 3 6 sa)]) (va_runS (As := [.ref rw, .int (nI ai), .long v]) (rest := []) ⟨hx, hb, hml, hown, hts⟩ (ct_X0_store_1 l D ca H.size rw n ai f v hn (by omega)) (va_cwS 3 hts (lw_S q195 q196 q19 q197) rfl rfl rfl (by decide +kernel) ⟨Nat.le_of_ble_eq_true rfl, Nat.le_of_ble_eq_true rfl⟩) (k_pre hk hK hN hP hD [2] (by decide) rfl trivial) rfl rfl hl.1 rfl (lv_room (Nat.le_of_ble_eq_true rfl)) dX0_put_17 ⟨Nat.le_of_ble_eq_true rfl, Nat.le_of_ble_eq_true rfl⟩) hP hD hS hA [2] [0, 1] rfl rfl (by decide) (by decide) (fun u_6 H locs w_7 hP hD hxw_7 hzw_7 hqw_7 hS => ?_)
    have hP : va_P D vwCl [(xo, oX xs xu xd xr xf), (xs, rA ca 3 6 sa), (rw, rwE ca 1 n (vp_updL f ai (ck 1 v)))] H := hP
    have hD : va_D A [(xo, oX xs xu xd xr xf), (xs, rA ca 3 6 sa), (rw, rwE ca 1 n (vp_updL f ai (ck 1 v)))] := hD
    refine lv_iconst (v := 0) hx hb dX0_put_20 (by decide) ?_
    refine vx_ret ?_
    exact k_iret (vp_updL f ai (ck 1 v)) hx hb hr hlocks ((p_put_y hn hai).symm) hP hD trivial hS (Nat.le_of_ble_eq_true rfl) (Nat.le_of_ble_eq_true rfl) dX0_put_21
  · have hFc := va_free (wc := [(rw, rwE ca 1 n f)]) hD hS hA [2] rfl
    refine vx_callv (vx_runS (As := [.ref rw, .int i0, .long v]) (rest := []) ⟨hx, hb, hml, hown, hts⟩ (ct_X0_store_O1 l hl0 D ca H.size rw n f i0 v hn hout) (va_cwS 3 hts (lw_S q195 q196 q19 q197) rfl rfl rfl (by decide +kernel) ⟨Nat.le_of_ble_eq_true rfl, Nat.le_of_ble_eq_true rfl⟩) (k_preX hk hK hN hP hD [2] (by decide) rfl trivial hX (hZ.kept hS.2.1)) rfl rfl hl.1 rfl (lv_room (Nat.le_of_ble_eq_true rfl)) dX0_put_17 ⟨Nat.le_of_ble_eq_true rfl, Nat.le_of_ble_eq_true rfl⟩) hS (fun q _ h => hFc q h) hFc (fun q h1 h2 => absurd h1 (Nat.not_lt.mpr h2)) (fun E ce q9 u t H9 locs ht hal hp9 hE hz h9 hS hce hcv hcl => ?_) (fun u t H9 locs ht hal hp9 => hp9.elim)
    have hE : E = "java/lang/ArrayIndexOutOfBoundsException" := hE
    subst hE
    have hPz := vp_same hP (fun q hq => h9 q hq (Nat.not_le.mpr hq))
    clear hP
    have hP := hPz
    clear hPz
    obtain ⟨H, rfl⟩ : ∃ z, z = H9 := ⟨_, rfl⟩
    have hP : va_P D vwCl [(xo, oX xs xu xd xr xf), (xs, rA ca 3 6 sa), (rw, rwE ca 1 n f)] H := hP
    have hD : va_D A [(xo, oX xs xu xd xr xf), (xs, rA ca 3 6 sa), (rw, rwE ca 1 n f)] := hD
    refine vx_catch (E := "java/lang/ArrayIndexOutOfBoundsException") (name := "java/lang/ArrayIndexOutOfBoundsException") hown [(⟨9, 21, 22, 37⟩ : ExceptionTableEntry)] (⟨9, 21, 27, 39⟩ : ExceptionTableEntry) [] (by rw [htb]; rfl) (List.forall_mem_cons.mpr ⟨Or.inr ⟨by decide, "java/lang/NullPointerException", hts _ q145, (hN.2.2.2.2.1 _ (List.mem_of_getElem? (i := 4) rfl))⟩, (fun z hz => absurd hz List.not_mem_nil)⟩) (by decide) (by decide) (hts _ q170) (va_Nw.use rfl (hN.2.2.2.1 _ (List.mem_of_getElem? (i := 7) rfl))) hce hcv hcl ?_
    refine lv_astore (lv' := [(5, .ref q9), (0, .ref xo), (1, .int (nI j)), (2, .int i0), (3, .long v)]) hx hb dX0_put_27 hl (by decide) rfl (fun ls hl => ?_)
    refine lv_bipush (v := (-12)) hx hb dX0_put_29 (by decide) ?_
    refine vx_ret ?_
    exact k_iret f hx hb hr hlocks ((p_put_n hout).symm) hP hD trivial hS (Nat.le_of_ble_eq_true rfl) (Nat.le_of_ble_eq_true rfl) dX0_put_31
set_option maxHeartbeats 4000000 in
set_option maxRecDepth 100000 in
theorem ct_X0_put_K2 (l : Launch) (hl0 : l.stackTraces = false) (D : va_G) (ca : Nat → ClassId) (zH : Nat) (xo xs xu xd xr xf : Nat) (sa : Nat → Option Nat) (j rw n : Nat) (f : AL) (i0 : Int32) (v : Int64) (hj : j < 6) (hs : sa j = some rw) (hn : n ≤ 16) : vx_Met l yX0_put (wsH_ yX0_put cX0_put 6 (some .int) [((9 : Nat), (21 : Nat), (22 : Nat), (37 : Nat)), ((9 : Nat), (21 : Nat), (27 : Nat), (39 : Nat))]) ({ frames := 13, cells := 3, slots := 222, locals := 10423 }) (va_Pc [.ref xo, .int (nI j), .int i0, .long v] (prX NW D ca [(xo, oX xs xu xd xr xf), (xs, rA ca 3 6 sa), (rw, rwE ca 2 n f)] zH (fun _ => True))) (qI D (fun (r : Int32) (u : AL) => (r, u) = p_put n f i0 (ck 2 v)) (fun u => [(xo, oX xs xu xd xr xf), (xs, rA ca 3 6 sa), (rw, rwE ca 2 n u)]) (fun u H => True) (va_A [(xo, oX xs xu xd xr xf), (xs, rA ca 3 6 sa), (rw, rwE ca 2 n f)] zH)) noX 3 222 (va_A [(xo, oX xs xu xd xr xf), (xs, rA ca 3 6 sa), (rw, rwE ca 2 n f)] zH) := by
  have hk := NW_ok
  refine k_ofH (Qc := qI D (fun (r : Int32) (u : AL) => (r, u) = p_put n f i0 (ck 2 v)) (fun u => [(xo, oX xs xu xd xr xf), (xs, rA ca 3 6 sa), (rw, rwE ca 2 n u)]) (fun u H => True)) (by decide) (Nat.le_of_ble_eq_true rfl) ?_
  intro p e s m below meth c ls A H hH hx hb hr hts hown hlocks hnm hml hsz hP hD hK hN hA hAn hS hro hl hX hZ htb
  have hl : lv_has ls 6 [(0, .ref xo), (1, .int (nI j)), (2, .int i0), (3, .long v)] := hl
  refine lv_iload_n hx hb dX0_put_0 rfl (lv_at hl 1 rfl) ?_
  refine k_calli (wr := [(xo, oX xs xu xd xr xf), (xs, rA ca 3 6 sa), (rw, rwE ca 2 n f)]) (va_runS (As := [.int (nI j)]) (rest := []) ⟨hx, hb, hml, hown, hts⟩ (ct_X0_isSheet hk l D ca H.size (nI j)) (va_cwS 1 hts (lw_S q127 q128 q19 q129) rfl rfl rfl (by decide +kernel) ⟨Nat.le_of_ble_eq_true rfl, Nat.le_of_ble_eq_true rfl⟩) (k_pre hk hK hN hP hD [] (by decide) rfl trivial) rfl rfl hl.1 rfl (lv_room (Nat.le_of_ble_eq_true rfl)) dX0_put_1 ⟨Nat.le_of_ble_eq_true rfl, Nat.le_of_ble_eq_true rfl⟩) hP hD hS hA [] [0, 1, 2] rfl rfl (by decide) (by decide) (fun r_1 u_2 H locs w_3 hP hD hxw_3 hzw_3 hqw_3 hS => ?_)
  obtain rfl : r_1 = bI (p_in (nI j).toInt64 0 5) := w_3
  refine lv_if_ne (tgt := 9) hx hb dX0_put_4 (by decide) (fun c_4 => ?_) (fun c_4 => absurd c_4 (by rw [in_5 hj]; decide))
  refine lv_aload_n hx hb dX0_put_9 rfl (lv_at hl 0 rfl) ?_
  refine va_get (D := D) (ci := 0) (v := .ref xs) (C := RX0) (T := TX0) (N := 5) hx hb hts in_X0 hown hK hP 0 rfl rfl 0 (by decide) (hts _ q293) (fun _ h9 => h9) rfl dX0_put_10 ?_
  refine lv_iload_n hx hb dX0_put_13 rfl (lv_at hl 1 rfl) ?_
  refine va_aldq hx hb hK hP 1 3 rfl rfl (vin_nI (a := j) rfl (by omega) (by decide)) dX0_put_14 ?_
  refine W.eq (g2 := F0 m 15 ls [.ref rw]) (by rw [nI_clamp (show j < 2 ^ 31 by omega), hs]; rfl) ?_
  refine lv_iload_n hx hb dX0_put_15 rfl (lv_at hl 2 rfl) ?_
  refine lv_lload_n hx hb dX0_put_16 rfl (lv_at hl 3 rfl) ?_
  rcases vin_cases i0 n hn with ⟨ai, rfl, hai⟩ | hout
  · refine k_callv (wr := [(xo, oX xs xu xd xr xf), (xs, rA ca 3 6 sa)]) (va_runS (As := [.ref rw, .int (nI ai), .long v]) (rest := []) ⟨hx, hb, hml, hown, hts⟩ (ct_X0_store_2 l D ca H.size rw n ai f v hn (by omega)) (va_cwS 3 hts (lw_S q195 q196 q19 q197) rfl rfl rfl (by decide +kernel) ⟨Nat.le_of_ble_eq_true rfl, Nat.le_of_ble_eq_true rfl⟩) (k_pre hk hK hN hP hD [2] (by decide) rfl trivial) rfl rfl hl.1 rfl (lv_room (Nat.le_of_ble_eq_true rfl)) dX0_put_17 ⟨Nat.le_of_ble_eq_true rfl, Nat.le_of_ble_eq_true rfl⟩) hP hD hS hA [2] [0, 1] rfl rfl (by decide) (by decide) (fun u_6 H locs w_7 hP hD hxw_7 hzw_7 hqw_7 hS => ?_)
    have hP : va_P D vwCl [(xo, oX xs xu xd xr xf), (xs, rA ca 3 6 sa), (rw, rwE ca 2 n (vp_updL f ai (ck 2 v)))] H := hP
    have hD : va_D A [(xo, oX xs xu xd xr xf), (xs, rA ca 3 6 sa), (rw, rwE ca 2 n (vp_updL f ai (ck 2 v)))] := hD
    refine lv_iconst (v := 0) hx hb dX0_put_20 (by decide) ?_
    refine vx_ret ?_
    exact k_iret (vp_updL f ai (ck 2 v)) hx hb hr hlocks ((p_put_y hn hai).symm) hP hD trivial hS (Nat.le_of_ble_eq_true rfl) (Nat.le_of_ble_eq_true rfl) dX0_put_21
  · have hFc := va_free (wc := [(rw, rwE ca 2 n f)]) hD hS hA [2] rfl
    refine vx_callv (vx_runS (As := [.ref rw, .int i0, .long v]) (rest := []) ⟨hx, hb, hml, hown, hts⟩ (ct_X0_store_O2 l hl0 D ca H.size rw n f i0 v hn hout) (va_cwS 3 hts (lw_S q195 q196 q19 q197) rfl rfl rfl (by decide +kernel) ⟨Nat.le_of_ble_eq_true rfl, Nat.le_of_ble_eq_true rfl⟩) (k_preX hk hK hN hP hD [2] (by decide) rfl trivial hX (hZ.kept hS.2.1)) rfl rfl hl.1 rfl (lv_room (Nat.le_of_ble_eq_true rfl)) dX0_put_17 ⟨Nat.le_of_ble_eq_true rfl, Nat.le_of_ble_eq_true rfl⟩) hS (fun q _ h => hFc q h) hFc (fun q h1 h2 => absurd h1 (Nat.not_lt.mpr h2)) (fun E ce q9 u t H9 locs ht hal hp9 hE hz h9 hS hce hcv hcl => ?_) (fun u t H9 locs ht hal hp9 => hp9.elim)
    have hE : E = "java/lang/ArrayIndexOutOfBoundsException" := hE
    subst hE
    have hPz := vp_same hP (fun q hq => h9 q hq (Nat.not_le.mpr hq))
    clear hP
    have hP := hPz
    clear hPz
    obtain ⟨H, rfl⟩ : ∃ z, z = H9 := ⟨_, rfl⟩
    have hP : va_P D vwCl [(xo, oX xs xu xd xr xf), (xs, rA ca 3 6 sa), (rw, rwE ca 2 n f)] H := hP
    have hD : va_D A [(xo, oX xs xu xd xr xf), (xs, rA ca 3 6 sa), (rw, rwE ca 2 n f)] := hD
    refine vx_catch (E := "java/lang/ArrayIndexOutOfBoundsException") (name := "java/lang/ArrayIndexOutOfBoundsException") hown [(⟨9, 21, 22, 37⟩ : ExceptionTableEntry)] (⟨9, 21, 27, 39⟩ : ExceptionTableEntry) [] (by rw [htb]; rfl) (List.forall_mem_cons.mpr ⟨Or.inr ⟨by decide, "java/lang/NullPointerException", hts _ q145, (hN.2.2.2.2.1 _ (List.mem_of_getElem? (i := 4) rfl))⟩, (fun z hz => absurd hz List.not_mem_nil)⟩) (by decide) (by decide) (hts _ q170) (va_Nw.use rfl (hN.2.2.2.1 _ (List.mem_of_getElem? (i := 7) rfl))) hce hcv hcl ?_
    refine lv_astore (lv' := [(5, .ref q9), (0, .ref xo), (1, .int (nI j)), (2, .int i0), (3, .long v)]) hx hb dX0_put_27 hl (by decide) rfl (fun ls hl => ?_)
    refine lv_bipush (v := (-12)) hx hb dX0_put_29 (by decide) ?_
    refine vx_ret ?_
    exact k_iret f hx hb hr hlocks ((p_put_n hout).symm) hP hD trivial hS (Nat.le_of_ble_eq_true rfl) (Nat.le_of_ble_eq_true rfl) dX0_put_31
