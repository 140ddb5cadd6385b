set_option maxHeartbeats 4000000 in
set_option maxRecDepth 100000 in
theorem lp_X0_like_0  {l : Launch} {D : va_G} {ca : Nat → ClassId} (xo : Nat) (xs : Nat) (xu : Nat) (xd : Nat) (xr : Nat) (xf : Nat) (ua : Nat → Nat) (un : AI) (e0 : Nat) (e1 : Nat) (ra : Nat → Nat) (g : AI) (js : Nat) (jt : Nat) (hjs : js < 16) (hjt : jt < 16) (hsp : m_like g un (nI js) (nI jt) (nI 0) = oI (fstF (fun k => q_same (d_b 0 (rq g js) (rq un k)) (rq g jt)) 0 24)) {p : Program} {e : Env} {s : State} {m : MethodId} {below : List Frame} {meth : Method} {c : Code} {A : Nat → Prop} (hUg : Ug D s.heap ua un) (hSd : Sd D s.heap e0 e1) (hRg : Rg D s.heap ra g) (hOF : ∀ (a : Nat) (v : Q4), Fo D s.heap a v → ¬ A a) (hOS : ∀ (a k : Nat), k = 2 ∨ k = 3 → So D s.heap a k → ¬ A a) (hx : p.tables.exec = Jvm.exec) (hb : c.code = cX0_like) (hr : meth.sig.returnType = (some .int)) (hts : ∀ w ∈ lw_all, w.before ([.ref xo, .int (nI js), .int (nI jt), .int (nI 0)] : List Value).toArray s = true) (hown : s.vm.findClass yX0_like.cls = some m.cls) (hlocks : meth.locks = false) (hnm : meth.name = yX0_like.name) (hml : c.maxLocals = 5) (hK : va_K D vwCl (tysG ca) s) (hN : NW s) (hA : ∀ q, s.heap.size ≤ q → A q)  :
    ∀ (n : Nat) (i : Nat), (i ≤ 24) → (fstF (fun k => q_same (d_b 0 (rq g js) (rq un k)) (rq g jt)) 0 24 = fstF (fun k => q_same (d_b 0 (rq g js) (rq un k)) (rq g jt)) i (24 - i)) → (24 < n + i) →  ∀ (H : Heap) (locs : List Loc) (ls : Array Slot), va_P D vwCl [(xo, oX xs xu xd xr xf), (xu, rA ca 4 24 (fun i => some (ua i))), (xd, rA ca 5 2 (sdf e0 e1)), (xr, rA ca 4 16 (fun i => some (ra i)))] H → va_D A [(xo, oX xs xu xd xr xf), (xu, rA ca 4 24 (fun i => some (ua i))), (xd, rA ca 5 2 (sdf e0 e1)), (xr, rA ca 4 16 (fun i => some (ra i)))] → va_S A s.heap H locs → lv_has ls 5 [(4, .int (nI i)), (0, .ref xo), (1, .int (nI js)), (2, .int (nI jt)), (3, .int (nI 0))] → W p l e ({ frames := 5, cells := 24, slots := 96, locals := 113 }) s m ([.ref xo, .int (nI js), .int (nI jt), .int (nI 0)] : List Value).toArray below meth c H locs i (4 * i) (MQ below (qI D (fun (r : Int32) (u : Unit) => r = m_like g un (nI js) (nI jt) (nI 0)) (fun u => [(xo, oX xs xu xd xr xf), (xu, rA ca 4 24 (fun i => some (ua i))), (xd, rA ca 5 2 (sdf e0 e1)), (xr, rA ca 4 16 (fun i => some (ra i)))]) (fun u H => True) A) ([.ref xo, .int (nI js), .int (nI jt), .int (nI 0)] : List Value).toArray s 24 96 A) (F0 m 26 ls []) := by
  intro n
  induction n with
  | zero =>
    intro i hi hR hfuel H locs ls hP hD hS hl 
    exact absurd hfuel (by omega)
  | succ n ih =>
    intro i hi hR hfuel H locs ls hP hD hS hl 
    have hk := NW_ok
    refine lv_iload hx hb dX0_like_26 (lv_at hl 0 rfl) ?_
    refine lv_aload_n hx hb dX0_like_28 rfl (lv_at hl 1 rfl) ?_
    refine va_get (D := D) (ci := 0) (v := .ref xu) (C := RX0) (T := TX0) (N := 5) hx hb hts in_X0 hown hK hP 0 rfl rfl 1 (by decide) (hts _ q294) (fun _ h9 => h9) rfl dX0_like_29 ?_
    refine va_alen (v := 24) hx hb hK hP 1 4 rfl rfl rfl dX0_like_32 ?_
    refine lv_icmp_ge (tgt := 79) hx hb dX0_like_33 (by decide) (fun c_1 => ?_) (fun c_1 => ?_)
    · have c_1 := le_y (a := 24) (b := i) rfl rfl (by omega) (by omega) c_1
      refine lv_bipush (v := (-4)) hx hb dX0_like_79 (by decide) ?_
      exact k_iret () hx hb hr hlocks (by rw [hsp, hR, show 24 - i = 0 by omega]; rfl) hP hD trivial hS (by omega) (by omega) dX0_like_81
    · have c_1 := le_no (a := 24) (b := i) rfl rfl (by omega) (by omega) c_1
      refine lv_aload_n hx hb dX0_like_36 rfl (lv_at hl 1 rfl) ?_
      refine va_get (D := D) (ci := 0) (v := .ref xd) (C := RX0) (T := TX0) (N := 5) hx hb hts in_X0 hown hK hP 0 rfl rfl 2 (by decide) (hts _ q295) (fun _ h9 => h9) rfl dX0_like_37 ?_
      refine lv_iload_n hx hb dX0_like_40 rfl (lv_at hl 4 rfl) ?_
      refine va_aldq hx hb hK hP 2 5 rfl rfl (vin_nI (a := 0) rfl (by omega) (by omega)) dX0_like_41 ?_
      refine W.eq (g2 := F0 m 42 ls [.ref e0]) (by rw [nI_clamp (show 0 < 2 ^ 31 by omega)]; rfl) ?_
      have hE_2 := hSd.1
      have nE_2 := hOS _ _ (Or.inl rfl) hE_2
      refine lv_aload_n hx hb dX0_like_42 rfl (lv_at hl 1 rfl) ?_
      refine va_get (D := D) (ci := 0) (v := .ref xr) (C := RX0) (T := TX0) (N := 5) hx hb hts in_X0 hown hK hP 0 rfl rfl 3 (by decide) (hts _ q296) (fun _ h9 => h9) rfl dX0_like_43 ?_
      refine lv_iload_n hx hb dX0_like_46 rfl (lv_at hl 2 rfl) ?_
      refine va_aldq hx hb hK hP 3 4 rfl rfl (vin_nI (a := js) rfl (by omega) (by omega)) dX0_like_47 ?_
      refine W.eq (g2 := F0 m 48 ls [.ref (ra js), .ref e0]) (by rw [nI_clamp (show js < 2 ^ 31 by omega)]; rfl) ?_
      have hG_3 := hRg js (by omega)
      have nG_3 := hOF _ _ hG_3
      refine lv_aload_n hx hb dX0_like_48 rfl (lv_at hl 1 rfl) ?_
      refine va_get (D := D) (ci := 0) (v := .ref xu) (C := RX0) (T := TX0) (N := 5) hx hb hts in_X0 hown hK hP 0 rfl rfl 1 (by decide) (hts _ q294) (fun _ h9 => h9) rfl dX0_like_49 ?_
      refine lv_iload hx hb dX0_like_52 (lv_at hl 0 rfl) ?_
      refine va_aldq hx hb hK hP 1 4 rfl rfl (vin_nI (a := i) rfl (by omega) (by omega)) dX0_like_54 ?_
      refine W.eq (g2 := F0 m 55 ls [.ref (ua i), .ref (ra js), .ref e0]) (by rw [nI_clamp (show i < 2 ^ 31 by omega)]; rfl) ?_
      have hG_4 := hUg i (by omega)
      have nG_4 := hOF _ _ hG_4
      refine k_callr (wr := [(xo, oX xs xu xd xr xf), (xu, rA ca 4 24 (fun i => some (ua i))), (xd, rA ca 5 2 (sdf e0 e1)), (xr, rA ca 4 16 (fun i => some (ra i)))]) (va_runU (x := ySide_product) (As := [.ref (ra js), .ref (ua i)]) (rest := []) ⟨hx, hb, hml, hown, hts⟩ (ct_X3_product hk l D ca H.size e0 (ra js) (ua i) (rq g js) (rq un i)) (va_cwA (C := "FourParts$Right") (owner := "FourParts$Side") (x := ySide_product) 2 hts (lw_app (fun w hw => by simp only [List.mem_cons, List.not_mem_nil, or_false] at hw; rcases hw with e | e | e | e | e <;> rw [e] <;> first | exact q407 | exact q409 | exact q417 | exact q414 | exact q22) (lw_meth q415)) rfl rfl rfl (hN.2.2.1 _ (List.mem_of_getElem? (i := 1) rfl)) (by decide +kernel) ⟨Nat.le_of_ble_eq_true rfl, Nat.le_of_ble_eq_true rfl⟩) (k_preV hk hK hN hP hD [] (by decide) rfl ⟨(hG_3.keep hS nG_3), (hG_4.keep hS nG_4)⟩ (hE_2.keep hS nE_2) rfl (q0 := 0) rfl) rfl rfl hl.1 rfl (lv_room (Nat.le_of_ble_eq_true rfl)) dX0_like_55 ⟨by show _ ≤ 24; omega, by show _ ≤ 96; omega⟩) hP hD hS hA [] [0, 1, 2, 3] rfl rfl (by decide) (by decide) (fun u_6 r_5 H locs w_7 hP hD hxw_7 hzw_7 hqw_7 hS => ?_)
      have hP : va_P D vwCl [(xo, oX xs xu xd xr xf), (xu, rA ca 4 24 (fun i => some (ua i))), (xd, rA ca 5 2 (sdf e0 e1)), (xr, rA ca 4 16 (fun i => some (ra i))), (r_5, f4 (q_times (rq g js) (rq un i)))] H := hP
      have hD : va_D A [(xo, oX xs xu xd xr xf), (xu, rA ca 4 24 (fun i => some (ua i))), (xd, rA ca 5 2 (sdf e0 e1)), (xr, rA ca 4 16 (fun i => some (ra i))), (r_5, f4 (q_times (rq g js) (rq un i)))] := hD
      refine lv_aload_n hx hb dX0_like_58 rfl (lv_at hl 1 rfl) ?_
      refine va_get (D := D) (ci := 0) (v := .ref xr) (C := RX0) (T := TX0) (N := 5) hx hb hts in_X0 hown hK hP 0 rfl rfl 3 (by decide) (hts _ q296) (fun _ h9 => h9) rfl dX0_like_59 ?_
      refine lv_iload_n hx hb dX0_like_62 rfl (lv_at hl 3 rfl) ?_
      refine va_aldq hx hb hK hP 3 4 rfl rfl (vin_nI (a := jt) rfl (by omega) (by omega)) dX0_like_63 ?_
      refine W.eq (g2 := F0 m 64 ls [.ref (ra jt), .ref r_5]) (by rw [nI_clamp (show jt < 2 ^ 31 by omega)]; rfl) ?_
      have hG_8 := hRg jt (by omega)
      have nG_8 := hOF _ _ hG_8
      refine k_calli (wr := [(xo, oX xs xu xd xr xf), (xu, rA ca 4 24 (fun i => some (ua i))), (xd, rA ca 5 2 (sdf e0 e1)), (xr, rA ca 4 16 (fun i => some (ra i))), (r_5, f4 (q_times (rq g js) (rq un i)))]) (va_runV (As := [.ref (ra jt)]) (rest := []) ⟨hx, hb, hml, hown, hts⟩ (ct_X1_isOne hk l D ca H.size r_5 (ra jt) (q_times (rq g js) (rq un i)) (rq g jt)) (cwV 1 hts (lw_V q376 q377 q378 q20 q379) rfl rfl rfl (by decide +kernel) ⟨Nat.le_of_ble_eq_true rfl, Nat.le_of_ble_eq_true rfl⟩) (k_preV hk hK hN hP hD [] (by decide) rfl ⟨(Fo.of hP 4 rfl), (hG_8.keep hS nG_8)⟩ hP rfl (q0 := 4) rfl) rfl rfl hl.1 rfl (lv_room (Nat.le_of_ble_eq_true rfl)) dX0_like_64 ⟨by show _ ≤ 24; omega, by show _ ≤ 96; omega⟩) hP hD hS hA [] [0, 1, 2, 3, 4] rfl rfl (by decide) (by decide) (fun r_9 u_10 H locs w_11 hP hD hxw_11 hzw_11 hqw_11 hS => ?_)
      obtain rfl : r_9 = bI (q_same (q_times (rq g js) (rq un i)) (rq g jt)) := w_11
      refine lv_if_eq (tgt := 73) hx hb dX0_like_67 (by decide) (fun c_12 => ?_) (fun c_12 => ?_)
      · have c_12 := bI_z0 c_12
        refine lv_iinc (v := nI (i + 1)) (lv' := [(4, .int (nI (i + 1))), (0, .ref xo), (1, .int (nI js)), (2, .int (nI jt)), (3, .int (nI 0))]) hx hb dX0_like_73 hl (k := 0) rfl (eq_add rfl rfl) (by decide) rfl (fun ls hl => ?_)
        refine lv_goto (tgt := 26) hx hb dX0_like_76 (by decide) ?_
        refine W.widen (k := i + 1) (n := 4 * (i + 1)) (by omega) (by omega) ?_
        exact ih (i + 1) (by omega) (by rw [hR, fstF_n (by omega) (by simpa [d_b] using c_12), show 24 - i - 1 = 24 - (i + 1) by omega]) (by omega) _ _ _ (hP.sub [0, 1, 2, 3] rfl) (hD.sub [0, 1, 2, 3] (by decide) rfl) hS (lv_sub hl [0, 1, 2, 3, 4] rfl) 
      · have c_12 := bI_z1 c_12
        refine lv_iload hx hb dX0_like_70 (lv_at hl 0 rfl) ?_
        exact k_iret () hx hb hr hlocks (by rw [hsp, hR, fstF_y (by omega) (by simpa [d_b] using c_12)]; rfl) (hP.sub [0, 1, 2, 3] rfl) (hD.sub [0, 1, 2, 3] (by decide) rfl) trivial hS (by omega) (by omega) dX0_like_72
set_option maxHeartbeats 4000000 in
set_option maxRecDepth 100000 in
theorem lp_X0_like_1  {l : Launch} {D : va_G} {ca : Nat → ClassId} (xo : Nat) (xs : Nat) (xu : Nat) (xd : Nat) (xr : Nat) (xf : Nat) (ua : Nat → Nat) (un : AI) (e0 : Nat) (e1 : Nat) (ra : Nat → Nat) (g : AI) (js : Nat) (jt : Nat) (hjs : js < 16) (hjt : jt < 16) (hsp : m_like g un (nI js) (nI jt) (nI 1) = oI (fstF (fun k => q_same (d_b 1 (rq g js) (rq un k)) (rq g jt)) 0 24)) {p : Program} {e : Env} {s : State} {m : MethodId} {below : List Frame} {meth : Method} {c : Code} {A : Nat → Prop} (hUg : Ug D s.heap ua un) (hSd : Sd D s.heap e0 e1) (hRg : Rg D s.heap ra g) (hOF : ∀ (a : Nat) (v : Q4), Fo D s.heap a v → ¬ A a) (hOS : ∀ (a k : Nat), k = 2 ∨ k = 3 → So D s.heap a k → ¬ A a) (hx : p.tables.exec = Jvm.exec) (hb : c.code = cX0_like) (hr : meth.sig.returnType = (some .int)) (hts : ∀ w ∈ lw_all, w.before ([.ref xo, .int (nI js), .int (nI jt), .int (nI 1)] : List Value).toArray s = true) (hown : s.vm.findClass yX0_like.cls = some m.cls) (hlocks : meth.locks = false) (hnm : meth.name = yX0_like.name) (hml : c.maxLocals = 5) (hK : va_K D vwCl (tysG ca) s) (hN : NW s) (hA : ∀ q, s.heap.size ≤ q → A q)  :
    ∀ (n : Nat) (i : Nat), (i ≤ 24) → (fstF (fun k => q_same (d_b 1 (rq g js) (rq un k)) (rq g jt)) 0 24 = fstF (fun k => q_same (d_b 1 (rq g js) (rq un k)) (rq g jt)) i (24 - i)) → (24 < n + i) →  ∀ (H : Heap) (locs : List Loc) (ls : Array Slot), va_P D vwCl [(xo, oX xs xu xd xr xf), (xu, rA ca 4 24 (fun i => some (ua i))), (xd, rA ca 5 2 (sdf e0 e1)), (xr, rA ca 4 16 (fun i => some (ra i)))] H → va_D A [(xo, oX xs xu xd xr xf), (xu, rA ca 4 24 (fun i => some (ua i))), (xd, rA ca 5 2 (sdf e0 e1)), (xr, rA ca 4 16 (fun i => some (ra i)))] → va_S A s.heap H locs → lv_has ls 5 [(4, .int (nI i)), (0, .ref xo), (1, .int (nI js)), (2, .int (nI jt)), (3, .int (nI 1))] → W p l e ({ frames := 5, cells := 24, slots := 96, locals := 113 }) s m ([.ref xo, .int (nI js), .int (nI jt), .int (nI 1)] : List Value).toArray below meth c H locs i (4 * i) (MQ below (qI D (fun (r : Int32) (u : Unit) => r = m_like g un (nI js) (nI jt) (nI 1)) (fun u => [(xo, oX xs xu xd xr xf), (xu, rA ca 4 24 (fun i => some (ua i))), (xd, rA ca 5 2 (sdf e0 e1)), (xr, rA ca 4 16 (fun i => some (ra i)))]) (fun u H => True) A) ([.ref xo, .int (nI js), .int (nI jt), .int (nI 1)] : List Value).toArray s 24 96 A) (F0 m 26 ls []) := by
  intro n
  induction n with
  | zero =>
    intro i hi hR hfuel H locs ls hP hD hS hl 
    exact absurd hfuel (by omega)
  | succ n ih =>
    intro i hi hR hfuel H locs ls hP hD hS hl 
    have hk := NW_ok
    refine lv_iload hx hb dX0_like_26 (lv_at hl 0 rfl) ?_
    refine lv_aload_n hx hb dX0_like_28 rfl (lv_at hl 1 rfl) ?_
    refine va_get (D := D) (ci := 0) (v := .ref xu) (C := RX0) (T := TX0) (N := 5) hx hb hts in_X0 hown hK hP 0 rfl rfl 1 (by decide) (hts _ q294) (fun _ h9 => h9) rfl dX0_like_29 ?_
    refine va_alen (v := 24) hx hb hK hP 1 4 rfl rfl rfl dX0_like_32 ?_
    refine lv_icmp_ge (tgt := 79) hx hb dX0_like_33 (by decide) (fun c_1 => ?_) (fun c_1 => ?_)
    · have c_1 := le_y (a := 24) (b := i) rfl rfl (by omega) (by omega) c_1
      refine lv_bipush (v := (-4)) hx hb dX0_like_79 (by decide) ?_
      exact k_iret () hx hb hr hlocks (by rw [hsp, hR, show 24 - i = 0 by omega]; rfl) hP hD trivial hS (by omega) (by omega) dX0_like_81
    · have c_1 := le_no (a := 24) (b := i) rfl rfl (by omega) (by omega) c_1
      refine lv_aload_n hx hb dX0_like_36 rfl (lv_at hl 1 rfl) ?_
      refine va_get (D := D) (ci := 0) (v := .ref xd) (C := RX0) (T := TX0) (N := 5) hx hb hts in_X0 hown hK hP 0 rfl rfl 2 (by decide) (hts _ q295) (fun _ h9 => h9) rfl dX0_like_37 ?_
      refine lv_iload_n hx hb dX0_like_40 rfl (lv_at hl 4 rfl) ?_
      refine va_aldq hx hb hK hP 2 5 rfl rfl (vin_nI (a := 1) rfl (by omega) (by omega)) dX0_like_41 ?_
      refine W.eq (g2 := F0 m 42 ls [.ref e1]) (by rw [nI_clamp (show 1 < 2 ^ 31 by omega)]; rfl) ?_
      have hE_2 := hSd.2
      have nE_2 := hOS _ _ (Or.inr rfl) hE_2
      refine lv_aload_n hx hb dX0_like_42 rfl (lv_at hl 1 rfl) ?_
      refine va_get (D := D) (ci := 0) (v := .ref xr) (C := RX0) (T := TX0) (N := 5) hx hb hts in_X0 hown hK hP 0 rfl rfl 3 (by decide) (hts _ q296) (fun _ h9 => h9) rfl dX0_like_43 ?_
      refine lv_iload_n hx hb dX0_like_46 rfl (lv_at hl 2 rfl) ?_
      refine va_aldq hx hb hK hP 3 4 rfl rfl (vin_nI (a := js) rfl (by omega) (by omega)) dX0_like_47 ?_
      refine W.eq (g2 := F0 m 48 ls [.ref (ra js), .ref e1]) (by rw [nI_clamp (show js < 2 ^ 31 by omega)]; rfl) ?_
      have hG_3 := hRg js (by omega)
      have nG_3 := hOF _ _ hG_3
      refine lv_aload_n hx hb dX0_like_48 rfl (lv_at hl 1 rfl) ?_
      refine va_get (D := D) (ci := 0) (v := .ref xu) (C := RX0) (T := TX0) (N := 5) hx hb hts in_X0 hown hK hP 0 rfl rfl 1 (by decide) (hts _ q294) (fun _ h9 => h9) rfl dX0_like_49 ?_
      refine lv_iload hx hb dX0_like_52 (lv_at hl 0 rfl) ?_
      refine va_aldq hx hb hK hP 1 4 rfl rfl (vin_nI (a := i) rfl (by omega) (by omega)) dX0_like_54 ?_
      refine W.eq (g2 := F0 m 55 ls [.ref (ua i), .ref (ra js), .ref e1]) (by rw [nI_clamp (show i < 2 ^ 31 by omega)]; rfl) ?_
      have hG_4 := hUg i (by omega)
      have nG_4 := hOF _ _ hG_4
      refine k_callr (wr := [(xo, oX xs xu xd xr xf), (xu, rA ca 4 24 (fun i => some (ua i))), (xd, rA ca 5 2 (sdf e0 e1)), (xr, rA ca 4 16 (fun i => some (ra i)))]) (va_runU (x := ySide_product) (As := [.ref (ra js), .ref (ua i)]) (rest := []) ⟨hx, hb, hml, hown, hts⟩ (ct_X4_product l D ca H.size e1 (ra js) (ua i) (rq g js) (rq un i)) (va_cwA (C := "FourParts$Left") (owner := "FourParts$Side") (x := ySide_product) 2 hts (lw_app (fun w hw => by simp only [List.mem_cons, List.not_mem_nil, or_false] at hw; rcases hw with e | e | e | e | e <;> rw [e] <;> first | exact q407 | exact q409 | exact q410 | exact q411 | exact q23) (lw_meth q412)) rfl rfl rfl (hN.2.2.1 _ (List.mem_of_getElem? (i := 1) rfl)) (by decide +kernel) ⟨Nat.le_of_ble_eq_true rfl, Nat.le_of_ble_eq_true rfl⟩) (k_preV hk hK hN hP hD [] (by decide) rfl ⟨(hE_2.keep hS nE_2), (hG_3.keep hS nG_3), (hG_4.keep hS nG_4)⟩ (hE_2.keep hS nE_2) rfl (q0 := 0) rfl) rfl rfl hl.1 rfl (lv_room (Nat.le_of_ble_eq_true rfl)) dX0_like_55 ⟨by show _ ≤ 24; omega, by show _ ≤ 96; omega⟩) hP hD hS hA [] [0, 1, 2, 3] rfl rfl (by decide) (by decide) (fun u_6 r_5 H locs w_7 hP hD hxw_7 hzw_7 hqw_7 hS => ?_)
      have hP : va_P D vwCl [(xo, oX xs xu xd xr xf), (xu, rA ca 4 24 (fun i => some (ua i))), (xd, rA ca 5 2 (sdf e0 e1)), (xr, rA ca 4 16 (fun i => some (ra i))), (r_5, f4 (q_times (rq un i) (rq g js)))] H := hP
      have hD : va_D A [(xo, oX xs xu xd xr xf), (xu, rA ca 4 24 (fun i => some (ua i))), (xd, rA ca 5 2 (sdf e0 e1)), (xr, rA ca 4 16 (fun i => some (ra i))), (r_5, f4 (q_times (rq un i) (rq g js)))] := hD
      refine lv_aload_n hx hb dX0_like_58 rfl (lv_at hl 1 rfl) ?_
      refine va_get (D := D) (ci := 0) (v := .ref xr) (C := RX0) (T := TX0) (N := 5) hx hb hts in_X0 hown hK hP 0 rfl rfl 3 (by decide) (hts _ q296) (fun _ h9 => h9) rfl dX0_like_59 ?_
      refine lv_iload_n hx hb dX0_like_62 rfl (lv_at hl 3 rfl) ?_
      refine va_aldq hx hb hK hP 3 4 rfl rfl (vin_nI (a := jt) rfl (by omega) (by omega)) dX0_like_63 ?_
      refine W.eq (g2 := F0 m 64 ls [.ref (ra jt), .ref r_5]) (by rw [nI_clamp (show jt < 2 ^ 31 by omega)]; rfl) ?_
      have hG_8 := hRg jt (by omega)
      have nG_8 := hOF _ _ hG_8
      refine k_calli (wr := [(xo, oX xs xu xd xr xf), (xu, rA ca 4 24 (fun i => some (ua i))), (xd, rA ca 5 2 (sdf e0 e1)), (xr, rA ca 4 16 (fun i => some (ra i))), (r_5, f4 (q_times (rq un i) (rq g js)))]) (va_runV (As := [.ref (ra jt)]) (rest := []) ⟨hx, hb, hml, hown, hts⟩ (ct_X1_isOne hk l D ca H.size r_5 (ra jt) (q_times (rq un i) (rq g js)) (rq g jt)) (cwV 1 hts (lw_V q376 q377 q378 q20 q379) rfl rfl rfl (by decide +kernel) ⟨Nat.le_of_ble_eq_true rfl, Nat.le_of_ble_eq_true rfl⟩) (k_preV hk hK hN hP hD [] (by decide) rfl ⟨(Fo.of hP 4 rfl), (hG_8.keep hS nG_8)⟩ hP rfl (q0 := 4) rfl) rfl rfl hl.1 rfl (lv_room (Nat.le_of_ble_eq_true rfl)) dX0_like_64 ⟨by show _ ≤ 24; omega, by show _ ≤ 96; omega⟩) hP hD hS hA [] [0, 1, 2, 3, 4] rfl rfl (by decide) (by decide) (fun r_9 u_10 H locs w_11 hP hD hxw_11 hzw_11 hqw_11 hS => ?_)
      obtain rfl : r_9 = bI (q_same (q_times (rq un i) (rq g js)) (rq g jt)) := w_11
      refine lv_if_eq (tgt := 73) hx hb dX0_like_67 (by decide) (fun c_12 => ?_) (fun c_12 => ?_)
      · have c_12 := bI_z0 c_12
        refine lv_iinc (v := nI (i + 1)) (lv' := [(4, .int (nI (i + 1))), (0, .ref xo), (1, .int (nI js)), (2, .int (nI jt)), (3, .int (nI 1))]) hx hb dX0_like_73 hl (k := 0) rfl (eq_add rfl rfl) (by decide) rfl (fun ls hl => ?_)
        refine lv_goto (tgt := 26) hx hb dX0_like_76 (by decide) ?_
        refine W.widen (k := i + 1) (n := 4 * (i + 1)) (by omega) (by omega) ?_
        exact ih (i + 1) (by omega) (by rw [hR, fstF_n (by omega) (by simpa [d_b] using c_12), show 24 - i - 1 = 24 - (i + 1) by omega]) (by omega) _ _ _ (hP.sub [0, 1, 2, 3] rfl) (hD.sub [0, 1, 2, 3] (by decide) rfl) hS (lv_sub hl [0, 1, 2, 3, 4] rfl) 
      · have c_12 := bI_z1 c_12
        refine lv_iload hx hb dX0_like_70 (lv_at hl 0 rfl) ?_
        exact k_iret () hx hb hr hlocks (by rw [hsp, hR, fstF_y (by omega) (by simpa [d_b] using c_12)]; rfl) (hP.sub [0, 1, 2, 3] rfl) (hD.sub [0, 1, 2, 3] (by decide) rfl) trivial hS (by omega) (by omega) dX0_like_72
set_option maxHeartbeats 4000000 in
set_option maxRecDepth 100000 in
theorem ct_X0_like (l : Launch) (D : va_G) (ca : Nat → ClassId) (zH : Nat) (xo xs xu xd xr xf : Nat) (ua : Nat → Nat) (un : AI) (e0 e1 : Nat) (ra : Nat → Nat) (g : AI) (s0 t0 d0 : Int32)  : Met l yX0_like (ws_ yX0_like cX0_like 5 (some .int)) ({ frames := 5, cells := 24, slots := 96, locals := 113 }) (va_Pc [.ref xo, .int s0, .int t0, .int d0] (pr_ NW D ca [(xo, oX xs xu xd xr xf), (xu, rA ca 4 24 (fun i => some (ua i))), (xd, rA ca 5 2 (sdf e0 e1)), (xr, rA ca 4 16 (fun i => some (ra i)))] zH (fun H => Ug D H ua un ∧ Sd D H e0 e1 ∧ Rg D H ra g))) (qI D (fun (r : Int32) (u : Unit) => r = m_like g un s0 t0 d0) (fun u => [(xo, oX xs xu xd xr xf), (xu, rA ca 4 24 (fun i => some (ua i))), (xd, rA ca 5 2 (sdf e0 e1)), (xr, rA ca 4 16 (fun i => some (ra i)))]) (fun u H => True) (va_A [(xo, oX xs xu xd xr xf), (xu, rA ca 4 24 (fun i => some (ua i))), (xd, rA ca 5 2 (sdf e0 e1)), (xr, rA ca 4 16 (fun i => some (ra i)))] zH)) 24 96 (va_A [(xo, oX xs xu xd xr xf), (xu, rA ca 4 24 (fun i => some (ua i))), (xd, rA ca 5 2 (sdf e0 e1)), (xr, rA ca 4 16 (fun i => some (ra i)))] zH) := by
  have hk := NW_ok
  refine k_ofW (Qc := qI D (fun (r : Int32) (u : Unit) => r = m_like g un s0 t0 d0) (fun u => [(xo, oX xs xu xd xr xf), (xu, rA ca 4 24 (fun i => some (ua i))), (xd, rA ca 5 2 (sdf e0 e1)), (xr, rA ca 4 16 (fun i => some (ra i)))]) (fun u H => True)) (by decide) (Nat.le_of_ble_eq_true rfl) ?_
  intro p e s m below meth c ls A H hH hx hb hr hts hown hlocks hnm hml hsz hP hD hK hN hA hAn hS hro hl
  have hl : lv_has ls 5 [(0, .ref xo), (1, .int s0), (2, .int t0), (3, .int d0)] := hl
  have hOF := k_outF hK (hH ▸ hP) (okc (oko 0 (by decide)) (okc (oka 4 (by decide)) (okc (oka 5 (by decide)) (okc (oka 4 (by decide)) (okn))))) hAn
  have hOS := k_outS hK (hH ▸ hP) (okc (oko 0 (by decide)) (okc (oka 4 (by decide)) (okc (oka 5 (by decide)) (okc (oka 4 (by decide)) (okn))))) hAn
  obtain ⟨hUg, hSd, hRg⟩ := hro
  refine lv_iload_n hx hb dX0_like_0 rfl (lv_at hl 1 rfl) ?_
  refine k_calli (wr := [(xo, oX xs xu xd xr xf), (xu, rA ca 4 24 (fun i => some (ua i))), (xd, rA ca 5 2 (sdf e0 e1)), (xr, rA ca 4 16 (fun i => some (ra i)))]) (va_runS (As := [.int s0]) (rest := []) ⟨hx, hb, hml, hown, hts⟩ (ct_X0_isRegister hk l D ca H.size s0) (va_cwS 1 hts (lw_S q313 q314 q19 q315) rfl rfl rfl (by decide +kernel) ⟨Nat.le_of_ble_eq_true rfl, Nat.le_of_ble_eq_true rfl⟩) (k_pre hk hK hN hP hD [] (by decide) rfl trivial) rfl rfl hl.1 rfl (lv_room (Nat.le_of_ble_eq_true rfl)) dX0_like_1 ⟨Nat.le_of_ble_eq_true rfl, Nat.le_of_ble_eq_true rfl⟩) hP hD hS hA [] [0, 1, 2, 3] rfl rfl (by decide) (by decide) (fun r_1 u_2 H locs w_3 hP hD hxw_3 hzw_3 hqw_3 hS => ?_)
  obtain rfl : r_1 = bI (p_in s0.toInt64 0 15) := w_3
  refine lv_if_eq (tgt := 21) hx hb dX0_like_4 (by decide) (fun c_4 => ?_) (fun c_4 => ?_)
  · have c_4 := bI_z0 c_4
    refine lv_iconst (v := (-1)) hx hb dX0_like_21 (by decide) ?_
    exact k_iret () hx hb hr hlocks (by simp [m_like, c_4]) hP hD trivial hS (Nat.le_of_ble_eq_true rfl) (Nat.le_of_ble_eq_true rfl) dX0_like_22
  · have c_4 := bI_z1 c_4
    obtain ⟨js0, hjs0, rfl⟩ := in_nI (n := 16) (by decide) c_4
    refine lv_iload_n hx hb dX0_like_7 rfl (lv_at hl 2 rfl) ?_
    refine k_calli (wr := [(xo, oX xs xu xd xr xf), (xu, rA ca 4 24 (fun i => some (ua i))), (xd, rA ca 5 2 (sdf e0 e1)), (xr, rA ca 4 16 (fun i => some (ra i)))]) (va_runS (As := [.int t0]) (rest := []) ⟨hx, hb, hml, hown, hts⟩ (ct_X0_isRegister hk l D ca H.size t0) (va_cwS 1 hts (lw_S q313 q314 q19 q315) rfl rfl rfl (by decide +kernel) ⟨Nat.le_of_ble_eq_true rfl, Nat.le_of_ble_eq_true rfl⟩) (k_pre hk hK hN hP hD [] (by decide) rfl trivial) rfl rfl hl.1 rfl (lv_room (Nat.le_of_ble_eq_true rfl)) dX0_like_8 ⟨Nat.le_of_ble_eq_true rfl, Nat.le_of_ble_eq_true rfl⟩) hP hD hS hA [] [0, 1, 2, 3] rfl rfl (by decide) (by decide) (fun r_5 u_6 H locs w_7 hP hD hxw_7 hzw_7 hqw_7 hS => ?_)
    obtain rfl : r_5 = bI (p_in t0.toInt64 0 15) := w_7
    refine lv_if_eq (tgt := 21) hx hb dX0_like_11 (by decide) (fun c_8 => ?_) (fun c_8 => ?_)
    · have c_8 := bI_z0 c_8
      refine lv_iconst (v := (-1)) hx hb dX0_like_21 (by decide) ?_
      exact k_iret () hx hb hr hlocks (by simp [m_like, c_4, c_8, nI_clamp (show js0 < 2 ^ 31 by omega)]) hP hD trivial hS (Nat.le_of_ble_eq_true rfl) (Nat.le_of_ble_eq_true rfl) dX0_like_22
    · have c_8 := bI_z1 c_8
      obtain ⟨jt0, hjt0, rfl⟩ := in_nI (n := 16) (by decide) c_8
      refine lv_iload_n hx hb dX0_like_14 rfl (lv_at hl 3 rfl) ?_
      refine k_calli (wr := [(xo, oX xs xu xd xr xf), (xu, rA ca 4 24 (fun i => some (ua i))), (xd, rA ca 5 2 (sdf e0 e1)), (xr, rA ca 4 16 (fun i => some (ra i)))]) (va_runS (As := [.int d0]) (rest := []) ⟨hx, hb, hml, hown, hts⟩ (ct_X0_isSide hk l D ca H.size d0) (va_cwS 1 hts (lw_S q404 q405 q19 q406) rfl rfl rfl (by decide +kernel) ⟨Nat.le_of_ble_eq_true rfl, Nat.le_of_ble_eq_true rfl⟩) (k_pre hk hK hN hP hD [] (by decide) rfl trivial) rfl rfl hl.1 rfl (lv_room (Nat.le_of_ble_eq_true rfl)) dX0_like_15 ⟨Nat.le_of_ble_eq_true rfl, Nat.le_of_ble_eq_true rfl⟩) hP hD hS hA [] [0, 1, 2, 3] rfl rfl (by decide) (by decide) (fun r_9 u_10 H locs w_11 hP hD hxw_11 hzw_11 hqw_11 hS => ?_)
      obtain rfl : r_9 = bI (p_in d0.toInt64 0 1) := w_11
      refine lv_if_ne (tgt := 23) hx hb dX0_like_18 (by decide) (fun c_12 => ?_) (fun c_12 => ?_)
      · have c_12 := bI_z1 c_12
        obtain ⟨jd0, hjd0, rfl⟩ := in_nI (n := 2) (by decide) c_12
        rcases (show jd0 = 0 ∨ jd0 = 1 by omega) with rfl | rfl
        · refine lv_iconst (v := 0) hx hb dX0_like_23 (by decide) ?_
          refine lv_istore (lv' := [(4, .int 0), (0, .ref xo), (1, .int (nI js0)), (2, .int (nI jt0)), (3, .int (nI 0))]) hx hb dX0_like_24 hl (by decide) rfl (fun ls hl => ?_)
          exact lp_X0_like_0 xo xs xu xd xr xf ua un e0 e1 ra g js0 jt0 hjs0 hjt0 (by rw [m_like, if_pos c_4, if_pos c_8, if_pos c_12, nI_clamp (show js0 < 2 ^ 31 by omega), nI_clamp (show jt0 < 2 ^ 31 by omega)]; rfl) hUg hSd hRg hOF hOS hx hb hr hts hown hlocks hnm hml hK hN hA  25 0 (by omega) rfl (by omega) _ _ _ hP hD hS (lv_sub hl [0, 1, 2, 3, 4] rfl) 
        · refine lv_iconst (v := 0) hx hb dX0_like_23 (by decide) ?_
          refine lv_istore (lv' := [(4, .int 0), (0, .ref xo), (1, .int (nI js0)), (2, .int (nI jt0)), (3, .int (nI 1))]) hx hb dX0_like_24 hl (by decide) rfl (fun ls hl => ?_)
          exact lp_X0_like_1 xo xs xu xd xr xf ua un e0 e1 ra g js0 jt0 hjs0 hjt0 (by rw [m_like, if_pos c_4, if_pos c_8, if_pos c_12, nI_clamp (show js0 < 2 ^ 31 by omega), nI_clamp (show jt0 < 2 ^ 31 by omega)]; rfl) hUg hSd hRg hOF hOS hx hb hr hts hown hlocks hnm hml hK hN hA  25 0 (by omega) rfl (by omega) _ _ _ hP hD hS (lv_sub hl [0, 1, 2, 3, 4] rfl) 
      · have c_12 := bI_z0 c_12
        refine lv_iconst (v := (-1)) hx hb dX0_like_21 (by decide) ?_
        exact k_iret () hx hb hr hlocks (by simp [m_like, c_4, c_8, c_12, nI_clamp (show js0 < 2 ^ 31 by omega), nI_clamp (show jt0 < 2 ^ 31 by omega)]) hP hD trivial hS (Nat.le_of_ble_eq_true rfl) (Nat.le_of_ble_eq_true rfl) dX0_like_22
