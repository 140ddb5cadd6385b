def e_r (sd : Int32) (s t : Q4) : Q4 := q_plus s (d_b sd (nearC (q_norm t) (d_b sd s (q_mirror t))) t) (-1)
def eucC (sd : Int32) : Nat → Q4 → Q4 → Q4
  | 0, x, _ => x
  | n + 1, x, y => if q_nz y then x else eucC sd n y (e_r sd x y)
def eucCOk (sd : Int32) : Nat → Q4 → Q4 → Prop
  | 0, _, y => q_nz y = true
  | n + 1, x, y => q_nz y = true ∨ (q_nz y = false ∧ ¬ 2 * q_norm y = 0 ∧ eucCOk sd n y (e_r sd x y))
theorem eucC_nl {sd : Int32} {n : Nat} {x y : Q4} (h : q_nz y = true) : eucC sd n x y = x := by
  cases n with
  | zero => rfl
  | succ n => simp [eucC, h]
theorem eucC_st {sd : Int32} {n : Nat} {x y : Q4} (h : q_nz y = false) : eucC sd (n + 1) x y = eucC sd n y (e_r sd x y) := by simp [eucC, h]
theorem eucCOk_st {sd : Int32} {n : Nat} {x y : Q4} (h : q_nz y = false) (hk : eucCOk sd (n + 1) x y) : ¬ 2 * q_norm y = 0 ∧ eucCOk sd n y (e_r sd x y) := by
  rcases hk with q | ⟨-, q1, q2⟩
  · rw [h] at q; exact absurd q (by decide)
  · exact ⟨q1, q2⟩
set_option maxHeartbeats 4000000 in
set_option maxRecDepth 100000 in
theorem lp_X2_divisor_R  {l : Launch} {D : va_G} {ca : Nat → ClassId} (hs : Nat) (h0 : Nat) (h1 : Nat) (hu : Nat) (x : Q4) (y : Q4) (ua : Nat → Nat) (un : AI)  {p : Program} {e : Env} {s : State} {m : MethodId} {below : List Frame} {meth : Method} {c : Code} {A : Nat → Prop} (hU : Un D ca s.heap hu ua un) (hnA : ∀ q, q < s.heap.size → ¬ A q) (hx : p.tables.exec = Jvm.exec) (hb : c.code = cX2_divisor) (hr : meth.sig.returnType = (some (.object "FourParts$Four"))) (hts : ∀ w ∈ lw_all, w.before ([.ref hs, .ref h0, .ref h1, .ref hu] : List Value).toArray s = true) (hown : s.vm.findClass yX2_divisor.cls = some m.cls) (hlocks : meth.locks = false) (hnm : meth.name = yX2_divisor.name) (hml : c.maxLocals = 7) (hK : va_K D vwCl (tysG ca) s) (hN : NW s) (hA : ∀ q, s.heap.size ≤ q → A q) (hF0 : So D s.heap hs 2) (nF0 : ¬ A hs) :
    ∀ (n : Nat) (kk : Nat) (sq : Nat) (tq : Nat) (sv : Q4) (tv : Q4), (kk + n = 40) → (eucCOk 0 n sv tv) → (eucC 0 n sv tv = eucC 0 40 x y) →  ∀ (H : Heap) (locs : List Loc) (ls : Array Slot), va_P D vwCl [] H → va_D A [] → va_S A s.heap H locs → lv_has ls 7 [(5, .ref tq), (4, .ref sq), (0, .ref hs), (3, .ref hu)] → Fo D H sq sv → Fo D H tq tv → W p l e ({ frames := 5, cells := 224, slots := 896, locals := 119 }) s m ([.ref hs, .ref h0, .ref h1, .ref hu] : List Value).toArray below meth c H locs (5 * kk) (20 * kk) (MQ below (qR D (fun (u : Unit) => True) (fun u a => []) (fun u a H => Fo D H a (bst un 0 (eucC 0 40 x y) 24)) A) ([.ref hs, .ref h0, .ref h1, .ref hu] : List Value).toArray s 224 896 A) (F0 m 6 ls []) := by
  intro n
  induction n with
  | zero =>
    intro kk sq tq sv tv hkn hk1 he1 H locs ls hP hD hS hl hsq htq
    have hk := NW_ok
    refine lv_aload hx hb dX2_divisor_6 (lv_at hl 0 rfl) ?_
    refine k_calli (wr := []) (kd_runV (x := yF_isNought) (owner := "FourParts$Parts") (As := []) (rest := []) ⟨hx, hb, hml, hown, hts⟩ (ct_X7_isNought l D ca H.size tq tv) qI_ret rfl (lw_meth q363) rfl rfl rfl ⟨Nat.le_of_ble_eq_true rfl, Nat.le_of_ble_eq_true rfl⟩ (hN.1 _ (List.mem_of_getElem? (i := 4) rfl)) (hN.1 _ (List.mem_of_getElem? (i := 6) rfl)) (va_Decl.abs (hN.2.2.1 _ (List.mem_of_getElem? (i := 0) rfl))) ⟨by decide, by decide⟩ hN.2.2.2.2.2.2.2.2.2.1 (hts _ q361) (by decide +kernel) (k_preV hk hK hN hP hD [] (by decide) rfl htq htq rfl (q0 := 0) rfl) rfl rfl hl.1 rfl (lv_room (Nat.le_of_ble_eq_true rfl)) dX2_divisor_8 ⟨by show _ ≤ 224; omega, by show _ ≤ 896; omega⟩) hP hD hS hA [] [] rfl rfl (by decide) (by decide) (fun r_1 u_2 H locs w_3 hP hD hxw_3 hzw_3 hqw_3 hS => ?_)
    obtain rfl : r_1 = bI (q_nz tv) := w_3
    have hsq := hsq.mov (hqw_3 _ hsq.lt (va_A_nil hsq.lt))
    have htq := htq.mov (hqw_3 _ htq.lt (va_A_nil htq.lt))
    refine lv_if_ne (tgt := 43) hx hb dX2_divisor_11 (by decide) (fun c_4 => ?_) (fun c_4 => absurd c_4 (fun z => absurd (bI_z0 z) (by rw [show q_nz tv = true from hk1]; decide)))
    have hre : sv = eucC 0 40 x y := (eucC_nl (show q_nz tv = true from hk1)).symm.trans he1
    refine lv_aload_n hx hb dX2_divisor_43 rfl (lv_at hl 2 rfl) ?_
    refine lv_aload hx hb dX2_divisor_44 (lv_at hl 1 rfl) ?_
    refine lv_aload_n hx hb dX2_divisor_46 rfl (lv_at hl 3 rfl) ?_
    refine k_callr (wr := []) (va_runU (x := yX2_greatest) (As := [.ref sq, .ref hu]) (rest := []) ⟨hx, hb, hml, hown, hts⟩ (ct_X2_greatest_R l D ca H.size hs sq hu sv ua un) (va_cwU (C := "FourParts$Right") (owner := "FourParts$Side") (x := yX2_greatest) 2 hts (lw_app (fun w hw => by simp only [List.mem_cons, List.not_mem_nil, or_false] at hw; rcases hw with e | e | e | e | e <;> rw [e] <;> first | exact q467 | exact q469 | exact q471 | exact q468 | exact q21) (lw_meth q472)) rfl rfl rfl rfl (by decide +kernel) ⟨Nat.le_of_ble_eq_true rfl, Nat.le_of_ble_eq_true rfl⟩) (k_preV hk hK hN hP hD [] (by decide) rfl ⟨(hF0.keep hS nF0), hsq, (hU.keep hS hnA)⟩ (hF0.keep hS nF0) rfl (q0 := 0) rfl) rfl rfl hl.1 rfl (lv_room (Nat.le_of_ble_eq_true rfl)) dX2_divisor_47 ⟨by show _ ≤ 224; omega, by show _ ≤ 896; omega⟩) hP hD hS hA [] [] rfl rfl (by decide) (by decide) (fun u_6 r_5 H locs w_7 hP hD hxw_7 hzw_7 hqw_7 hS => ?_)
    have hsq := hsq.mov (hqw_7 _ hsq.lt (va_A_nil hsq.lt))
    have htq := htq.mov (hqw_7 _ htq.lt (va_A_nil htq.lt))
    exact k_aret () hx hb hr (Or.inl ⟨_, rfl⟩) hlocks (trivial) hP hD (by rw [← hre]; exact hxw_7) hS (by omega) (by omega) dX2_divisor_50
  | succ n ih =>
    intro kk sq tq sv tv hkn hk1 he1 H locs ls hP hD hS hl hsq htq
    have hk := NW_ok
    refine lv_aload hx hb dX2_divisor_6 (lv_at hl 0 rfl) ?_
    refine k_calli (wr := []) (kd_runV (x := yF_isNought) (owner := "FourParts$Parts") (As := []) (rest := []) ⟨hx, hb, hml, hown, hts⟩ (ct_X7_isNought l D ca H.size tq tv) qI_ret rfl (lw_meth q363) rfl rfl rfl ⟨Nat.le_of_ble_eq_true rfl, Nat.le_of_ble_eq_true rfl⟩ (hN.1 _ (List.mem_of_getElem? (i := 4) rfl)) (hN.1 _ (List.mem_of_getElem? (i := 6) rfl)) (va_Decl.abs (hN.2.2.1 _ (List.mem_of_getElem? (i := 0) rfl))) ⟨by decide, by decide⟩ hN.2.2.2.2.2.2.2.2.2.1 (hts _ q361) (by decide +kernel) (k_preV hk hK hN hP hD [] (by decide) rfl htq htq rfl (q0 := 0) rfl) rfl rfl hl.1 rfl (lv_room (Nat.le_of_ble_eq_true rfl)) dX2_divisor_8 ⟨by show _ ≤ 224; omega, by show _ ≤ 896; omega⟩) hP hD hS hA [] [] rfl rfl (by decide) (by decide) (fun r_1 u_2 H locs w_3 hP hD hxw_3 hzw_3 hqw_3 hS => ?_)
    obtain rfl : r_1 = bI (q_nz tv) := w_3
    have hsq := hsq.mov (hqw_3 _ hsq.lt (va_A_nil hsq.lt))
    have htq := htq.mov (hqw_3 _ htq.lt (va_A_nil htq.lt))
    refine lv_if_ne (tgt := 43) hx hb dX2_divisor_11 (by decide) (fun c_4 => ?_) (fun c_4 => ?_)
    · have c_4 := bI_z1 c_4
      have hre : sv = eucC 0 40 x y := (eucC_nl c_4).symm.trans he1
      refine lv_aload_n hx hb dX2_divisor_43 rfl (lv_at hl 2 rfl) ?_
      refine lv_aload hx hb dX2_divisor_44 (lv_at hl 1 rfl) ?_
      refine lv_aload_n hx hb dX2_divisor_46 rfl (lv_at hl 3 rfl) ?_
      refine k_callr (wr := []) (va_runU (x := yX2_greatest) (As := [.ref sq, .ref hu]) (rest := []) ⟨hx, hb, hml, hown, hts⟩ (ct_X2_greatest_R l D ca H.size hs sq hu sv ua un) (va_cwU (C := "FourParts$Right") (owner := "FourParts$Side") (x := yX2_greatest) 2 hts (lw_app (fun w hw => by simp only [List.mem_cons, List.not_mem_nil, or_false] at hw; rcases hw with e | e | e | e | e <;> rw [e] <;> first | exact q467 | exact q469 | exact q471 | exact q468 | exact q21) (lw_meth q472)) rfl rfl rfl rfl (by decide +kernel) ⟨Nat.le_of_ble_eq_true rfl, Nat.le_of_ble_eq_true rfl⟩) (k_preV hk hK hN hP hD [] (by decide) rfl ⟨(hF0.keep hS nF0), hsq, (hU.keep hS hnA)⟩ (hF0.keep hS nF0) rfl (q0 := 0) rfl) rfl rfl hl.1 rfl (lv_room (Nat.le_of_ble_eq_true rfl)) dX2_divisor_47 ⟨by show _ ≤ 224; omega, by show _ ≤ 896; omega⟩) hP hD hS hA [] [] rfl rfl (by decide) (by decide) (fun u_6 r_5 H locs w_7 hP hD hxw_7 hzw_7 hqw_7 hS => ?_)
      have hsq := hsq.mov (hqw_7 _ hsq.lt (va_A_nil hsq.lt))
      have htq := htq.mov (hqw_7 _ htq.lt (va_A_nil htq.lt))
      exact k_aret () hx hb hr (Or.inl ⟨_, rfl⟩) hlocks (trivial) hP hD (by rw [← hre]; exact hxw_7) hS (by omega) (by omega) dX2_divisor_50
    · have c_4 := bI_z0 c_4
      refine lv_aload_n hx hb dX2_divisor_14 rfl (lv_at hl 2 rfl) ?_
      refine lv_aload hx hb dX2_divisor_15 (lv_at hl 1 rfl) ?_
      refine lv_aload_n hx hb dX2_divisor_17 rfl (lv_at hl 2 rfl) ?_
      refine lv_aload hx hb dX2_divisor_18 (lv_at hl 1 rfl) ?_
      refine lv_aload hx hb dX2_divisor_20 (lv_at hl 0 rfl) ?_
      refine k_callr (wr := []) (va_runU (x := yX2_quotient) (As := [.ref sq, .ref tq]) (rest := [.ref sq, .ref hs]) ⟨hx, hb, hml, hown, hts⟩ (ct_X2_quotient_R l D ca H.size hs sq tq sv tv (eucCOk_st c_4 hk1).1) (va_cwU (C := "FourParts$Right") (owner := "FourParts$Side") (x := yX2_quotient) 2 hts (lw_app (fun w hw => by simp only [List.mem_cons, List.not_mem_nil, or_false] at hw; rcases hw with e | e | e | e | e <;> rw [e] <;> first | exact q465 | exact q424 | exact q426 | exact q423 | exact q21) (lw_meth q427)) rfl rfl rfl rfl (by decide +kernel) ⟨Nat.le_of_ble_eq_true rfl, Nat.le_of_ble_eq_true rfl⟩) (k_preV hk hK hN hP hD [] (by decide) rfl ⟨(hF0.keep hS nF0), hsq, htq⟩ (hF0.keep hS nF0) rfl (q0 := 0) rfl) rfl rfl hl.1 rfl (lv_room (Nat.le_of_ble_eq_true rfl)) dX2_divisor_22 ⟨by show _ ≤ 224; omega, by show _ ≤ 896; omega⟩) hP hD hS hA [] [] rfl rfl (by decide) (by decide) (fun u_9 r_8 H locs w_10 hP hD hxw_10 hzw_10 hqw_10 hS => ?_)
      have hP : va_P D vwCl [(r_8, f4 (nearC (q_norm tv) (q_times sv (q_mirror tv))))] H := hP
      have hD : va_D A [(r_8, f4 (nearC (q_norm tv) (q_times sv (q_mirror tv))))] := hD
      have hsq := hsq.mov (hqw_10 _ hsq.lt (va_A_nil hsq.lt))
      have htq := htq.mov (hqw_10 _ htq.lt (va_A_nil htq.lt))
      refine lv_aload hx hb dX2_divisor_25 (lv_at hl 0 rfl) ?_
      refine k_callr (wr := [(r_8, f4 (nearC (q_norm tv) (q_times sv (q_mirror tv))))]) (va_runU (x := yX2_rest) (As := [.ref sq, .ref r_8, .ref tq]) (rest := []) ⟨hx, hb, hml, hown, hts⟩ (ct_X2_rest_R l D ca H.size hs sq r_8 tq sv (nearC (q_norm tv) (q_times sv (q_mirror tv))) tv) (va_cwU (C := "FourParts$Right") (owner := "FourParts$Side") (x := yX2_rest) 3 hts (lw_app (fun w hw => by simp only [List.mem_cons, List.not_mem_nil, or_false] at hw; rcases hw with e | e | e | e | e <;> rw [e] <;> first | exact q466 | exact q449 | exact q451 | exact q448 | exact q21) (lw_meth q452)) rfl rfl rfl rfl (by decide +kernel) ⟨Nat.le_of_ble_eq_true rfl, Nat.le_of_ble_eq_true rfl⟩) (k_preV hk hK hN hP hD [] (by decide) rfl ⟨(hF0.keep hS nF0), hsq, (Fo.of hP 0 rfl), htq⟩ (hF0.keep hS nF0) rfl (q0 := 0) rfl) rfl rfl hl.1 rfl (lv_room (Nat.le_of_ble_eq_true rfl)) dX2_divisor_27 ⟨by show _ ≤ 224; omega, by show _ ≤ 896; omega⟩) hP hD hS hA [] [0] rfl rfl (by decide) (by decide) (fun u_12 r_11 H locs w_13 hP hD hxw_13 hzw_13 hqw_13 hS => ?_)
      have hP : va_P D vwCl [(r_8, f4 (nearC (q_norm tv) (q_times sv (q_mirror tv)))), (r_11, f4 (q_plus sv (q_times (nearC (q_norm tv) (q_times sv (q_mirror tv))) tv) (-1)))] H := hP
      have hD : va_D A [(r_8, f4 (nearC (q_norm tv) (q_times sv (q_mirror tv)))), (r_11, f4 (q_plus sv (q_times (nearC (q_norm tv) (q_times sv (q_mirror tv))) tv) (-1)))] := hD
      have hsq := hsq.mov (hqw_13 _ hsq.lt (va_A_nil hsq.lt))
      have htq := htq.mov (hqw_13 _ htq.lt (va_A_nil htq.lt))
      refine lv_astore (lv' := [(6, .ref r_11), (5, .ref tq), (4, .ref sq), (0, .ref hs), (3, .ref hu)]) hx hb dX2_divisor_30 hl (by decide) rfl (fun ls hl => ?_)
      refine lv_aload hx hb dX2_divisor_32 (lv_at hl 1 rfl) ?_
      refine lv_astore (lv' := [(4, .ref tq), (6, .ref r_11), (5, .ref tq), (0, .ref hs), (3, .ref hu)]) hx hb dX2_divisor_34 hl (by decide) rfl (fun ls hl => ?_)
      refine lv_aload hx hb dX2_divisor_36 (lv_at hl 1 rfl) ?_
      refine lv_astore (lv' := [(5, .ref r_11), (4, .ref tq), (6, .ref r_11), (0, .ref hs), (3, .ref hu)]) hx hb dX2_divisor_38 hl (by decide) rfl (fun ls hl => ?_)
      refine lv_goto (tgt := 6) hx hb dX2_divisor_40 (by decide) ?_
      have hrr : (q_plus sv (q_times (nearC (q_norm tv) (q_times sv (q_mirror tv))) tv) (-1)) = e_r 0 sv tv := by simp [e_r, d_b]
      refine W.widen (k := 5 * (kk + 1)) (n := 20 * (kk + 1)) (by omega) (by omega) ?_
      exact ih (kk + 1) tq r_11 tv (e_r 0 sv tv) (by omega) (eucCOk_st c_4 hk1).2 ((eucC_st c_4).symm.trans he1) _ _ _ (hP.sub [] rfl) (hD.sub [] (by decide) rfl) hS (lv_sub hl [0, 1, 3, 4] rfl) htq (by rw [← hrr]; exact Fo.of hP 1 rfl)
set_option maxHeartbeats 4000000 in
set_option maxRecDepth 100000 in
theorem ct_X2_divisor_R (l : Launch) (D : va_G) (ca : Nat → ClassId) (zH : Nat) (hs h0 h1 hu : Nat) (x y : Q4) (ua : Nat → Nat) (un : AI) (hE : eucCOk 0 40 x y) : Met l yX2_divisor (ws_ yX2_divisor cX2_divisor 7 (some (.object "FourParts$Four"))) ({ frames := 5, cells := 224, slots := 896, locals := 119 }) (va_Pc [.ref hs, .ref h0, .ref h1, .ref hu] (pr_ NW D ca [] zH (fun H => So D H hs 2 ∧ Fo D H h0 x ∧ Fo D H h1 y ∧ Un D ca H hu ua un))) (qR D (fun (u : Unit) => True) (fun u a => []) (fun u a H => Fo D H a (bst un 0 (eucC 0 40 x y) 24)) (va_A [] zH)) 224 896 (va_A [] zH) := by
  have hk := NW_ok
  refine k_ofW (Qc := qR D (fun (u : Unit) => True) (fun u a => []) (fun u a H => Fo D H a (bst un 0 (eucC 0 40 x y) 24))) (by decide) (Nat.le_of_ble_eq_true rfl) ?_
  intro p e s m below meth c ls A H hH hx hb hr hts hown hlocks hnm hml hsz hP hD hK hN hA hAn hS hro hl
  have hl : lv_has ls 7 [(0, .ref hs), (1, .ref h0), (2, .ref h1), (3, .ref hu)] := hl
  obtain ⟨hF0, hF1, hF2, hU⟩ := hro
  have hnA : ∀ q, q < s.heap.size → ¬ A q := fun q h => k_new hAn h
  have nF0 := hnA _ hF0.lt
  refine lv_aload_n hx hb dX2_divisor_0 rfl (lv_at hl 1 rfl) ?_
  refine lv_astore (lv' := [(4, .ref h0), (0, .ref hs), (1, .ref h0), (2, .ref h1), (3, .ref hu)]) hx hb dX2_divisor_1 hl (by decide) rfl (fun ls hl => ?_)
  refine lv_aload_n hx hb dX2_divisor_3 rfl (lv_at hl 3 rfl) ?_
  refine lv_astore (lv' := [(5, .ref h1), (4, .ref h0), (0, .ref hs), (1, .ref h0), (2, .ref h1), (3, .ref hu)]) hx hb dX2_divisor_4 hl (by decide) rfl (fun ls hl => ?_)
  exact lp_X2_divisor_R hs h0 h1 hu x y ua un hU hnA hx hb hr hts hown hlocks hnm hml hK hN hA hF0 nF0 40 0 h0 h1 x y (by omega) hE rfl _ _ _ hP hD hS (lv_sub hl [0, 1, 2, 5] rfl) (hF1.keep hS (hnA _ hF1.lt)) (hF2.keep hS (hnA _ hF2.lt))
set_option maxHeartbeats 4000000 in
set_option maxRecDepth 100000 in
theorem lp_X2_divisor_L  {l : Launch} {D : va_G} {ca : Nat → ClassId} (hs : Nat) (h0 : Nat) (h1 : Nat) (hu : Nat) (x : Q4) (y : Q4) (ua : Nat → Nat) (un : AI)  {p : Program} {e : Env} {s : State} {m : MethodId} {below : List Frame} {meth : Method} {c : Code} {A : Nat → Prop} (hU : Un D ca s.heap hu ua un) (hnA : ∀ q, q < s.heap.size → ¬ A q) (hx : p.tables.exec = Jvm.exec) (hb : c.code = cX2_divisor) (hr : meth.sig.returnType = (some (.object "FourParts$Four"))) (hts : ∀ w ∈ lw_all, w.before ([.ref hs, .ref h0, .ref h1, .ref hu] : List Value).toArray s = true) (hown : s.vm.findClass yX2_divisor.cls = some m.cls) (hlocks : meth.locks = false) (hnm : meth.name = yX2_divisor.name) (hml : c.maxLocals = 7) (hK : va_K D vwCl (tysG ca) s) (hN : NW s) (hA : ∀ q, s.heap.size ≤ q → A q) (hF0 : So D s.heap hs 3) (nF0 : ¬ A hs) :
    ∀ (n : Nat) (kk : Nat) (sq : Nat) (tq : Nat) (sv : Q4) (tv : Q4), (kk + n = 40) → (eucCOk 1 n sv tv) → (eucC 1 n sv tv = eucC 1 40 x y) →  ∀ (H : Heap) (locs : List Loc) (ls : Array Slot), va_P D vwCl [] H → va_D A [] → va_S A s.heap H locs → lv_has ls 7 [(5, .ref tq), (4, .ref sq), (0, .ref hs), (3, .ref hu)] → Fo D H sq sv → Fo D H tq tv → W p l e ({ frames := 6, cells := 224, slots := 896, locals := 141 }) s m ([.ref hs, .ref h0, .ref h1, .ref hu] : List Value).toArray below meth c H locs (5 * kk) (20 * kk) (MQ below (qR D (fun (u : Unit) => True) (fun u a => []) (fun u a H => Fo D H a (bst un 1 (eucC 1 40 x y) 24)) A) ([.ref hs, .ref h0, .ref h1, .ref hu] : List Value).toArray s 224 896 A) (F0 m 6 ls []) := by
  intro n
  induction n with
  | zero =>
    intro kk sq tq sv tv hkn hk1 he1 H locs ls hP hD hS hl hsq htq
    have hk := NW_ok
    refine lv_aload hx hb dX2_divisor_6 (lv_at hl 0 rfl) ?_
    refine k_calli (wr := []) (kd_runV (x := yF_isNought) (owner := "FourParts$Parts") (As := []) (rest := []) ⟨hx, hb, hml, hown, hts⟩ (ct_X7_isNought l D ca H.size tq tv) qI_ret rfl (lw_meth q363) rfl rfl rfl ⟨Nat.le_of_ble_eq_true rfl, Nat.le_of_ble_eq_true rfl⟩ (hN.1 _ (List.mem_of_getElem? (i := 4) rfl)) (hN.1 _ (List.mem_of_getElem? (i := 6) rfl)) (va_Decl.abs (hN.2.2.1 _ (List.mem_of_getElem? (i := 0) rfl))) ⟨by decide, by decide⟩ hN.2.2.2.2.2.2.2.2.2.1 (hts _ q361) (by decide +kernel) (k_preV hk hK hN hP hD [] (by decide) rfl htq htq rfl (q0 := 0) rfl) rfl rfl hl.1 rfl (lv_room (Nat.le_of_ble_eq_true rfl)) dX2_divisor_8 ⟨by show _ ≤ 224; omega, by show _ ≤ 896; omega⟩) hP hD hS hA [] [] rfl rfl (by decide) (by decide) (fun r_1 u_2 H locs w_3 hP hD hxw_3 hzw_3 hqw_3 hS => ?_)
    obtain rfl : r_1 = bI (q_nz tv) := w_3
    have hsq := hsq.mov (hqw_3 _ hsq.lt (va_A_nil hsq.lt))
    have htq := htq.mov (hqw_3 _ htq.lt (va_A_nil htq.lt))
    refine lv_if_ne (tgt := 43) hx hb dX2_divisor_11 (by decide) (fun c_4 => ?_) (fun c_4 => absurd c_4 (fun z => absurd (bI_z0 z) (by rw [show q_nz tv = true from hk1]; decide)))
    have hre : sv = eucC 1 40 x y := (eucC_nl (show q_nz tv = true from hk1)).symm.trans he1
    refine lv_aload_n hx hb dX2_divisor_43 rfl (lv_at hl 2 rfl) ?_
    refine lv_aload hx hb dX2_divisor_44 (lv_at hl 1 rfl) ?_
    refine lv_aload_n hx hb dX2_divisor_46 rfl (lv_at hl 3 rfl) ?_
    refine k_callr (wr := []) (va_runU (x := yX2_greatest) (As := [.ref sq, .ref hu]) (rest := []) ⟨hx, hb, hml, hown, hts⟩ (ct_X2_greatest_L l D ca H.size hs sq hu sv ua un) (va_cwU (C := "FourParts$Left") (owner := "FourParts$Side") (x := yX2_greatest) 2 hts (lw_app (fun w hw => by simp only [List.mem_cons, List.not_mem_nil, or_false] at hw; rcases hw with e | e | e | e | e <;> rw [e] <;> first | exact q467 | exact q469 | exact q470 | exact q468 | exact q21) (lw_meth q472)) rfl rfl rfl rfl (by decide +kernel) ⟨Nat.le_of_ble_eq_true rfl, Nat.le_of_ble_eq_true rfl⟩) (k_preV hk hK hN hP hD [] (by decide) rfl ⟨(hF0.keep hS nF0), hsq, (hU.keep hS hnA)⟩ (hF0.keep hS nF0) rfl (q0 := 0) rfl) rfl rfl hl.1 rfl (lv_room (Nat.le_of_ble_eq_true rfl)) dX2_divisor_47 ⟨by show _ ≤ 224; omega, by show _ ≤ 896; omega⟩) hP hD hS hA [] [] rfl rfl (by decide) (by decide) (fun u_6 r_5 H locs w_7 hP hD hxw_7 hzw_7 hqw_7 hS => ?_)
    have hsq := hsq.mov (hqw_7 _ hsq.lt (va_A_nil hsq.lt))
    have htq := htq.mov (hqw_7 _ htq.lt (va_A_nil htq.lt))
    exact k_aret () hx hb hr (Or.inl ⟨_, rfl⟩) hlocks (trivial) hP hD (by rw [← hre]; exact hxw_7) hS (by omega) (by omega) dX2_divisor_50
  | succ n ih =>
    intro kk sq tq sv tv hkn hk1 he1 H locs ls hP hD hS hl hsq htq
    have hk := NW_ok
    refine lv_aload hx hb dX2_divisor_6 (lv_at hl 0 rfl) ?_
    refine k_calli (wr := []) (kd_runV (x := yF_isNought) (owner := "FourParts$Parts") (As := []) (rest := []) ⟨hx, hb, hml, hown, hts⟩ (ct_X7_isNought l D ca H.size tq tv) qI_ret rfl (lw_meth q363) rfl rfl rfl ⟨Nat.le_of_ble_eq_true rfl, Nat.le_of_ble_eq_true rfl⟩ (hN.1 _ (List.mem_of_getElem? (i := 4) rfl)) (hN.1 _ (List.mem_of_getElem? (i := 6) rfl)) (va_Decl.abs (hN.2.2.1 _ (List.mem_of_getElem? (i := 0) rfl))) ⟨by decide, by decide⟩ hN.2.2.2.2.2.2.2.2.2.1 (hts _ q361) (by decide +kernel) (k_preV hk hK hN hP hD [] (by decide) rfl htq htq rfl (q0 := 0) rfl) rfl rfl hl.1 rfl (lv_room (Nat.le_of_ble_eq_true rfl)) dX2_divisor_8 ⟨by show _ ≤ 224; omega, by show _ ≤ 896; omega⟩) hP hD hS hA [] [] rfl rfl (by decide) (by decide) (fun r_1 u_2 H locs w_3 hP hD hxw_3 hzw_3 hqw_3 hS => ?_)
    obtain rfl : r_1 = bI (q_nz tv) := w_3
    have hsq := hsq.mov (hqw_3 _ hsq.lt (va_A_nil hsq.lt))
    have htq := htq.mov (hqw_3 _ htq.lt (va_A_nil htq.lt))
    refine lv_if_ne (tgt := 43) hx hb dX2_divisor_11 (by decide) (fun c_4 => ?_) (fun c_4 => ?_)
    · have c_4 := bI_z1 c_4
      have hre : sv = eucC 1 40 x y := (eucC_nl c_4).symm.trans he1
      refine lv_aload_n hx hb dX2_divisor_43 rfl (lv_at hl 2 rfl) ?_
      refine lv_aload hx hb dX2_divisor_44 (lv_at hl 1 rfl) ?_
      refine lv_aload_n hx hb dX2_divisor_46 rfl (lv_at hl 3 rfl) ?_
      refine k_callr (wr := []) (va_runU (x := yX2_greatest) (As := [.ref sq, .ref hu]) (rest := []) ⟨hx, hb, hml, hown, hts⟩ (ct_X2_greatest_L l D ca H.size hs sq hu sv ua un) (va_cwU (C := "FourParts$Left") (owner := "FourParts$Side") (x := yX2_greatest) 2 hts (lw_app (fun w hw => by simp only [List.mem_cons, List.not_mem_nil, or_false] at hw; rcases hw with e | e | e | e | e <;> rw [e] <;> first | exact q467 | exact q469 | exact q470 | exact q468 | exact q21) (lw_meth q472)) rfl rfl rfl rfl (by decide +kernel) ⟨Nat.le_of_ble_eq_true rfl, Nat.le_of_ble_eq_true rfl⟩) (k_preV hk hK hN hP hD [] (by decide) rfl ⟨(hF0.keep hS nF0), hsq, (hU.keep hS hnA)⟩ (hF0.keep hS nF0) rfl (q0 := 0) rfl) rfl rfl hl.1 rfl (lv_room (Nat.le_of_ble_eq_true rfl)) dX2_divisor_47 ⟨by show _ ≤ 224; omega, by show _ ≤ 896; omega⟩) hP hD hS hA [] [] rfl rfl (by decide) (by decide) (fun u_6 r_5 H locs w_7 hP hD hxw_7 hzw_7 hqw_7 hS => ?_)
      have hsq := hsq.mov (hqw_7 _ hsq.lt (va_A_nil hsq.lt))
      have htq := htq.mov (hqw_7 _ htq.lt (va_A_nil htq.lt))
      exact k_aret () hx hb hr (Or.inl ⟨_, rfl⟩) hlocks (trivial) hP hD (by rw [← hre]; exact hxw_7) hS (by omega) (by omega) dX2_divisor_50
    · have c_4 := bI_z0 c_4
      refine lv_aload_n hx hb dX2_divisor_14 rfl (lv_at hl 2 rfl) ?_
      refine lv_aload hx hb dX2_divisor_15 (lv_at hl 1 rfl) ?_
      refine lv_aload_n hx hb dX2_divisor_17 rfl (lv_at hl 2 rfl) ?_
      refine lv_aload hx hb dX2_divisor_18 (lv_at hl 1 rfl) ?_
      refine lv_aload hx hb dX2_divisor_20 (lv_at hl 0 rfl) ?_
      refine k_callr (wr := []) (va_runU (x := yX2_quotient) (As := [.ref sq, .ref tq]) (rest := [.ref sq, .ref hs]) ⟨hx, hb, hml, hown, hts⟩ (ct_X2_quotient_L l D ca H.size hs sq tq sv tv (eucCOk_st c_4 hk1).1) (va_cwU (C := "FourParts$Left") (owner := "FourParts$Side") (x := yX2_quotient) 2 hts (lw_app (fun w hw => by simp only [List.mem_cons, List.not_mem_nil, or_false] at hw; rcases hw with e | e | e | e | e <;> rw [e] <;> first | exact q465 | exact q424 | exact q425 | exact q423 | exact q21) (lw_meth q427)) rfl rfl rfl rfl (by decide +kernel) ⟨Nat.le_of_ble_eq_true rfl, Nat.le_of_ble_eq_true rfl⟩) (k_preV hk hK hN hP hD [] (by decide) rfl ⟨(hF0.keep hS nF0), hsq, htq⟩ (hF0.keep hS nF0) rfl (q0 := 0) rfl) rfl rfl hl.1 rfl (lv_room (Nat.le_of_ble_eq_true rfl)) dX2_divisor_22 ⟨by show _ ≤ 224; omega, by show _ ≤ 896; omega⟩) hP hD hS hA [] [] rfl rfl (by decide) (by decide) (fun u_9 r_8 H locs w_10 hP hD hxw_10 hzw_10 hqw_10 hS => ?_)
      have hP : va_P D vwCl [(r_8, f4 (nearC (q_norm tv) (q_times (q_mirror tv) sv)))] H := hP
      have hD : va_D A [(r_8, f4 (nearC (q_norm tv) (q_times (q_mirror tv) sv)))] := hD
      have hsq := hsq.mov (hqw_10 _ hsq.lt (va_A_nil hsq.lt))
      have htq := htq.mov (hqw_10 _ htq.lt (va_A_nil htq.lt))
      refine lv_aload hx hb dX2_divisor_25 (lv_at hl 0 rfl) ?_
      refine k_callr (wr := [(r_8, f4 (nearC (q_norm tv) (q_times (q_mirror tv) sv)))]) (va_runU (x := yX2_rest) (As := [.ref sq, .ref r_8, .ref tq]) (rest := []) ⟨hx, hb, hml, hown, hts⟩ (ct_X2_rest_L l D ca H.size hs sq r_8 tq sv (nearC (q_norm tv) (q_times (q_mirror tv) sv)) tv) (va_cwU (C := "FourParts$Left") (owner := "FourParts$Side") (x := yX2_rest) 3 hts (lw_app (fun w hw => by simp only [List.mem_cons, List.not_mem_nil, or_false] at hw; rcases hw with e | e | e | e | e <;> rw [e] <;> first | exact q466 | exact q449 | exact q450 | exact q448 | exact q21) (lw_meth q452)) rfl rfl rfl rfl (by decide +kernel) ⟨Nat.le_of_ble_eq_true rfl, Nat.le_of_ble_eq_true rfl⟩) (k_preV hk hK hN hP hD [] (by decide) rfl ⟨(hF0.keep hS nF0), hsq, (Fo.of hP 0 rfl), htq⟩ (hF0.keep hS nF0) rfl (q0 := 0) rfl) rfl rfl hl.1 rfl (lv_room (Nat.le_of_ble_eq_true rfl)) dX2_divisor_27 ⟨by show _ ≤ 224; omega, by show _ ≤ 896; omega⟩) hP hD hS hA [] [0] rfl rfl (by decide) (by decide) (fun u_12 r_11 H locs w_13 hP hD hxw_13 hzw_13 hqw_13 hS => ?_)
      have hP : va_P D vwCl [(r_8, f4 (nearC (q_norm tv) (q_times (q_mirror tv) sv))), (r_11, f4 (q_plus sv (q_times tv (nearC (q_norm tv) (q_times (q_mirror tv) sv))) (-1)))] H := hP
      have hD : va_D A [(r_8, f4 (nearC (q_norm tv) (q_times (q_mirror tv) sv))), (r_11, f4 (q_plus sv (q_times tv (nearC (q_norm tv) (q_times (q_mirror tv) sv))) (-1)))] := hD
      have hsq := hsq.mov (hqw_13 _ hsq.lt (va_A_nil hsq.lt))
      have htq := htq.mov (hqw_13 _ htq.lt (va_A_nil htq.lt))
      refine lv_astore (lv' := [(6, .ref r_11), (5, .ref tq), (4, .ref sq), (0, .ref hs), (3, .ref hu)]) hx hb dX2_divisor_30 hl (by decide) rfl (fun ls hl => ?_)
      refine lv_aload hx hb dX2_divisor_32 (lv_at hl 1 rfl) ?_
      refine lv_astore (lv' := [(4, .ref tq), (6, .ref r_11), (5, .ref tq), (0, .ref hs), (3, .ref hu)]) hx hb dX2_divisor_34 hl (by decide) rfl (fun ls hl => ?_)
      refine lv_aload hx hb dX2_divisor_36 (lv_at hl 1 rfl) ?_
      refine lv_astore (lv' := [(5, .ref r_11), (4, .ref tq), (6, .ref r_11), (0, .ref hs), (3, .ref hu)]) hx hb dX2_divisor_38 hl (by decide) rfl (fun ls hl => ?_)
      refine lv_goto (tgt := 6) hx hb dX2_divisor_40 (by decide) ?_
      have hrr : (q_plus sv (q_times tv (nearC (q_norm tv) (q_times (q_mirror tv) sv))) (-1)) = e_r 1 sv tv := by simp [e_r, d_b]
      refine W.widen (k := 5 * (kk + 1)) (n := 20 * (kk + 1)) (by omega) (by omega) ?_
      exact ih (kk + 1) tq r_11 tv (e_r 1 sv tv) (by omega) (eucCOk_st c_4 hk1).2 ((eucC_st c_4).symm.trans he1) _ _ _ (hP.sub [] rfl) (hD.sub [] (by decide) rfl) hS (lv_sub hl [0, 1, 3, 4] rfl) htq (by rw [← hrr]; exact Fo.of hP 1 rfl)
set_option maxHeartbeats 4000000 in
set_option maxRecDepth 100000 in
theorem ct_X2_divisor_L (l : Launch) (D : va_G) (ca : Nat → ClassId) (zH : Nat) (hs h0 h1 hu : Nat) (x y : Q4) (ua : Nat → Nat) (un : AI) (hE : eucCOk 1 40 x y) : Met l yX2_divisor (ws_ yX2_divisor cX2_divisor 7 (some (.object "FourParts$Four"))) ({ frames := 6, cells := 224, slots := 896, locals := 141 }) (va_Pc [.ref hs, .ref h0, .ref h1, .ref hu] (pr_ NW D ca [] zH (fun H => So D H hs 3 ∧ Fo D H h0 x ∧ Fo D H h1 y ∧ Un D ca H hu ua un))) (qR D (fun (u : Unit) => True) (fun u a => []) (fun u a H => Fo D H a (bst un 1 (eucC 1 40 x y) 24)) (va_A [] zH)) 224 896 (va_A [] zH) := by
  have hk := NW_ok
  refine k_ofW (Qc := qR D (fun (u : Unit) => True) (fun u a => []) (fun u a H => Fo D H a (bst un 1 (eucC 1 40 x y) 24))) (by decide) (Nat.le_of_ble_eq_true rfl) ?_
  intro p e s m below meth c ls A H hH hx hb hr hts hown hlocks hnm hml hsz hP hD hK hN hA hAn hS hro hl
  have hl : lv_has ls 7 [(0, .ref hs), (1, .ref h0), (2, .ref h1), (3, .ref hu)] := hl
  obtain ⟨hF0, hF1, hF2, hU⟩ := hro
  have hnA : ∀ q, q < s.heap.size → ¬ A q := fun q h => k_new hAn h
  have nF0 := hnA _ hF0.lt
  refine lv_aload_n hx hb dX2_divisor_0 rfl (lv_at hl 1 rfl) ?_
  refine lv_astore (lv' := [(4, .ref h0), (0, .ref hs), (1, .ref h0), (2, .ref h1), (3, .ref hu)]) hx hb dX2_divisor_1 hl (by decide) rfl (fun ls hl => ?_)
  refine lv_aload_n hx hb dX2_divisor_3 rfl (lv_at hl 3 rfl) ?_
  refine lv_astore (lv' := [(5, .ref h1), (4, .ref h0), (0, .ref hs), (1, .ref h0), (2, .ref h1), (3, .ref hu)]) hx hb dX2_divisor_4 hl (by decide) rfl (fun ls hl => ?_)
  exact lp_X2_divisor_L hs h0 h1 hu x y ua un hU hnA hx hb hr hts hown hlocks hnm hml hK hN hA hF0 nF0 40 0 h0 h1 x y (by omega) hE rfl _ _ _ hP hD hS (lv_sub hl [0, 1, 2, 5] rfl) (hF1.keep hS (hnA _ hF1.lt)) (hF2.keep hS (hnA _ hF2.lt))
