set_option maxHeartbeats 4000000 in
set_option maxRecDepth 100000 in
theorem lp_X2_greatest_R  {l : Launch} {D : va_G} {ca : Nat → ClassId} (hs : Nat) (h0 : Nat) (hu : Nat) (v : Q4) (ua : Nat → Nat) (un : AI)  {p : Program} {e : Env} {s : State} {m : MethodId} {below : List Frame} {meth : Method} {c : Code} {A : Nat → Prop} (hU : Un D ca s.heap hu ua un) (hnA : ∀ q, q < s.heap.size → ¬ A q) (hx : p.tables.exec = Jvm.exec) (hb : c.code = cX2_greatest) (hr : meth.sig.returnType = (some (.object "FourParts$Four"))) (hts : ∀ w ∈ lw_all, w.before ([.ref hs, .ref h0, .ref hu] : List Value).toArray s = true) (hown : s.vm.findClass yX2_greatest.cls = some m.cls) (hlocks : meth.locks = false) (hnm : meth.name = yX2_greatest.name) (hml : c.maxLocals = 9) (hK : va_K D vwCl (tysG ca) s) (hN : NW s) (hA : ∀ q, s.heap.size ≤ q → A q) (hF0 : So D s.heap hs 2) (nF0 : ¬ A hs) (hF1 : Fo D s.heap h0 v) (nF1 : ¬ A h0) :
    ∀ (n : Nat) (i : Nat) (bq : Nat), (i ≤ 24) → (24 < n + i) →  ∀ (H : Heap) (locs : List Loc) (ls : Array Slot), va_P D vwCl [] H → va_D A [] → va_S A s.heap H locs → lv_has ls 9 [(6, .int (nI i)), (0, .ref hs), (1, .ref h0), (3, .ref bq), (4, .ref hu), (5, .int 24)] → Fo D H bq (bst un 0 v i) → W p l e ({ frames := 4, cells := 24, slots := 96, locals := 91 }) s m ([.ref hs, .ref h0, .ref hu] : List Value).toArray below meth c H locs i (4 * i) (MQ below (qR D (fun (u : Unit) => True) (fun u a => []) (fun u a H => Fo D H a (bst un 0 v 24)) A) ([.ref hs, .ref h0, .ref hu] : List Value).toArray s 24 96 A) (F0 m 13 ls []) := by
  intro n
  induction n with
  | zero =>
    intro i bq hi hfuel H locs ls hP hD hS hl hbq
    exact absurd hfuel (by omega)
  | succ n ih =>
    intro i bq hi hfuel H locs ls hP hD hS hl hbq
    have hk := NW_ok
    refine lv_iload hx hb dX2_greatest_13 (lv_at hl 0 rfl) ?_
    refine lv_iload hx hb dX2_greatest_15 (lv_at hl 5 rfl) ?_
    refine lv_icmp_ge (tgt := 58) hx hb dX2_greatest_17 (by decide) (fun c_1 => ?_) (fun c_1 => ?_)
    · have c_1 := le_y (a := 24) (b := i) rfl rfl (by omega) (by omega) c_1
      refine lv_aload_n hx hb dX2_greatest_58 rfl (lv_at hl 3 rfl) ?_
      exact k_aret () hx hb hr (Or.inl ⟨_, rfl⟩) hlocks (trivial) hP hD (by rw [show (24 : Nat) = i by omega]; exact hbq) hS (by omega) (by omega) dX2_greatest_59
    · have c_1 := le_no (a := 24) (b := i) rfl rfl (by omega) (by omega) c_1
      refine lv_aload hx hb dX2_greatest_20 (lv_at hl 4 rfl) ?_
      refine lv_iload hx hb dX2_greatest_22 (lv_at hl 0 rfl) ?_
      have hUh := hU.keep hS hnA
      refine va_aldq hx hb hK hUh.1 0 4 rfl rfl (vin_nI (a := i) rfl (by omega) (by decide)) dX2_greatest_24 ?_
      refine W.eq (g2 := F0 m 25 ls (.ref (ua i) :: [])) (by rw [nI_clamp (by omega)]; rfl) ?_
      have huF := hUh.2 i (by omega)
      refine lv_astore (lv' := [(7, .ref (ua i)), (6, .int (nI i)), (0, .ref hs), (1, .ref h0), (3, .ref bq), (4, .ref hu), (5, .int 24)]) hx hb dX2_greatest_25 hl (by decide) rfl (fun ls hl => ?_)
      refine lv_aload_n hx hb dX2_greatest_27 rfl (lv_at hl 2 rfl) ?_
      refine lv_aload hx hb dX2_greatest_28 (lv_at hl 0 rfl) ?_
      refine lv_aload_n hx hb dX2_greatest_30 rfl (lv_at hl 3 rfl) ?_
      refine k_callr (wr := []) (va_runU (x := ySide_product) (As := [.ref (ua i), .ref h0]) (rest := []) ⟨hx, hb, hml, hown, hts⟩ (ct_X3_product hk l D ca H.size hs (ua i) h0 (rq un i) v) (va_cwA (C := "FourParts$Right") (owner := "FourParts$Side") (x := ySide_product) 2 hts (lw_app (fun w hw => by simp only [List.mem_cons, List.not_mem_nil, or_false] at hw; rcases hw with e | e | e | e | e <;> rw [e] <;> first | exact q429 | exact q409 | exact q417 | exact q414 | exact q22) (lw_meth q415)) rfl rfl rfl (hN.2.2.1 _ (List.mem_of_getElem? (i := 1) rfl)) (by decide +kernel) ⟨Nat.le_of_ble_eq_true rfl, Nat.le_of_ble_eq_true rfl⟩) (k_preV hk hK hN hP hD [] (by decide) rfl ⟨huF, (hF1.keep hS nF1)⟩ (hF0.keep hS nF0) rfl (q0 := 0) rfl) rfl rfl hl.1 rfl (lv_room (Nat.le_of_ble_eq_true rfl)) dX2_greatest_31 ⟨by show _ ≤ 24; omega, by show _ ≤ 96; omega⟩) hP hD hS hA [] [] rfl rfl (by decide) (by decide) (fun u_3 r_2 H locs w_4 hP hD hxw_4 hzw_4 hqw_4 hS => ?_)
      have hP : va_P D vwCl [(r_2, f4 (q_times (rq un i) v))] H := hP
      have hD : va_D A [(r_2, f4 (q_times (rq un i) v))] := hD
      have hbq := hbq.mov (hqw_4 _ hbq.lt (va_A_nil hbq.lt))
      have huF := huF.mov (hqw_4 _ huF.lt (va_A_nil huF.lt))
      refine lv_astore (lv' := [(8, .ref r_2), (7, .ref (ua i)), (6, .int (nI i)), (0, .ref hs), (1, .ref h0), (3, .ref bq), (4, .ref hu), (5, .int 24)]) hx hb dX2_greatest_34 hl (by decide) rfl (fun ls hl => ?_)
      refine lv_aload hx hb dX2_greatest_36 (lv_at hl 0 rfl) ?_
      refine lv_aload_n hx hb dX2_greatest_38 rfl (lv_at hl 5 rfl) ?_
      refine k_calli (wr := [(r_2, f4 (q_times (rq un i) v))]) (va_runV (As := [.ref bq]) (rest := []) ⟨hx, hb, hml, hown, hts⟩ (ct_X1_isGreater hk l D ca H.size r_2 bq (q_times (rq un i) v) (bst un 0 v i)) (cwV 1 hts (lw_V q473 q474 q475 q20 q476) rfl rfl rfl (by decide +kernel) ⟨Nat.le_of_ble_eq_true rfl, Nat.le_of_ble_eq_true rfl⟩) (k_preV hk hK hN hP hD [] (by decide) rfl ⟨(Fo.of hP 0 rfl), hbq⟩ hP rfl (q0 := 0) rfl) rfl rfl hl.1 rfl (lv_room (Nat.le_of_ble_eq_true rfl)) dX2_greatest_39 ⟨by show _ ≤ 24; omega, by show _ ≤ 96; omega⟩) hP hD hS hA [] [0] rfl rfl (by decide) (by decide) (fun r_5 u_6 H locs w_7 hP hD hxw_7 hzw_7 hqw_7 hS => ?_)
      have hbq := hbq.mov (hqw_7 _ hbq.lt (va_A_nil hbq.lt))
      have huF := huF.mov (hqw_7 _ huF.lt (va_A_nil huF.lt))
      obtain rfl : r_5 = bI (q_gt (q_times (rq un i) v) (bst un 0 v i)) := w_7
      refine lv_if_eq (tgt := 50) hx hb dX2_greatest_42 (by decide) (fun c_8 => ?_) (fun c_8 => ?_)
      · have c_8 := bI_z0 c_8
        refine lv_aload_n hx hb dX2_greatest_50 rfl (lv_at hl 5 rfl) ?_
        refine lv_astore_n (lv' := [(3, .ref bq), (8, .ref r_2), (7, .ref (ua i)), (6, .int (nI i)), (0, .ref hs), (1, .ref h0), (4, .ref hu), (5, .int 24)]) hx hb dX2_greatest_51 rfl hl (by decide) rfl (fun ls hl => ?_)
        refine lv_iinc (v := nI (i + 1)) (lv' := [(6, .int (nI (i + 1))), (3, .ref bq), (8, .ref r_2), (7, .ref (ua i)), (0, .ref hs), (1, .ref h0), (4, .ref hu), (5, .int 24)]) hx hb dX2_greatest_52 hl (k := 3) rfl (eq_add rfl rfl) (by decide) rfl (fun ls hl => ?_)
        refine lv_goto (tgt := 13) hx hb dX2_greatest_55 (by decide) ?_
        have hgt : q_gt (d_b 0 (rq un i) v) (bst un 0 v i) = false := by simpa [d_b] using c_8
        refine W.widen (k := i + 1) (n := 4 * (i + 1)) (by omega) (by omega) ?_
        exact ih (i + 1) bq (by omega) (by omega) _ _ _ (hP.sub [] rfl) (hD.sub [] (by decide) rfl) hS (lv_sub hl [0, 4, 5, 1, 6, 7] rfl) (by rw [bst_n hgt]; exact hbq)
      · have c_8 := bI_z1 c_8
        refine lv_aload hx hb dX2_greatest_45 (lv_at hl 0 rfl) ?_
        refine lv_goto (tgt := 51) hx hb dX2_greatest_47 (by decide) ?_
        refine lv_astore_n (lv' := [(3, .ref r_2), (8, .ref r_2), (7, .ref (ua i)), (6, .int (nI i)), (0, .ref hs), (1, .ref h0), (4, .ref hu), (5, .int 24)]) hx hb dX2_greatest_51 rfl hl (by decide) rfl (fun ls hl => ?_)
        refine lv_iinc (v := nI (i + 1)) (lv' := [(6, .int (nI (i + 1))), (3, .ref r_2), (8, .ref r_2), (7, .ref (ua i)), (0, .ref hs), (1, .ref h0), (4, .ref hu), (5, .int 24)]) hx hb dX2_greatest_52 hl (k := 3) rfl (eq_add rfl rfl) (by decide) rfl (fun ls hl => ?_)
        refine lv_goto (tgt := 13) hx hb dX2_greatest_55 (by decide) ?_
        have hgt : q_gt (d_b 0 (rq un i) v) (bst un 0 v i) = true := by simpa [d_b] using c_8
        refine W.widen (k := i + 1) (n := 4 * (i + 1)) (by omega) (by omega) ?_
        exact ih (i + 1) r_2 (by omega) (by omega) _ _ _ (hP.sub [] rfl) (hD.sub [] (by decide) rfl) hS (lv_sub hl [0, 4, 5, 1, 6, 7] rfl) (by rw [bst_y hgt]; exact (show Fo D H r_2 (d_b 0 (rq un i) v) from by simpa [d_b] using Fo.of hP 0 rfl))
set_option maxHeartbeats 4000000 in
set_option maxRecDepth 100000 in
theorem ct_X2_greatest_R (l : Launch) (D : va_G) (ca : Nat → ClassId) (zH : Nat) (hs h0 hu : Nat) (v : Q4) (ua : Nat → Nat) (un : AI)  : Met l yX2_greatest (ws_ yX2_greatest cX2_greatest 9 (some (.object "FourParts$Four"))) ({ frames := 4, cells := 24, slots := 96, locals := 91 }) (va_Pc [.ref hs, .ref h0, .ref hu] (pr_ NW D ca [] zH (fun H => So D H hs 2 ∧ Fo D H h0 v ∧ Un D ca H hu ua un))) (qR D (fun (u : Unit) => True) (fun u a => []) (fun u a H => Fo D H a (bst un 0 v 24)) (va_A [] zH)) 24 96 (va_A [] zH) := by
  have hk := NW_ok
  refine k_ofW (Qc := qR D (fun (u : Unit) => True) (fun u a => []) (fun u a H => Fo D H a (bst un 0 v 24))) (by decide) (Nat.le_of_ble_eq_true rfl) ?_
  intro p e s m below meth c ls A H hH hx hb hr hts hown hlocks hnm hml hsz hP hD hK hN hA hAn hS hro hl
  have hl : lv_has ls 9 [(0, .ref hs), (1, .ref h0), (2, .ref hu)] := hl
  obtain ⟨hF0, hF1, hU⟩ := hro
  have hnA : ∀ q, q < s.heap.size → ¬ A q := fun q h => k_new hAn h
  have nF0 := hnA _ hF0.lt
  have nF1 := hnA _ hF1.lt
  refine lv_aload_n hx hb dX2_greatest_0 rfl (lv_at hl 1 rfl) ?_
  refine lv_astore_n (lv' := [(3, .ref h0), (0, .ref hs), (1, .ref h0), (2, .ref hu)]) hx hb dX2_greatest_1 rfl hl (by decide) rfl (fun ls hl => ?_)
  refine lv_aload_n hx hb dX2_greatest_2 rfl (lv_at hl 3 rfl) ?_
  refine lv_astore (lv' := [(4, .ref hu), (3, .ref h0), (0, .ref hs), (1, .ref h0), (2, .ref hu)]) hx hb dX2_greatest_3 hl (by decide) rfl (fun ls hl => ?_)
  refine lv_aload hx hb dX2_greatest_5 (lv_at hl 0 rfl) ?_
  refine va_alen (v := 24) hx hb hK (hU.keep hS hnA).1 0 4 rfl rfl rfl dX2_greatest_7 ?_
  refine lv_istore (lv' := [(5, .int 24), (4, .ref hu), (3, .ref h0), (0, .ref hs), (1, .ref h0), (2, .ref hu)]) hx hb dX2_greatest_8 hl (by decide) rfl (fun ls hl => ?_)
  refine lv_iconst (v := 0) hx hb dX2_greatest_10 (by decide) ?_
  refine lv_istore (lv' := [(6, .int 0), (5, .int 24), (4, .ref hu), (3, .ref h0), (0, .ref hs), (1, .ref h0), (2, .ref hu)]) hx hb dX2_greatest_11 hl (by decide) rfl (fun ls hl => ?_)
  exact lp_X2_greatest_R hs h0 hu v ua un hU hnA hx hb hr hts hown hlocks hnm hml hK hN hA hF0 nF0 hF1 nF1 25 0 h0 (by omega) (by omega) _ _ _ hP hD hS (lv_sub hl [0, 4, 5, 3, 2, 1] rfl) (hF1.keep hS nF1)
set_option maxHeartbeats 4000000 in
set_option maxRecDepth 100000 in
theorem lp_X2_greatest_L  {l : Launch} {D : va_G} {ca : Nat → ClassId} (hs : Nat) (h0 : Nat) (hu : Nat) (v : Q4) (ua : Nat → Nat) (un : AI)  {p : Program} {e : Env} {s : State} {m : MethodId} {below : List Frame} {meth : Method} {c : Code} {A : Nat → Prop} (hU : Un D ca s.heap hu ua un) (hnA : ∀ q, q < s.heap.size → ¬ A q) (hx : p.tables.exec = Jvm.exec) (hb : c.code = cX2_greatest) (hr : meth.sig.returnType = (some (.object "FourParts$Four"))) (hts : ∀ w ∈ lw_all, w.before ([.ref hs, .ref h0, .ref hu] : List Value).toArray s = true) (hown : s.vm.findClass yX2_greatest.cls = some m.cls) (hlocks : meth.locks = false) (hnm : meth.name = yX2_greatest.name) (hml : c.maxLocals = 9) (hK : va_K D vwCl (tysG ca) s) (hN : NW s) (hA : ∀ q, s.heap.size ≤ q → A q) (hF0 : So D s.heap hs 3) (nF0 : ¬ A hs) (hF1 : Fo D s.heap h0 v) (nF1 : ¬ A h0) :
    ∀ (n : Nat) (i : Nat) (bq : Nat), (i ≤ 24) → (24 < n + i) →  ∀ (H : Heap) (locs : List Loc) (ls : Array Slot), va_P D vwCl [] H → va_D A [] → va_S A s.heap H locs → lv_has ls 9 [(6, .int (nI i)), (0, .ref hs), (1, .ref h0), (3, .ref bq), (4, .ref hu), (5, .int 24)] → Fo D H bq (bst un 1 v i) → W p l e ({ frames := 5, cells := 24, slots := 96, locals := 113 }) s m ([.ref hs, .ref h0, .ref hu] : List Value).toArray below meth c H locs i (4 * i) (MQ below (qR D (fun (u : Unit) => True) (fun u a => []) (fun u a H => Fo D H a (bst un 1 v 24)) A) ([.ref hs, .ref h0, .ref hu] : List Value).toArray s 24 96 A) (F0 m 13 ls []) := by
  intro n
  induction n with
  | zero =>
    intro i bq hi hfuel H locs ls hP hD hS hl hbq
    exact absurd hfuel (by omega)
  | succ n ih =>
    intro i bq hi hfuel H locs ls hP hD hS hl hbq
    have hk := NW_ok
    refine lv_iload hx hb dX2_greatest_13 (lv_at hl 0 rfl) ?_
    refine lv_iload hx hb dX2_greatest_15 (lv_at hl 5 rfl) ?_
    refine lv_icmp_ge (tgt := 58) hx hb dX2_greatest_17 (by decide) (fun c_1 => ?_) (fun c_1 => ?_)
    · have c_1 := le_y (a := 24) (b := i) rfl rfl (by omega) (by omega) c_1
      refine lv_aload_n hx hb dX2_greatest_58 rfl (lv_at hl 3 rfl) ?_
      exact k_aret () hx hb hr (Or.inl ⟨_, rfl⟩) hlocks (trivial) hP hD (by rw [show (24 : Nat) = i by omega]; exact hbq) hS (by omega) (by omega) dX2_greatest_59
    · have c_1 := le_no (a := 24) (b := i) rfl rfl (by omega) (by omega) c_1
      refine lv_aload hx hb dX2_greatest_20 (lv_at hl 4 rfl) ?_
      refine lv_iload hx hb dX2_greatest_22 (lv_at hl 0 rfl) ?_
      have hUh := hU.keep hS hnA
      refine va_aldq hx hb hK hUh.1 0 4 rfl rfl (vin_nI (a := i) rfl (by omega) (by decide)) dX2_greatest_24 ?_
      refine W.eq (g2 := F0 m 25 ls (.ref (ua i) :: [])) (by rw [nI_clamp (by omega)]; rfl) ?_
      have huF := hUh.2 i (by omega)
      refine lv_astore (lv' := [(7, .ref (ua i)), (6, .int (nI i)), (0, .ref hs), (1, .ref h0), (3, .ref bq), (4, .ref hu), (5, .int 24)]) hx hb dX2_greatest_25 hl (by decide) rfl (fun ls hl => ?_)
      refine lv_aload_n hx hb dX2_greatest_27 rfl (lv_at hl 2 rfl) ?_
      refine lv_aload hx hb dX2_greatest_28 (lv_at hl 0 rfl) ?_
      refine lv_aload_n hx hb dX2_greatest_30 rfl (lv_at hl 3 rfl) ?_
      refine k_callr (wr := []) (va_runU (x := ySide_product) (As := [.ref (ua i), .ref h0]) (rest := []) ⟨hx, hb, hml, hown, hts⟩ (ct_X4_product l D ca H.size hs (ua i) h0 (rq un i) v) (va_cwA (C := "FourParts$Left") (owner := "FourParts$Side") (x := ySide_product) 2 hts (lw_app (fun w hw => by simp only [List.mem_cons, List.not_mem_nil, or_false] at hw; rcases hw with e | e | e | e | e <;> rw [e] <;> first | exact q429 | exact q409 | exact q410 | exact q411 | exact q23) (lw_meth q412)) rfl rfl rfl (hN.2.2.1 _ (List.mem_of_getElem? (i := 1) rfl)) (by decide +kernel) ⟨Nat.le_of_ble_eq_true rfl, Nat.le_of_ble_eq_true rfl⟩) (k_preV hk hK hN hP hD [] (by decide) rfl ⟨(hF0.keep hS nF0), huF, (hF1.keep hS nF1)⟩ (hF0.keep hS nF0) rfl (q0 := 0) rfl) rfl rfl hl.1 rfl (lv_room (Nat.le_of_ble_eq_true rfl)) dX2_greatest_31 ⟨by show _ ≤ 24; omega, by show _ ≤ 96; omega⟩) hP hD hS hA [] [] rfl rfl (by decide) (by decide) (fun u_3 r_2 H locs w_4 hP hD hxw_4 hzw_4 hqw_4 hS => ?_)
      have hP : va_P D vwCl [(r_2, f4 (q_times v (rq un i)))] H := hP
      have hD : va_D A [(r_2, f4 (q_times v (rq un i)))] := hD
      have hbq := hbq.mov (hqw_4 _ hbq.lt (va_A_nil hbq.lt))
      have huF := huF.mov (hqw_4 _ huF.lt (va_A_nil huF.lt))
      refine lv_astore (lv' := [(8, .ref r_2), (7, .ref (ua i)), (6, .int (nI i)), (0, .ref hs), (1, .ref h0), (3, .ref bq), (4, .ref hu), (5, .int 24)]) hx hb dX2_greatest_34 hl (by decide) rfl (fun ls hl => ?_)
      refine lv_aload hx hb dX2_greatest_36 (lv_at hl 0 rfl) ?_
      refine lv_aload_n hx hb dX2_greatest_38 rfl (lv_at hl 5 rfl) ?_
      refine k_calli (wr := [(r_2, f4 (q_times v (rq un i)))]) (va_runV (As := [.ref bq]) (rest := []) ⟨hx, hb, hml, hown, hts⟩ (ct_X1_isGreater hk l D ca H.size r_2 bq (q_times v (rq un i)) (bst un 1 v i)) (cwV 1 hts (lw_V q473 q474 q475 q20 q476) rfl rfl rfl (by decide +kernel) ⟨Nat.le_of_ble_eq_true rfl, Nat.le_of_ble_eq_true rfl⟩) (k_preV hk hK hN hP hD [] (by decide) rfl ⟨(Fo.of hP 0 rfl), hbq⟩ hP rfl (q0 := 0) rfl) rfl rfl hl.1 rfl (lv_room (Nat.le_of_ble_eq_true rfl)) dX2_greatest_39 ⟨by show _ ≤ 24; omega, by show _ ≤ 96; omega⟩) hP hD hS hA [] [0] rfl rfl (by decide) (by decide) (fun r_5 u_6 H locs w_7 hP hD hxw_7 hzw_7 hqw_7 hS => ?_)
      have hbq := hbq.mov (hqw_7 _ hbq.lt (va_A_nil hbq.lt))
      have huF := huF.mov (hqw_7 _ huF.lt (va_A_nil huF.lt))
      obtain rfl : r_5 = bI (q_gt (q_times v (rq un i)) (bst un 1 v i)) := w_7
      refine lv_if_eq (tgt := 50) hx hb dX2_greatest_42 (by decide) (fun c_8 => ?_) (fun c_8 => ?_)
      · have c_8 := bI_z0 c_8
        refine lv_aload_n hx hb dX2_greatest_50 rfl (lv_at hl 5 rfl) ?_
        refine lv_astore_n (lv' := [(3, .ref bq), (8, .ref r_2), (7, .ref (ua i)), (6, .int (nI i)), (0, .ref hs), (1, .ref h0), (4, .ref hu), (5, .int 24)]) hx hb dX2_greatest_51 rfl hl (by decide) rfl (fun ls hl => ?_)
        refine lv_iinc (v := nI (i + 1)) (lv' := [(6, .int (nI (i + 1))), (3, .ref bq), (8, .ref r_2), (7, .ref (ua i)), (0, .ref hs), (1, .ref h0), (4, .ref hu), (5, .int 24)]) hx hb dX2_greatest_52 hl (k := 3) rfl (eq_add rfl rfl) (by decide) rfl (fun ls hl => ?_)
        refine lv_goto (tgt := 13) hx hb dX2_greatest_55 (by decide) ?_
        have hgt : q_gt (d_b 1 (rq un i) v) (bst un 1 v i) = false := by simpa [d_b] using c_8
        refine W.widen (k := i + 1) (n := 4 * (i + 1)) (by omega) (by omega) ?_
        exact ih (i + 1) bq (by omega) (by omega) _ _ _ (hP.sub [] rfl) (hD.sub [] (by decide) rfl) hS (lv_sub hl [0, 4, 5, 1, 6, 7] rfl) (by rw [bst_n hgt]; exact hbq)
      · have c_8 := bI_z1 c_8
        refine lv_aload hx hb dX2_greatest_45 (lv_at hl 0 rfl) ?_
        refine lv_goto (tgt := 51) hx hb dX2_greatest_47 (by decide) ?_
        refine lv_astore_n (lv' := [(3, .ref r_2), (8, .ref r_2), (7, .ref (ua i)), (6, .int (nI i)), (0, .ref hs), (1, .ref h0), (4, .ref hu), (5, .int 24)]) hx hb dX2_greatest_51 rfl hl (by decide) rfl (fun ls hl => ?_)
        refine lv_iinc (v := nI (i + 1)) (lv' := [(6, .int (nI (i + 1))), (3, .ref r_2), (8, .ref r_2), (7, .ref (ua i)), (0, .ref hs), (1, .ref h0), (4, .ref hu), (5, .int 24)]) hx hb dX2_greatest_52 hl (k := 3) rfl (eq_add rfl rfl) (by decide) rfl (fun ls hl => ?_)
        refine lv_goto (tgt := 13) hx hb dX2_greatest_55 (by decide) ?_
        have hgt : q_gt (d_b 1 (rq un i) v) (bst un 1 v i) = true := by simpa [d_b] using c_8
        refine W.widen (k := i + 1) (n := 4 * (i + 1)) (by omega) (by omega) ?_
        exact ih (i + 1) r_2 (by omega) (by omega) _ _ _ (hP.sub [] rfl) (hD.sub [] (by decide) rfl) hS (lv_sub hl [0, 4, 5, 1, 6, 7] rfl) (by rw [bst_y hgt]; exact (show Fo D H r_2 (d_b 1 (rq un i) v) from by simpa [d_b] using Fo.of hP 0 rfl))
set_option maxHeartbeats 4000000 in
set_option maxRecDepth 100000 in
theorem ct_X2_greatest_L (l : Launch) (D : va_G) (ca : Nat → ClassId) (zH : Nat) (hs h0 hu : Nat) (v : Q4) (ua : Nat → Nat) (un : AI)  : Met l yX2_greatest (ws_ yX2_greatest cX2_greatest 9 (some (.object "FourParts$Four"))) ({ frames := 5, cells := 24, slots := 96, locals := 113 }) (va_Pc [.ref hs, .ref h0, .ref hu] (pr_ NW D ca [] zH (fun H => So D H hs 3 ∧ Fo D H h0 v ∧ Un D ca H hu ua un))) (qR D (fun (u : Unit) => True) (fun u a => []) (fun u a H => Fo D H a (bst un 1 v 24)) (va_A [] zH)) 24 96 (va_A [] zH) := by
  have hk := NW_ok
  refine k_ofW (Qc := qR D (fun (u : Unit) => True) (fun u a => []) (fun u a H => Fo D H a (bst un 1 v 24))) (by decide) (Nat.le_of_ble_eq_true rfl) ?_
  intro p e s m below meth c ls A H hH hx hb hr hts hown hlocks hnm hml hsz hP hD hK hN hA hAn hS hro hl
  have hl : lv_has ls 9 [(0, .ref hs), (1, .ref h0), (2, .ref hu)] := hl
  obtain ⟨hF0, hF1, hU⟩ := hro
  have hnA : ∀ q, q < s.heap.size → ¬ A q := fun q h => k_new hAn h
  have nF0 := hnA _ hF0.lt
  have nF1 := hnA _ hF1.lt
  refine lv_aload_n hx hb dX2_greatest_0 rfl (lv_at hl 1 rfl) ?_
  refine lv_astore_n (lv' := [(3, .ref h0), (0, .ref hs), (1, .ref h0), (2, .ref hu)]) hx hb dX2_greatest_1 rfl hl (by decide) rfl (fun ls hl => ?_)
  refine lv_aload_n hx hb dX2_greatest_2 rfl (lv_at hl 3 rfl) ?_
  refine lv_astore (lv' := [(4, .ref hu), (3, .ref h0), (0, .ref hs), (1, .ref h0), (2, .ref hu)]) hx hb dX2_greatest_3 hl (by decide) rfl (fun ls hl => ?_)
  refine lv_aload hx hb dX2_greatest_5 (lv_at hl 0 rfl) ?_
  refine va_alen (v := 24) hx hb hK (hU.keep hS hnA).1 0 4 rfl rfl rfl dX2_greatest_7 ?_
  refine lv_istore (lv' := [(5, .int 24), (4, .ref hu), (3, .ref h0), (0, .ref hs), (1, .ref h0), (2, .ref hu)]) hx hb dX2_greatest_8 hl (by decide) rfl (fun ls hl => ?_)
  refine lv_iconst (v := 0) hx hb dX2_greatest_10 (by decide) ?_
  refine lv_istore (lv' := [(6, .int 0), (5, .int 24), (4, .ref hu), (3, .ref h0), (0, .ref hs), (1, .ref h0), (2, .ref hu)]) hx hb dX2_greatest_11 hl (by decide) rfl (fun ls hl => ?_)
  exact lp_X2_greatest_L hs h0 hu v ua un hU hnA hx hb hr hts hown hlocks hnm hml hK hN hA hF0 nF0 hF1 nF1 25 0 h0 (by omega) (by omega) _ _ _ hP hD hS (lv_sub hl [0, 4, 5, 3, 2, 1] rfl) (hF1.keep hS nF1)
