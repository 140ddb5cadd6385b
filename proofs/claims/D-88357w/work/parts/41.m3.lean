set_option maxHeartbeats 4000000 in
set_option maxRecDepth 100000 in
theorem lp_X5_rootOf {KN : State → Prop} (hk : KNok KN) {l : Launch} {D : va_G} {ca : Nat → ClassId} (a : Nat) (ha : a ≤ 800) {p : Program} {e : Env} {s : State} {m : MethodId} {below : List Frame} {meth : Method} {c : Code} {A : Nat → Prop}  (hx : p.tables.exec = Jvm.exec) (hb : c.code = cX5_rootOf) (hr : meth.sig.returnType = (some .int)) (hts : ∀ w ∈ lw_all, w.before ([.int (nI a)] : List Value).toArray s = true) (hown : s.vm.findClass yX5_rootOf.cls = some m.cls) (hlocks : meth.locks = false) (hnm : meth.name = yX5_rootOf.name) (hml : c.maxLocals = 2) (hK : va_K D vwCl (tysG ca) s) (hN : KN s) (hA : ∀ q, s.heap.size ≤ q → A q)  :
    ∀ (n : Nat) (k : Nat), (k * k ≤ a) → (30 ≤ n + k) →  ∀ (H : Heap) (locs : List Loc) (ls : Array Slot), va_P D vwCl [] H → va_D A [] → va_S A s.heap H locs → lv_has ls 2 [(1, .int (nI k)), (0, .int (nI a))] → W p l e ({ frames := 0, cells := 0, slots := 0, locals := 0 }) s m ([.int (nI a)] : List Value).toArray below meth c H locs 0 0 (MQ below (qI D (fun (r : Int32) (u : Nat) => r = nI u ∧ u * u ≤ a ∧ a < (u + 1) * (u + 1)) (fun u => []) (fun u H => True) A) ([.int (nI a)] : List Value).toArray s 0 0 A) (F0 m 2 ls []) := by
  intro n
  induction n with
  | zero =>
    intro k hk0 hfuel H locs ls hP hD hS hl 
    have := sq_lt (show 30 ≤ k by omega); omega
  | succ n ih =>
    intro k hk0 hfuel H locs ls hP hD hS hl 
    refine lv_iload_n hx hb dX5_rootOf_2 rfl (lv_at hl 0 rfl) ?_
    refine lv_iconst (v := 1) hx hb dX5_rootOf_3 (by decide) ?_
    refine lv_iadd hx hb dX5_rootOf_4 ?_
    refine lv_iload_n hx hb dX5_rootOf_5 rfl (lv_at hl 0 rfl) ?_
    refine lv_iconst (v := 1) hx hb dX5_rootOf_6 (by decide) ?_
    refine lv_iadd hx hb dX5_rootOf_7 ?_
    refine lv_imul hx hb dX5_rootOf_8 ?_
    refine lv_iload_n hx hb dX5_rootOf_9 rfl (lv_at hl 1 rfl) ?_
    refine lv_icmp_gt (tgt := 19) hx hb dX5_rootOf_10 (by decide) (fun c_1 => ?_) (fun c_1 => ?_)
    · have hk1 : k ≤ 28 := root_le (b := 28) hk0 (by omega)
      have hk2 := sq_lt (show k + 1 ≤ 29 by omega)
      have c_1 := lt_y (a := a) (b := (k + 1) * (k + 1)) rfl (eq_mul (eq_add rfl rfl) (eq_add rfl rfl)) (by omega) (by omega) c_1
      refine lv_iload_n hx hb dX5_rootOf_19 rfl (lv_at hl 0 rfl) ?_
      exact k_iret k hx hb hr hlocks (⟨rfl, hk0, c_1⟩) hP hD trivial hS (Nat.le_of_ble_eq_true rfl) (Nat.le_of_ble_eq_true rfl) dX5_rootOf_20
    · have hk1 : k ≤ 28 := root_le (b := 28) hk0 (by omega)
      have hk2 := sq_lt (show k + 1 ≤ 29 by omega)
      have c_1 := lt_no (a := a) (b := (k + 1) * (k + 1)) rfl (eq_mul (eq_add rfl rfl) (eq_add rfl rfl)) (by omega) (by omega) c_1
      refine lv_iinc (v := nI (k + 1)) (lv' := [(1, .int (nI (k + 1))), (0, .int (nI a))]) hx hb dX5_rootOf_13 hl (k := 0) rfl (eq_add rfl rfl) (by decide) rfl (fun ls hl => ?_)
      refine lv_goto (tgt := 2) hx hb dX5_rootOf_16 (by decide) ?_
      exact ih (k + 1) (by omega) (by omega) _ _ _ hP hD hS (lv_sub hl [0, 1] rfl) 
set_option maxHeartbeats 4000000 in
set_option maxRecDepth 100000 in
theorem ct_X5_rootOf {KN : State → Prop} (hk : KNok KN) (l : Launch) (D : va_G) (ca : Nat → ClassId) (zH : Nat) (a : Nat) (ha : a ≤ 800) : Met l yX5_rootOf (ws_ yX5_rootOf cX5_rootOf 2 (some .int)) ({ frames := 0, cells := 0, slots := 0, locals := 0 }) (va_Pc [.int (nI a)] (pr_ KN D ca [] zH (fun _ => True))) (qI D (fun (r : Int32) (u : Nat) => r = nI u ∧ u * u ≤ a ∧ a < (u + 1) * (u + 1)) (fun u => []) (fun u H => True) (va_A [] zH)) 0 0 (va_A [] zH) := by
  refine k_ofW (Qc := qI D (fun (r : Int32) (u : Nat) => r = nI u ∧ u * u ≤ a ∧ a < (u + 1) * (u + 1)) (fun u => []) (fun u H => True)) (by decide) (Nat.le_of_ble_eq_true rfl) ?_
  intro p e s m below meth c ls A H hH hx hb hr hts hown hlocks hnm hml hsz hP hD hK hN hA hAn hS hro hl
  have hl : lv_has ls 2 [(0, .int (nI a))] := hl
  refine lv_iconst (v := 0) hx hb dX5_rootOf_0 (by decide) ?_
  refine lv_istore_n (lv' := [(1, .int 0), (0, .int (nI a))]) hx hb dX5_rootOf_1 rfl hl (by decide) rfl (fun ls hl => ?_)
  exact lp_X5_rootOf hk a ha  hx hb hr hts hown hlocks hnm hml hK hN hA  30 0 (by omega) (by omega) _ _ _ hP hD hS (lv_sub hl [0, 1] rfl) 
set_option maxHeartbeats 4000000 in
set_option maxRecDepth 100000 in
theorem lp_X5_common {KN : State → Prop} (hk : KNok KN) {l : Launch} {D : va_G} {ca : Nat → ClassId} (a0 : Int64) (b0 : Int64)  {p : Program} {e : Env} {s : State} {m : MethodId} {below : List Frame} {meth : Method} {c : Code} {A : Nat → Prop}  (hx : p.tables.exec = Jvm.exec) (hb : c.code = cX5_common) (hr : meth.sig.returnType = (some .long)) (hts : ∀ w ∈ lw_all, w.before ([.long a0, .long b0] : List Value).toArray s = true) (hown : s.vm.findClass yX5_common.cls = some m.cls) (hlocks : meth.locks = false) (hnm : meth.name = yX5_common.name) (hml : c.maxLocals = 10) (hK : va_K D vwCl (tysG ca) s) (hN : KN s) (hA : ∀ q, s.heap.size ≤ q → A q)  :
    ∀ (n : Nat) (x : Nat) (y : Nat), (Nat.gcd x y = Nat.gcd a0.toInt.natAbs b0.toInt.natAbs) → (x < 2 ^ 31) → (y < 2 ^ 31) → (y < n) →  ∀ (H : Heap) (locs : List Loc) (ls : Array Slot), va_P D vwCl [] H → va_D A [] → va_S A s.heap H locs → lv_has ls 10 [(6, .long (lN y)), (4, .long (lN x))] → W p l e ({ frames := 0, cells := 0, slots := 0, locals := 0 }) s m ([.long a0, .long b0] : List Value).toArray below meth c H locs 0 0 (MQ below (qL D (fun (r : Int64) (u : Unit) => r = lN (Nat.gcd a0.toInt.natAbs b0.toInt.natAbs)) (fun u => []) (fun u H => True) A) ([.long a0, .long b0] : List Value).toArray s 0 0 A) (F0 m 28 ls []) := by
  intro n
  induction n with
  | zero =>
    intro x y hg hxb hyb hfuel H locs ls hP hD hS hl 
    exact absurd hfuel (by omega)
  | succ n ih =>
    intro x y hg hxb hyb hfuel H locs ls hP hD hS hl 
    refine lv_lload hx hb dX5_common_28 (lv_at hl 0 rfl) ?_
    refine lv_lconst (v := 0) hx hb dX5_common_30 (by decide) ?_
    refine k_lc_eq (tgt := 53) hx hb dX5_common_31 dX5_common_32 (by decide) (fun c_1 => ?_) (fun c_1 => ?_)
    · refine lv_lload hx hb dX5_common_53 (lv_at hl 1 rfl) ?_
      exact k_lret () hx hb hr hlocks (by rw [← hg, lN_z (by omega) c_1, Nat.gcd_zero_right]) hP hD trivial hS (Nat.le_of_ble_eq_true rfl) (Nat.le_of_ble_eq_true rfl) dX5_common_55
    · refine lv_lload hx hb dX5_common_35 (lv_at hl 1 rfl) ?_
      refine lv_lload hx hb dX5_common_37 (lv_at hl 0 rfl) ?_
      refine lv_lrem hx hb dX5_common_39 c_1 ?_
      refine lv_topl (fun z_2 ez_2 => ?_)
      obtain rfl : z_2 = lN (x % y) := ez_2.trans (pk_lRem (by omega) (Nat.pos_of_ne_zero (lN_nz c_1)) (by omega))
      refine lv_lstore (lv' := [(8, .long (lN (x % y))), (6, .long (lN y)), (4, .long (lN x))]) hx hb dX5_common_40 hl (by decide) rfl (fun ls hl => ?_)
      refine lv_lload hx hb dX5_common_42 (lv_at hl 1 rfl) ?_
      refine lv_lstore (lv' := [(4, .long (lN y)), (8, .long (lN (x % y))), (6, .long (lN y))]) hx hb dX5_common_44 hl (by decide) rfl (fun ls hl => ?_)
      refine lv_lload hx hb dX5_common_46 (lv_at hl 1 rfl) ?_
      refine lv_lstore (lv' := [(6, .long (lN (x % y))), (4, .long (lN y)), (8, .long (lN (x % y)))]) hx hb dX5_common_48 hl (by decide) rfl (fun ls hl => ?_)
      refine lv_goto (tgt := 28) hx hb dX5_common_50 (by decide) ?_
      exact ih y (x % y) ((gcd_st x y).trans hg) hyb (Nat.lt_of_lt_of_le (Nat.mod_lt x (Nat.pos_of_ne_zero (lN_nz c_1))) (by omega)) (by have := Nat.mod_lt x (Nat.pos_of_ne_zero (lN_nz c_1)); omega) _ _ _ hP hD hS (lv_sub hl [0, 1] rfl) 
set_option maxHeartbeats 4000000 in
set_option maxRecDepth 100000 in
theorem ct_X5_common {KN : State → Prop} (hk : KNok KN) (l : Launch) (D : va_G) (ca : Nat → ClassId) (zH : Nat) (a0 b0 : Int64) (ha : a0.toInt.natAbs < 2 ^ 31) (hb0 : b0.toInt.natAbs < 2 ^ 31) : Met l yX5_common (ws_ yX5_common cX5_common 10 (some .long)) ({ frames := 0, cells := 0, slots := 0, locals := 0 }) (va_Pc [.long a0, .long b0] (pr_ KN D ca [] zH (fun _ => True))) (qL D (fun (r : Int64) (u : Unit) => r = lN (Nat.gcd a0.toInt.natAbs b0.toInt.natAbs)) (fun u => []) (fun u H => True) (va_A [] zH)) 0 0 (va_A [] zH) := by
  refine k_ofW (Qc := qL D (fun (r : Int64) (u : Unit) => r = lN (Nat.gcd a0.toInt.natAbs b0.toInt.natAbs)) (fun u => []) (fun u H => True)) (by decide) (Nat.le_of_ble_eq_true rfl) ?_
  intro p e s m below meth c ls A H hH hx hb hr hts hown hlocks hnm hml hsz hP hD hK hN hA hAn hS hro hl
  have hl : lv_has ls 10 [(0, .long a0), (2, .long b0)] := hl
  refine lv_lload_n hx hb dX5_common_0 rfl (lv_at hl 0 rfl) ?_
  refine lv_lconst (v := 0) hx hb dX5_common_1 (by decide) ?_
  refine k_lc_ge (tgt := 11) hx hb dX5_common_2 dX5_common_3 (by decide) (fun c_1 => ?_) (fun c_1 => ?_)
  · refine lv_lload_n hx hb dX5_common_11 rfl (lv_at hl 0 rfl) ?_
    refine lv_topl (fun z_2 ez_2 => ?_)
    obtain rfl : z_2 = lN a0.toInt.natAbs := ez_2.trans (absL_pos c_1 ha)
    refine lv_lstore (lv' := [(4, .long (lN a0.toInt.natAbs)), (0, .long a0), (2, .long b0)]) hx hb dX5_common_12 hl (by decide) rfl (fun ls hl => ?_)
    refine lv_lload_n hx hb dX5_common_14 rfl (lv_at hl 2 rfl) ?_
    refine lv_lconst (v := 0) hx hb dX5_common_15 (by decide) ?_
    refine k_lc_ge (tgt := 25) hx hb dX5_common_16 dX5_common_17 (by decide) (fun c_3 => ?_) (fun c_3 => ?_)
    · refine lv_lload_n hx hb dX5_common_25 rfl (lv_at hl 2 rfl) ?_
      refine lv_topl (fun z_4 ez_4 => ?_)
      obtain rfl : z_4 = lN b0.toInt.natAbs := ez_4.trans (absL_pos c_3 hb0)
      refine lv_lstore (lv' := [(6, .long (lN b0.toInt.natAbs)), (4, .long (lN a0.toInt.natAbs)), (0, .long a0), (2, .long b0)]) hx hb dX5_common_26 hl (by decide) rfl (fun ls hl => ?_)
      exact lp_X5_common hk a0 b0  hx hb hr hts hown hlocks hnm hml hK hN hA  (b0.toInt.natAbs + 1) _ _ rfl ha hb0 (by omega) _ _ _ hP hD hS (lv_sub hl [0, 1] rfl) 
    · refine lv_lload_n hx hb dX5_common_20 rfl (lv_at hl 2 rfl) ?_
      refine lv_lneg hx hb dX5_common_21 ?_
      refine lv_goto (tgt := 26) hx hb dX5_common_22 (by decide) ?_
      refine lv_topl (fun z_5 ez_5 => ?_)
      obtain rfl : z_5 = lN b0.toInt.natAbs := ez_5.trans (absL_neg c_3 hb0)
      refine lv_lstore (lv' := [(6, .long (lN b0.toInt.natAbs)), (4, .long (lN a0.toInt.natAbs)), (0, .long a0), (2, .long b0)]) hx hb dX5_common_26 hl (by decide) rfl (fun ls hl => ?_)
      exact lp_X5_common hk a0 b0  hx hb hr hts hown hlocks hnm hml hK hN hA  (b0.toInt.natAbs + 1) _ _ rfl ha hb0 (by omega) _ _ _ hP hD hS (lv_sub hl [0, 1] rfl) 
  · refine lv_lload_n hx hb dX5_common_6 rfl (lv_at hl 0 rfl) ?_
    refine lv_lneg hx hb dX5_common_7 ?_
    refine lv_goto (tgt := 12) hx hb dX5_common_8 (by decide) ?_
    refine lv_topl (fun z_6 ez_6 => ?_)
    obtain rfl : z_6 = lN a0.toInt.natAbs := ez_6.trans (absL_neg c_1 ha)
    refine lv_lstore (lv' := [(4, .long (lN a0.toInt.natAbs)), (0, .long a0), (2, .long b0)]) hx hb dX5_common_12 hl (by decide) rfl (fun ls hl => ?_)
    refine lv_lload_n hx hb dX5_common_14 rfl (lv_at hl 2 rfl) ?_
    refine lv_lconst (v := 0) hx hb dX5_common_15 (by decide) ?_
    refine k_lc_ge (tgt := 25) hx hb dX5_common_16 dX5_common_17 (by decide) (fun c_7 => ?_) (fun c_7 => ?_)
    · refine lv_lload_n hx hb dX5_common_25 rfl (lv_at hl 2 rfl) ?_
      refine lv_topl (fun z_8 ez_8 => ?_)
      obtain rfl : z_8 = lN b0.toInt.natAbs := ez_8.trans (absL_pos c_7 hb0)
      refine lv_lstore (lv' := [(6, .long (lN b0.toInt.natAbs)), (4, .long (lN a0.toInt.natAbs)), (0, .long a0), (2, .long b0)]) hx hb dX5_common_26 hl (by decide) rfl (fun ls hl => ?_)
      exact lp_X5_common hk a0 b0  hx hb hr hts hown hlocks hnm hml hK hN hA  (b0.toInt.natAbs + 1) _ _ rfl ha hb0 (by omega) _ _ _ hP hD hS (lv_sub hl [0, 1] rfl) 
    · refine lv_lload_n hx hb dX5_common_20 rfl (lv_at hl 2 rfl) ?_
      refine lv_lneg hx hb dX5_common_21 ?_
      refine lv_goto (tgt := 26) hx hb dX5_common_22 (by decide) ?_
      refine lv_topl (fun z_9 ez_9 => ?_)
      obtain rfl : z_9 = lN b0.toInt.natAbs := ez_9.trans (absL_neg c_7 hb0)
      refine lv_lstore (lv' := [(6, .long (lN b0.toInt.natAbs)), (4, .long (lN a0.toInt.natAbs)), (0, .long a0), (2, .long b0)]) hx hb dX5_common_26 hl (by decide) rfl (fun ls hl => ?_)
      exact lp_X5_common hk a0 b0  hx hb hr hts hown hlocks hnm hml hK hN hA  (b0.toInt.natAbs + 1) _ _ rfl ha hb0 (by omega) _ _ _ hP hD hS (lv_sub hl [0, 1] rfl) 
set_option maxHeartbeats 4000000 in
set_option maxRecDepth 100000 in
theorem lp_X5_isPrimitive {KN : State → Prop} (hk : KNok KN) {l : Launch} {D : va_G} {ca : Nat → ClassId} (o : Nat) (ad : Nat → Nat) (nf : Int32) (mo : Int32) (t : Nat) (v : Q4) (hnn : q_null v = false) {p : Program} {e : Env} {s : State} {m : MethodId} {below : List Frame} {meth : Method} {c : Code} {A : Nat → Prop}  (hx : p.tables.exec = Jvm.exec) (hb : c.code = cX5_isPrimitive) (hr : meth.sig.returnType = (some .boolean)) (hts : ∀ w ∈ lw_all, w.before ([.ref o, .ref t] : List Value).toArray s = true) (hown : s.vm.findClass yX5_isPrimitive.cls = some m.cls) (hlocks : meth.locks = false) (hnm : meth.name = yX5_isPrimitive.name) (hml : c.maxLocals = 5) (hK : va_K D vwCl (tysG ca) s) (hN : KN s) (hA : ∀ q, s.heap.size ≤ q → A q)  :
    ∀ (n : Nat) (g : Nat) (tb : Bool), (∃ i, gN v = g * 2 ^ i) → (0 < g) → (g < 2 ^ 31) → (tb = true ↔ (gN v % 2 = 0 ∧ q_one (q_half v) = true)) → (g < n) →  ∀ (H : Heap) (locs : List Loc) (ls : Array Slot), va_P D vwCl [(o, mO ad nf mo), (t, a4 ca v)] H → va_D A [(o, mO ad nf mo), (t, a4 ca v)] → va_S A s.heap H locs → lv_has ls 5 [(4, .int (bI tb)), (2, .long (lN g))] → W p l e ({ frames := 1, cells := 0, slots := 0, locals := 29 }) s m ([.ref o, .ref t] : List Value).toArray below meth c H locs 0 0 (MQ below (qI D (fun (r : Int32) (u : Bool) => r = bI u ∧ (u = true ↔ m_prim v)) (fun u => [(o, mO ad nf mo), (t, a4 ca v)]) (fun u H => True) A) ([.ref o, .ref t] : List Value).toArray s 0 0 A) (F0 m 82 ls []) := by
  intro n
  induction n with
  | zero =>
    intro g tb hg hg0 hgb ht hfuel H locs ls hP hD hS hl 
    exact absurd hfuel (by omega)
  | succ n ih =>
    intro g tb hg hg0 hgb ht hfuel H locs ls hP hD hS hl 
    refine lv_lload_n hx hb dX5_isPrimitive_82 rfl (lv_at hl 1 rfl) ?_
    refine lv_ldc2 hx hb hown (hts _ q639) dX5_isPrimitive_83 ?_
    refine lv_lrem hx hb dX5_isPrimitive_86 (by decide) ?_
    refine lv_topl (fun z_1 ez_1 => ?_)
    obtain rfl : z_1 = lN (g % 2) := ez_1.trans (pk_lRem (b := 2) (by omega) (by decide) (by decide))
    refine lv_lconst (v := 0) hx hb dX5_isPrimitive_87 (by decide) ?_
    refine k_lc_ne (tgt := 101) hx hb dX5_isPrimitive_88 dX5_isPrimitive_89 (by decide) (fun c_2 => ?_) (fun c_2 => ?_)
    · refine lv_lload_n hx hb dX5_isPrimitive_101 rfl (lv_at hl 1 rfl) ?_
      refine lv_lconst (v := 1) hx hb dX5_isPrimitive_102 (by decide) ?_
      refine k_lc_ne (tgt := 116) hx hb dX5_isPrimitive_103 dX5_isPrimitive_104 (by decide) (fun c_3 => ?_) (fun c_3 => ?_)
      · refine lv_iconst (v := 0) hx hb dX5_isPrimitive_116 (by decide) ?_
        exact k_zret false hx hb hr hlocks (by decide) (⟨rfl, by simp only [Bool.false_eq_true, false_iff]; rintro ⟨-, ⟨k, hk1⟩, -⟩; obtain ⟨i, hi⟩ := hg; exact c_3 (by rw [odd_p2 k i g (by have := lN_nz c_2; omega) (hi.symm.trans hk1)]; rfl)⟩) hP hD trivial hS (Nat.le_of_ble_eq_true rfl) (Nat.le_of_ble_eq_true rfl) dX5_isPrimitive_117
      · refine lv_iload hx hb dX5_isPrimitive_107 (lv_at hl 0 rfl) ?_
        refine lv_if_ne (tgt := 116) hx hb dX5_isPrimitive_109 (by decide) (fun c_4 => ?_) (fun c_4 => ?_)
        · have c_4 := bI_z1 c_4
          refine lv_iconst (v := 0) hx hb dX5_isPrimitive_116 (by decide) ?_
          exact k_zret false hx hb hr hlocks (by decide) (⟨rfl, by simp only [Bool.false_eq_true, false_iff]; rintro ⟨-, -, h3⟩; exact h3 (ht.mp c_4)⟩) hP hD trivial hS (Nat.le_of_ble_eq_true rfl) (Nat.le_of_ble_eq_true rfl) dX5_isPrimitive_117
        · have c_4 := bI_z0 c_4
          refine lv_iconst (v := 1) hx hb dX5_isPrimitive_112 (by decide) ?_
          refine lv_goto (tgt := 117) hx hb dX5_isPrimitive_113 (by decide) ?_
          exact k_zret true hx hb hr hlocks (by decide) (⟨rfl, by simp only [true_iff]; refine ⟨hnn, ?_, fun z => absurd (ht.mpr z) (by rw [c_4]; decide)⟩; obtain ⟨i, hi⟩ := hg; have hg1 : g = 1 := (pk_lEQ (by omega) (by decide)).mp c_3; exact ⟨i, by rw [hi, hg1, Nat.one_mul]⟩⟩) hP hD trivial hS (Nat.le_of_ble_eq_true rfl) (Nat.le_of_ble_eq_true rfl) dX5_isPrimitive_117
    · refine lv_lload_n hx hb dX5_isPrimitive_92 rfl (lv_at hl 1 rfl) ?_
      refine lv_ldc2 hx hb hown (hts _ q639) dX5_isPrimitive_93 ?_
      refine lv_ldiv hx hb dX5_isPrimitive_96 (by decide) ?_
      refine lv_topl (fun z_5 ez_5 => ?_)
      obtain rfl : z_5 = lN (g / 2) := ez_5.trans (pk_lDiv (b := 2) (by omega) (by decide) (by decide))
      refine lv_lstore_n (lv' := [(2, .long (lN (g / 2))), (4, .int (bI tb))]) hx hb dX5_isPrimitive_97 rfl hl (by decide) rfl (fun ls hl => ?_)
      refine lv_goto (tgt := 82) hx hb dX5_isPrimitive_98 (by decide) ?_
      exact ih (g / 2) tb (by obtain ⟨i, hi⟩ := hg; have hz := (lN_z (by omega) c_2); exact ⟨i + 1, by rw [hi, Nat.pow_succ, Nat.mul_comm (2 ^ i) 2, ← Nat.mul_assoc]; congr 1; omega⟩) (by have hz := (lN_z (by omega) c_2); omega) (by omega) ht (by have hz := (lN_z (by omega) c_2); omega) _ _ _ hP hD hS (lv_sub hl [1, 0] rfl) 
set_option maxHeartbeats 4000000 in
set_option maxRecDepth 100000 in
theorem ct_X5_isPrimitive {KN : State → Prop} (hk : KNok KN) (l : Launch) (D : va_G) (ca : Nat → ClassId) (zH : Nat) (o : Nat) (ad : Nat → Nat) (nf mo : Int32) (t : Nat) (v : Q4) (hv : q_bd (2 ^ 30) v) : Met l yX5_isPrimitive (ws_ yX5_isPrimitive cX5_isPrimitive 5 (some .boolean)) ({ frames := 1, cells := 0, slots := 0, locals := 29 }) (va_Pc [.ref o, .ref t] (pr_ KN D ca [(o, mO ad nf mo), (t, a4 ca v)] zH (fun _ => True))) (qI D (fun (r : Int32) (u : Bool) => r = bI u ∧ (u = true ↔ m_prim v)) (fun u => [(o, mO ad nf mo), (t, a4 ca v)]) (fun u H => True) (va_A [(o, mO ad nf mo), (t, a4 ca v)] zH)) 0 0 (va_A [(o, mO ad nf mo), (t, a4 ca v)] zH) := by
  refine k_ofW (Qc := qI D (fun (r : Int32) (u : Bool) => r = bI u ∧ (u = true ↔ m_prim v)) (fun u => [(o, mO ad nf mo), (t, a4 ca v)]) (fun u H => True)) (by decide) (Nat.le_of_ble_eq_true rfl) ?_
  intro p e s m below meth c ls A H hH hx hb hr hts hown hlocks hnm hml hsz hP hD hK hN hA hAn hS hro hl
  have hl : lv_has ls 5 [(0, .ref o), (1, .ref t)] := hl
  refine lv_aload_n hx hb dX5_isPrimitive_0 rfl (lv_at hl 1 rfl) ?_
  refine k_calli (wr := [(o, mO ad nf mo)]) (va_runS (As := [.ref t]) (rest := []) ⟨hx, hb, hml, hown, hts⟩ (ct_X5_isNull hk l D ca H.size t v) (va_cwS 1 hts (lw_S q706 q707 q24 q708) rfl rfl rfl (by decide +kernel) ⟨Nat.le_of_ble_eq_true rfl, Nat.le_of_ble_eq_true rfl⟩) (k_pre hk hK hN hP hD [1] (by decide) rfl trivial) rfl rfl hl.1 rfl (lv_room (Nat.le_of_ble_eq_true rfl)) dX5_isPrimitive_1 ⟨Nat.le_of_ble_eq_true rfl, Nat.le_of_ble_eq_true rfl⟩) hP hD hS hA [1] [0] rfl rfl (by decide) (by decide) (fun r_1 u_2 H locs w_3 hP hD hxw_3 hzw_3 hqw_3 hS => ?_)
  have hP : va_P D vwCl [(o, mO ad nf mo), (t, a4 ca v)] H := hP
  have hD : va_D A [(o, mO ad nf mo), (t, a4 ca v)] := hD
  obtain rfl : r_1 = bI (q_null v) := w_3
  refine lv_if_eq (tgt := 9) hx hb dX5_isPrimitive_4 (by decide) (fun c_4 => ?_) (fun c_4 => ?_)
  · have c_4 := bI_z0 c_4
    obtain ⟨hv1, hv2, hv3, hv4⟩ := id hv
    have hgb := gN_lt hv
    have hgp : 0 < gN v := Nat.pos_of_ne_zero (fun z => by obtain ⟨z1, z2, z3, z4⟩ := gN_0 z; simp [q_null, z1, z2, z3, z4] at c_4)
    refine lv_aload_n hx hb dX5_isPrimitive_9 rfl (lv_at hl 1 rfl) ?_
    refine lv_iconst (v := 0) hx hb dX5_isPrimitive_10 (by decide) ?_
    refine va_lald hx hb hK hP 1 2 rfl rfl (vin (by decide)) dX5_isPrimitive_11 ?_
    refine lv_topl (fun z_5 ez_5 => ?_)
    obtain rfl : z_5 = v.1 := ez_5.trans rfl
    refine lv_aload_n hx hb dX5_isPrimitive_12 rfl (lv_at hl 1 rfl) ?_
    refine lv_iconst (v := 1) hx hb dX5_isPrimitive_13 (by decide) ?_
    refine va_lald hx hb hK hP 1 2 rfl rfl (vin (by decide)) dX5_isPrimitive_14 ?_
    refine lv_topl (fun z_6 ez_6 => ?_)
    obtain rfl : z_6 = v.2.1 := ez_6.trans rfl
    refine k_calll (wr := [(o, mO ad nf mo), (t, a4 ca v)]) (va_runS (As := [.long v.1, .long v.2.1]) (rest := []) ⟨hx, hb, hml, hown, hts⟩ (ct_X5_common hk l D ca H.size v.1 v.2.1 (Nat.lt_of_le_of_lt hv1 (by decide)) (Nat.lt_of_le_of_lt hv2 (by decide))) (va_cwS 2 hts (lw_S q709 q710 q24 q711) rfl rfl rfl (by decide +kernel) ⟨Nat.le_of_ble_eq_true rfl, Nat.le_of_ble_eq_true rfl⟩) (k_pre hk hK hN hP hD [] (by decide) rfl trivial) rfl rfl hl.1 rfl (lv_room (Nat.le_of_ble_eq_true rfl)) dX5_isPrimitive_15 ⟨Nat.le_of_ble_eq_true rfl, Nat.le_of_ble_eq_true rfl⟩) hP hD hS hA [] [0, 1] rfl rfl (by decide) (by decide) (fun r_7 u_8 H locs w_9 hP hD hxw_9 hzw_9 hqw_9 hS => ?_)
    obtain rfl : r_7 = lN (Nat.gcd v.1.toInt.natAbs v.2.1.toInt.natAbs) := w_9
    refine lv_aload_n hx hb dX5_isPrimitive_18 rfl (lv_at hl 1 rfl) ?_
    refine lv_iconst (v := 2) hx hb dX5_isPrimitive_19 (by decide) ?_
    refine va_lald hx hb hK hP 1 2 rfl rfl (vin (by decide)) dX5_isPrimitive_20 ?_
    refine lv_topl (fun z_10 ez_10 => ?_)
    obtain rfl : z_10 = v.2.2.1 := ez_10.trans rfl
    refine lv_aload_n hx hb dX5_isPrimitive_21 rfl (lv_at hl 1 rfl) ?_
    refine lv_iconst (v := 3) hx hb dX5_isPrimitive_22 (by decide) ?_
    refine va_lald hx hb hK hP 1 2 rfl rfl (vin (by decide)) dX5_isPrimitive_23 ?_
    refine lv_topl (fun z_11 ez_11 => ?_)
    obtain rfl : z_11 = v.2.2.2 := ez_11.trans rfl
    refine k_calll (wr := [(o, mO ad nf mo), (t, a4 ca v)]) (va_runS (As := [.long v.2.2.1, .long v.2.2.2]) (rest := [.long (lN (Nat.gcd v.1.toInt.natAbs v.2.1.toInt.natAbs))]) ⟨hx, hb, hml, hown, hts⟩ (ct_X5_common hk l D ca H.size v.2.2.1 v.2.2.2 (Nat.lt_of_le_of_lt hv3 (by decide)) (Nat.lt_of_le_of_lt hv4 (by decide))) (va_cwS 2 hts (lw_S q709 q710 q24 q711) rfl rfl rfl (by decide +kernel) ⟨Nat.le_of_ble_eq_true rfl, Nat.le_of_ble_eq_true rfl⟩) (k_pre hk hK hN hP hD [] (by decide) rfl trivial) rfl rfl hl.1 rfl (lv_room (Nat.le_of_ble_eq_true rfl)) dX5_isPrimitive_24 ⟨Nat.le_of_ble_eq_true rfl, Nat.le_of_ble_eq_true rfl⟩) hP hD hS hA [] [0, 1] rfl rfl (by decide) (by decide) (fun r_12 u_13 H locs w_14 hP hD hxw_14 hzw_14 hqw_14 hS => ?_)
    obtain rfl : r_12 = lN (Nat.gcd v.2.2.1.toInt.natAbs v.2.2.2.toInt.natAbs) := w_14
    refine k_calll (wr := [(o, mO ad nf mo), (t, a4 ca v)]) (va_runS (As := [.long (lN (Nat.gcd v.1.toInt.natAbs v.2.1.toInt.natAbs)), .long (lN (Nat.gcd v.2.2.1.toInt.natAbs v.2.2.2.toInt.natAbs))]) (rest := []) ⟨hx, hb, hml, hown, hts⟩ (ct_X5_common hk l D ca H.size (lN (Nat.gcd v.1.toInt.natAbs v.2.1.toInt.natAbs)) (lN (Nat.gcd v.2.2.1.toInt.natAbs v.2.2.2.toInt.natAbs)) (by rw [lN_na (Nat.lt_trans (gcd_lt (B := 2 ^ 31) (by omega) (by omega)) (by decide))]; exact gcd_lt (by omega) (by omega)) (by rw [lN_na (Nat.lt_trans (gcd_lt (B := 2 ^ 31) (by omega) (by omega)) (by decide))]; exact gcd_lt (by omega) (by omega))) (va_cwS 2 hts (lw_S q709 q710 q24 q711) rfl rfl rfl (by decide +kernel) ⟨Nat.le_of_ble_eq_true rfl, Nat.le_of_ble_eq_true rfl⟩) (k_pre hk hK hN hP hD [] (by decide) rfl trivial) rfl rfl hl.1 rfl (lv_room (Nat.le_of_ble_eq_true rfl)) dX5_isPrimitive_27 ⟨Nat.le_of_ble_eq_true rfl, Nat.le_of_ble_eq_true rfl⟩) hP hD hS hA [] [0, 1] rfl rfl (by decide) (by decide) (fun r_15 u_16 H locs w_17 hP hD hxw_17 hzw_17 hqw_17 hS => ?_)
    obtain rfl : r_15 = lN (Nat.gcd (lN (Nat.gcd v.1.toInt.natAbs v.2.1.toInt.natAbs)).toInt.natAbs (lN (Nat.gcd v.2.2.1.toInt.natAbs v.2.2.2.toInt.natAbs)).toInt.natAbs) := w_17
    refine lv_topl (fun z_18 ez_18 => ?_)
    obtain rfl : z_18 = lN (gN v) := ez_18.trans (by rw [lN_na (Nat.lt_trans (gcd_lt (B := 2 ^ 31) (by omega) (by omega)) (by decide)), lN_na (Nat.lt_trans (gcd_lt (B := 2 ^ 31) (by omega) (by omega)) (by decide))]; rfl)
    refine lv_lstore_n (lv' := [(2, .long (lN (gN v))), (0, .ref o), (1, .ref t)]) hx hb dX5_isPrimitive_30 rfl hl (by decide) rfl (fun ls hl => ?_)
    refine lv_lload_n hx hb dX5_isPrimitive_31 rfl (lv_at hl 0 rfl) ?_
    refine lv_ldc2 hx hb hown (hts _ q639) dX5_isPrimitive_32 ?_
    refine lv_lrem hx hb dX5_isPrimitive_35 (by decide) ?_
    refine lv_topl (fun z_19 ez_19 => ?_)
    obtain rfl : z_19 = lN (gN v % 2) := ez_19.trans (pk_lRem (b := 2) (by omega) (by decide) (by decide))
    refine lv_lconst (v := 0) hx hb dX5_isPrimitive_36 (by decide) ?_
    refine k_lc_ne (tgt := 79) hx hb dX5_isPrimitive_37 dX5_isPrimitive_38 (by decide) (fun c_20 => ?_) (fun c_20 => ?_)
    · refine lv_iconst (v := 0) hx hb dX5_isPrimitive_79 (by decide) ?_
      refine lv_istore (lv' := [(4, .int 0), (2, .long (lN (gN v))), (0, .ref o), (1, .ref t)]) hx hb dX5_isPrimitive_80 hl (by decide) rfl (fun ls hl => ?_)
      exact lp_X5_isPrimitive hk o ad nf mo t v c_4  hx hb hr hts hown hlocks hnm hml hK hN hA  (gN v + 1) (gN v) false ⟨0, by omega⟩ hgp (by omega) (by simp only [Bool.false_eq_true, false_iff]; rintro ⟨h1, -⟩; exact lN_nz c_20 h1) (by omega) _ _ _ hP hD hS (lv_sub hl [0, 1] rfl) 
    · refine lv_aload_n hx hb dX5_isPrimitive_41 rfl (lv_at hl 2 rfl) ?_
      refine lv_iconst (v := 0) hx hb dX5_isPrimitive_42 (by decide) ?_
      refine va_lald hx hb hK hP 1 2 rfl rfl (vin (by decide)) dX5_isPrimitive_43 ?_
      refine lv_topl (fun z_21 ez_21 => ?_)
      obtain rfl : z_21 = v.1 := ez_21.trans rfl
      refine lv_ldc2 hx hb hown (hts _ q639) dX5_isPrimitive_44 ?_
      refine lv_ldiv hx hb dX5_isPrimitive_47 (by decide) ?_
      refine lv_aload_n hx hb dX5_isPrimitive_48 rfl (lv_at hl 2 rfl) ?_
      refine lv_iconst (v := 1) hx hb dX5_isPrimitive_49 (by decide) ?_
      refine va_lald hx hb hK hP 1 2 rfl rfl (vin (by decide)) dX5_isPrimitive_50 ?_
      refine lv_topl (fun z_22 ez_22 => ?_)
      obtain rfl : z_22 = v.2.1 := ez_22.trans rfl
      refine lv_ldc2 hx hb hown (hts _ q639) dX5_isPrimitive_51 ?_
      refine lv_ldiv hx hb dX5_isPrimitive_54 (by decide) ?_
      refine lv_aload_n hx hb dX5_isPrimitive_55 rfl (lv_at hl 2 rfl) ?_
      refine lv_iconst (v := 2) hx hb dX5_isPrimitive_56 (by decide) ?_
      refine va_lald hx hb hK hP 1 2 rfl rfl (vin (by decide)) dX5_isPrimitive_57 ?_
      refine lv_topl (fun z_23 ez_23 => ?_)
      obtain rfl : z_23 = v.2.2.1 := ez_23.trans rfl
      refine lv_ldc2 hx hb hown (hts _ q639) dX5_isPrimitive_58 ?_
      refine lv_ldiv hx hb dX5_isPrimitive_61 (by decide) ?_
      refine lv_aload_n hx hb dX5_isPrimitive_62 rfl (lv_at hl 2 rfl) ?_
      refine lv_iconst (v := 3) hx hb dX5_isPrimitive_63 (by decide) ?_
      refine va_lald hx hb hK hP 1 2 rfl rfl (vin (by decide)) dX5_isPrimitive_64 ?_
      refine lv_topl (fun z_24 ez_24 => ?_)
      obtain rfl : z_24 = v.2.2.2 := ez_24.trans rfl
      refine lv_ldc2 hx hb hown (hts _ q639) dX5_isPrimitive_65 ?_
      refine lv_ldiv hx hb dX5_isPrimitive_68 (by decide) ?_
      refine k_calli (wr := [(o, mO ad nf mo), (t, a4 ca v)]) (va_runS (As := [.long (v.1 / 2), .long (v.2.1 / 2), .long (v.2.2.1 / 2), .long (v.2.2.2 / 2)]) (rest := []) ⟨hx, hb, hml, hown, hts⟩ (ct_X5_isOne hk l D ca H.size (v.1 / 2) (v.2.1 / 2) (v.2.2.1 / 2) (v.2.2.2 / 2)) (va_cwS 4 hts (lw_S q570 q571 q24 q572) rfl rfl rfl (by decide +kernel) ⟨Nat.le_of_ble_eq_true rfl, Nat.le_of_ble_eq_true rfl⟩) (k_pre hk hK hN hP hD [] (by decide) rfl trivial) rfl rfl hl.1 rfl (lv_room (Nat.le_of_ble_eq_true rfl)) dX5_isPrimitive_69 ⟨Nat.le_of_ble_eq_true rfl, Nat.le_of_ble_eq_true rfl⟩) hP hD hS hA [] [0, 1] rfl rfl (by decide) (by decide) (fun r_25 u_26 H locs w_27 hP hD hxw_27 hzw_27 hqw_27 hS => ?_)
      obtain rfl : r_25 = bI (p_one (v.1 / 2) (v.2.1 / 2) (v.2.2.1 / 2) (v.2.2.2 / 2)) := w_27
      refine lv_if_eq (tgt := 79) hx hb dX5_isPrimitive_72 (by decide) (fun c_28 => ?_) (fun c_28 => ?_)
      · have c_28 := bI_z0 c_28
        refine lv_iconst (v := 0) hx hb dX5_isPrimitive_79 (by decide) ?_
        refine lv_istore (lv' := [(4, .int 0), (2, .long (lN (gN v))), (0, .ref o), (1, .ref t)]) hx hb dX5_isPrimitive_80 hl (by decide) rfl (fun ls hl => ?_)
        exact lp_X5_isPrimitive hk o ad nf mo t v c_4  hx hb hr hts hown hlocks hnm hml hK hN hA  (gN v + 1) (gN v) false ⟨0, by omega⟩ hgp (by omega) (by simp only [Bool.false_eq_true, false_iff]; rintro ⟨-, h1⟩; exact absurd (h1.symm.trans c_28) (by decide)) (by omega) _ _ _ hP hD hS (lv_sub hl [0, 1] rfl) 
      · have c_28 := bI_z1 c_28
        refine lv_iconst (v := 1) hx hb dX5_isPrimitive_75 (by decide) ?_
        refine lv_goto (tgt := 80) hx hb dX5_isPrimitive_76 (by decide) ?_
        refine lv_istore (lv' := [(4, .int 1), (2, .long (lN (gN v))), (0, .ref o), (1, .ref t)]) hx hb dX5_isPrimitive_80 hl (by decide) rfl (fun ls hl => ?_)
        exact lp_X5_isPrimitive hk o ad nf mo t v c_4  hx hb hr hts hown hlocks hnm hml hK hN hA  (gN v + 1) (gN v) true ⟨0, by omega⟩ hgp (by omega) (by simp only [true_iff]; exact ⟨lN_z (by omega) c_20, c_28⟩) (by omega) _ _ _ hP hD hS (lv_sub hl [0, 1] rfl) 
  · have c_4 := bI_z1 c_4
    refine lv_iconst (v := 0) hx hb dX5_isPrimitive_7 (by decide) ?_
    exact k_zret false hx hb hr hlocks (by decide) (⟨rfl, by simp [m_prim, c_4]⟩) hP hD trivial hS (Nat.le_of_ble_eq_true rfl) (Nat.le_of_ble_eq_true rfl) dX5_isPrimitive_8
set_option maxHeartbeats 4000000 in
set_option maxRecDepth 100000 in
theorem lp_X5_unitOf {KN : State → Prop} (hk : KNok KN) {l : Launch} {D : va_G} {ca : Nat → ClassId} (o : Nat) (ad : Nat → Nat) (nf : Int32) (mo : Int32) (t : Nat) (un : Nat → Int32) (v : Q4)  {p : Program} {e : Env} {s : State} {m : MethodId} {below : List Frame} {meth : Method} {c : Code} {A : Nat → Prop}  (hx : p.tables.exec = Jvm.exec) (hb : c.code = cX5_unitOf) (hr : meth.sig.returnType = (some .int)) (hts : ∀ w ∈ lw_all, w.before ([.ref o, .ref t] : List Value).toArray s = true) (hown : s.vm.findClass yX5_unitOf.cls = some m.cls) (hlocks : meth.locks = false) (hnm : meth.name = yX5_unitOf.name) (hml : c.maxLocals = 3) (hK : va_K D vwCl (tysG ca) s) (hN : KN s) (hA : ∀ q, s.heap.size ≤ q → A q)  :
    ∀ (n : Nat) (i : Nat), (i ≤ 24) → (fstF (fun k => q_same v (rq un k)) 0 24 = fstF (fun k => q_same v (rq un k)) i (24 - i)) → (24 < n + i) →  ∀ (H : Heap) (locs : List Loc) (ls : Array Slot), va_P D vwCl [(o, mO ad nf mo), (ad 4, aI ca 96 un), (t, a4 ca v)] H → va_D A [(o, mO ad nf mo), (ad 4, aI ca 96 un), (t, a4 ca v)] → va_S A s.heap H locs → lv_has ls 3 [(2, .int (nI i)), (0, .ref o), (1, .ref t)] → W p l e ({ frames := 0, cells := 0, slots := 0, locals := 0 }) s m ([.ref o, .ref t] : List Value).toArray below meth c H locs 0 0 (MQ below (qI D (fun (r : Int32) (u : Unit) => r = oI (fstF (fun k => q_same v (rq un k)) 0 24)) (fun u => [(o, mO ad nf mo), (ad 4, aI ca 96 un), (t, a4 ca v)]) (fun u H => True) A) ([.ref o, .ref t] : List Value).toArray s 0 0 A) (F0 m 2 ls []) := by
  intro n
  induction n with
  | zero =>
    intro i hi hR hfuel H locs ls hP hD hS hl 
    exact absurd hfuel (by omega)
  | succ n ih =>
    intro i hi hR hfuel H locs ls hP hD hS hl 
    refine lv_iload_n hx hb dX5_unitOf_2 rfl (lv_at hl 0 rfl) ?_
    refine lv_bipush (v := 24) hx hb dX5_unitOf_3 (by decide) ?_
    refine lv_icmp_ge (tgt := 86) hx hb dX5_unitOf_5 (by decide) (fun c_1 => ?_) (fun c_1 => ?_)
    · have c_1 := le_y (a := 24) (b := i) rfl rfl (by omega) (by omega) c_1
      refine lv_bipush (v := (-4)) hx hb dX5_unitOf_86 (by decide) ?_
      exact k_iret () hx hb hr hlocks (by rw [hR, show 24 - i = 0 by omega]; rfl) hP hD trivial hS (Nat.le_of_ble_eq_true rfl) (Nat.le_of_ble_eq_true rfl) dX5_unitOf_88
    · have c_1 := le_no (a := 24) (b := i) rfl rfl (by omega) (by omega) c_1
      refine lv_aload_n hx hb dX5_unitOf_8 rfl (lv_at hl 2 rfl) ?_
      refine lv_iconst (v := 0) hx hb dX5_unitOf_9 (by decide) ?_
      refine va_lald hx hb hK hP 2 2 rfl rfl (vin (by decide)) dX5_unitOf_10 ?_
      refine lv_topl (fun z_2 ez_2 => ?_)
      obtain rfl : z_2 = v.1 := ez_2.trans rfl
      refine lv_aload_n hx hb dX5_unitOf_11 rfl (lv_at hl 1 rfl) ?_
      refine va_get (D := D) (ci := 4) (v := .ref (ad 4)) (C := RX5) (T := TX5) (N := 18) hx hb hts in_X5 hown hK hP 0 rfl rfl 4 (by decide) (hts _ q577) (fun _ h9 => h9) rfl dX5_unitOf_12 ?_
      refine lv_iconst (v := 4) hx hb dX5_unitOf_15 (by decide) ?_
      refine lv_iload_n hx hb dX5_unitOf_16 rfl (lv_at hl 0 rfl) ?_
      refine lv_imul hx hb dX5_unitOf_17 ?_
      refine va_iald hx hb hK hP 1 1 rfl rfl (vin_nI (a := 4 * i) (eq_mul rfl rfl) (by omega) (by omega)) dX5_unitOf_18 ?_
      refine lv_topi (fun z_3 ez_3 => ?_)
      obtain rfl : z_3 = un (4 * i) := ez_3.trans (cl_nI (a := 4 * i) un (eq_mul rfl rfl) (by omega))
      refine lv_i2l (v := (un (4 * i)).toInt64) hx hb dX5_unitOf_19 rfl ?_
      refine k_lc_ne (tgt := 80) hx hb dX5_unitOf_20 dX5_unitOf_21 (by decide) (fun c_4 => ?_) (fun c_4 => ?_)
      · refine lv_iinc (v := nI (i + 1)) (lv' := [(2, .int (nI (i + 1))), (0, .ref o), (1, .ref t)]) hx hb dX5_unitOf_80 hl (k := 0) rfl (eq_add rfl rfl) (by decide) rfl (fun ls hl => ?_)
        refine lv_goto (tgt := 2) hx hb dX5_unitOf_83 (by decide) ?_
        exact ih (i + 1) (by omega) (by rw [hR, fstF_n (by omega) (by simp [q_same, rq, c_4]), show 24 - i - 1 = 24 - (i + 1) by omega]) (by omega) _ _ _ hP hD hS (lv_sub hl [0, 1, 2] rfl) 
      · refine lv_aload_n hx hb dX5_unitOf_24 rfl (lv_at hl 2 rfl) ?_
        refine lv_iconst (v := 1) hx hb dX5_unitOf_25 (by decide) ?_
        refine va_lald hx hb hK hP 2 2 rfl rfl (vin (by decide)) dX5_unitOf_26 ?_
        refine lv_topl (fun z_5 ez_5 => ?_)
        obtain rfl : z_5 = v.2.1 := ez_5.trans rfl
        refine lv_aload_n hx hb dX5_unitOf_27 rfl (lv_at hl 1 rfl) ?_
        refine va_get (D := D) (ci := 4) (v := .ref (ad 4)) (C := RX5) (T := TX5) (N := 18) hx hb hts in_X5 hown hK hP 0 rfl rfl 4 (by decide) (hts _ q577) (fun _ h9 => h9) rfl dX5_unitOf_28 ?_
        refine lv_iconst (v := 4) hx hb dX5_unitOf_31 (by decide) ?_
        refine lv_iload_n hx hb dX5_unitOf_32 rfl (lv_at hl 0 rfl) ?_
        refine lv_imul hx hb dX5_unitOf_33 ?_
        refine lv_iconst (v := 1) hx hb dX5_unitOf_34 (by decide) ?_
        refine lv_iadd hx hb dX5_unitOf_35 ?_
        refine va_iald hx hb hK hP 1 1 rfl rfl (vin_nI (a := (4 * i) + 1) (eq_add (eq_mul rfl rfl) rfl) (by omega) (by omega)) dX5_unitOf_36 ?_
        refine lv_topi (fun z_6 ez_6 => ?_)
        obtain rfl : z_6 = un ((4 * i) + 1) := ez_6.trans (cl_nI (a := (4 * i) + 1) un (eq_add (eq_mul rfl rfl) rfl) (by omega))
        refine lv_i2l (v := (un ((4 * i) + 1)).toInt64) hx hb dX5_unitOf_37 rfl ?_
        refine k_lc_ne (tgt := 80) hx hb dX5_unitOf_38 dX5_unitOf_39 (by decide) (fun c_7 => ?_) (fun c_7 => ?_)
        · refine lv_iinc (v := nI (i + 1)) (lv' := [(2, .int (nI (i + 1))), (0, .ref o), (1, .ref t)]) hx hb dX5_unitOf_80 hl (k := 0) rfl (eq_add rfl rfl) (by decide) rfl (fun ls hl => ?_)
          refine lv_goto (tgt := 2) hx hb dX5_unitOf_83 (by decide) ?_
          exact ih (i + 1) (by omega) (by rw [hR, fstF_n (by omega) (by simp [q_same, rq, c_4, c_7]), show 24 - i - 1 = 24 - (i + 1) by omega]) (by omega) _ _ _ hP hD hS (lv_sub hl [0, 1, 2] rfl) 
        · refine lv_aload_n hx hb dX5_unitOf_42 rfl (lv_at hl 2 rfl) ?_
          refine lv_iconst (v := 2) hx hb dX5_unitOf_43 (by decide) ?_
          refine va_lald hx hb hK hP 2 2 rfl rfl (vin (by decide)) dX5_unitOf_44 ?_
          refine lv_topl (fun z_8 ez_8 => ?_)
          obtain rfl : z_8 = v.2.2.1 := ez_8.trans rfl
          refine lv_aload_n hx hb dX5_unitOf_45 rfl (lv_at hl 1 rfl) ?_
          refine va_get (D := D) (ci := 4) (v := .ref (ad 4)) (C := RX5) (T := TX5) (N := 18) hx hb hts in_X5 hown hK hP 0 rfl rfl 4 (by decide) (hts _ q577) (fun _ h9 => h9) rfl dX5_unitOf_46 ?_
          refine lv_iconst (v := 4) hx hb dX5_unitOf_49 (by decide) ?_
          refine lv_iload_n hx hb dX5_unitOf_50 rfl (lv_at hl 0 rfl) ?_
          refine lv_imul hx hb dX5_unitOf_51 ?_
          refine lv_iconst (v := 2) hx hb dX5_unitOf_52 (by decide) ?_
          refine lv_iadd hx hb dX5_unitOf_53 ?_
          refine va_iald hx hb hK hP 1 1 rfl rfl (vin_nI (a := (4 * i) + 2) (eq_add (eq_mul rfl rfl) rfl) (by omega) (by omega)) dX5_unitOf_54 ?_
          refine lv_topi (fun z_9 ez_9 => ?_)
          obtain rfl : z_9 = un ((4 * i) + 2) := ez_9.trans (cl_nI (a := (4 * i) + 2) un (eq_add (eq_mul rfl rfl) rfl) (by omega))
          refine lv_i2l (v := (un ((4 * i) + 2)).toInt64) hx hb dX5_unitOf_55 rfl ?_
          refine k_lc_ne (tgt := 80) hx hb dX5_unitOf_56 dX5_unitOf_57 (by decide) (fun c_10 => ?_) (fun c_10 => ?_)
          · refine lv_iinc (v := nI (i + 1)) (lv' := [(2, .int (nI (i + 1))), (0, .ref o), (1, .ref t)]) hx hb dX5_unitOf_80 hl (k := 0) rfl (eq_add rfl rfl) (by decide) rfl (fun ls hl => ?_)
            refine lv_goto (tgt := 2) hx hb dX5_unitOf_83 (by decide) ?_
            exact ih (i + 1) (by omega) (by rw [hR, fstF_n (by omega) (by simp [q_same, rq, c_4, c_7, c_10]), show 24 - i - 1 = 24 - (i + 1) by omega]) (by omega) _ _ _ hP hD hS (lv_sub hl [0, 1, 2] rfl) 
          · refine lv_aload_n hx hb dX5_unitOf_60 rfl (lv_at hl 2 rfl) ?_
            refine lv_iconst (v := 3) hx hb dX5_unitOf_61 (by decide) ?_
            refine va_lald hx hb hK hP 2 2 rfl rfl (vin (by decide)) dX5_unitOf_62 ?_
            refine lv_topl (fun z_11 ez_11 => ?_)
            obtain rfl : z_11 = v.2.2.2 := ez_11.trans rfl
            refine lv_aload_n hx hb dX5_unitOf_63 rfl (lv_at hl 1 rfl) ?_
            refine va_get (D := D) (ci := 4) (v := .ref (ad 4)) (C := RX5) (T := TX5) (N := 18) hx hb hts in_X5 hown hK hP 0 rfl rfl 4 (by decide) (hts _ q577) (fun _ h9 => h9) rfl dX5_unitOf_64 ?_
            refine lv_iconst (v := 4) hx hb dX5_unitOf_67 (by decide) ?_
            refine lv_iload_n hx hb dX5_unitOf_68 rfl (lv_at hl 0 rfl) ?_
            refine lv_imul hx hb dX5_unitOf_69 ?_
            refine lv_iconst (v := 3) hx hb dX5_unitOf_70 (by decide) ?_
            refine lv_iadd hx hb dX5_unitOf_71 ?_
            refine va_iald hx hb hK hP 1 1 rfl rfl (vin_nI (a := (4 * i) + 3) (eq_add (eq_mul rfl rfl) rfl) (by omega) (by omega)) dX5_unitOf_72 ?_
            refine lv_topi (fun z_12 ez_12 => ?_)
            obtain rfl : z_12 = un ((4 * i) + 3) := ez_12.trans (cl_nI (a := (4 * i) + 3) un (eq_add (eq_mul rfl rfl) rfl) (by omega))
            refine lv_i2l (v := (un ((4 * i) + 3)).toInt64) hx hb dX5_unitOf_73 rfl ?_
            refine k_lc_ne (tgt := 80) hx hb dX5_unitOf_74 dX5_unitOf_75 (by decide) (fun c_13 => ?_) (fun c_13 => ?_)
            · refine lv_iinc (v := nI (i + 1)) (lv' := [(2, .int (nI (i + 1))), (0, .ref o), (1, .ref t)]) hx hb dX5_unitOf_80 hl (k := 0) rfl (eq_add rfl rfl) (by decide) rfl (fun ls hl => ?_)
              refine lv_goto (tgt := 2) hx hb dX5_unitOf_83 (by decide) ?_
              exact ih (i + 1) (by omega) (by rw [hR, fstF_n (by omega) (by simp [q_same, rq, c_4, c_7, c_10, c_13]), show 24 - i - 1 = 24 - (i + 1) by omega]) (by omega) _ _ _ hP hD hS (lv_sub hl [0, 1, 2] rfl) 
            · refine lv_iload_n hx hb dX5_unitOf_78 rfl (lv_at hl 0 rfl) ?_
              exact k_iret () hx hb hr hlocks (by rw [hR, fstF_y (by omega) (by simp [q_same, rq, c_4, c_7, c_10, c_13])]; rfl) hP hD trivial hS (Nat.le_of_ble_eq_true rfl) (Nat.le_of_ble_eq_true rfl) dX5_unitOf_79
set_option maxHeartbeats 4000000 in
set_option maxRecDepth 100000 in
theorem ct_X5_unitOf {KN : State → Prop} (hk : KNok KN) (l : Launch) (D : va_G) (ca : Nat → ClassId) (zH : Nat) (o : Nat) (ad : Nat → Nat) (nf mo : Int32) (t : Nat) (un : Nat → Int32) (v : Q4)  : Met l yX5_unitOf (ws_ yX5_unitOf cX5_unitOf 3 (some .int)) ({ frames := 0, cells := 0, slots := 0, locals := 0 }) (va_Pc [.ref o, .ref t] (pr_ KN D ca [(o, mO ad nf mo), (ad 4, aI ca 96 un), (t, a4 ca v)] zH (fun _ => True))) (qI D (fun (r : Int32) (u : Unit) => r = oI (fstF (fun k => q_same v (rq un k)) 0 24)) (fun u => [(o, mO ad nf mo), (ad 4, aI ca 96 un), (t, a4 ca v)]) (fun u H => True) (va_A [(o, mO ad nf mo), (ad 4, aI ca 96 un), (t, a4 ca v)] zH)) 0 0 (va_A [(o, mO ad nf mo), (ad 4, aI ca 96 un), (t, a4 ca v)] zH) := by
  refine k_ofW (Qc := qI D (fun (r : Int32) (u : Unit) => r = oI (fstF (fun k => q_same v (rq un k)) 0 24)) (fun u => [(o, mO ad nf mo), (ad 4, aI ca 96 un), (t, a4 ca v)]) (fun u H => True)) (by decide) (Nat.le_of_ble_eq_true rfl) ?_
  intro p e s m below meth c ls A H hH hx hb hr hts hown hlocks hnm hml hsz hP hD hK hN hA hAn hS hro hl
  have hl : lv_has ls 3 [(0, .ref o), (1, .ref t)] := hl
  refine lv_iconst (v := 0) hx hb dX5_unitOf_0 (by decide) ?_
  refine lv_istore_n (lv' := [(2, .int 0), (0, .ref o), (1, .ref t)]) hx hb dX5_unitOf_1 rfl hl (by decide) rfl (fun ls hl => ?_)
  exact lp_X5_unitOf hk o ad nf mo t un v  hx hb hr hts hown hlocks hnm hml hK hN hA  25 0 (by omega) rfl (by omega) _ _ _ hP hD hS (lv_sub hl [0, 1, 2] rfl) 
set_option maxHeartbeats 4000000 in
set_option maxRecDepth 100000 in
theorem lp_X5_isPrime {KN : State → Prop} (hk : KNok KN) {l : Launch} {D : va_G} {ca : Nat → ClassId} (P : Nat) (hP0 : P < 2 ^ 40) (hP1 : 1 < P) {p : Program} {e : Env} {s : State} {m : MethodId} {below : List Frame} {meth : Method} {c : Code} {A : Nat → Prop}  (hx : p.tables.exec = Jvm.exec) (hb : c.code = cX5_isPrime) (hr : meth.sig.returnType = (some .boolean)) (hts : ∀ w ∈ lw_all, w.before ([.long (lN P)] : List Value).toArray s = true) (hown : s.vm.findClass yX5_isPrime.cls = some m.cls) (hlocks : meth.locks = false) (hnm : meth.name = yX5_isPrime.name) (hml : c.maxLocals = 5) (hK : va_K D vwCl (tysG ca) s) (hN : KN s) (hA : ∀ q, s.heap.size ≤ q → A q)  :
    ∀ (n : Nat) (d : Nat) (tb : Bool), (2 ≤ d) → (d ≤ 2 ^ 20 + 1) → (tb = true → ∀ e : Nat, 2 ≤ e → e < d → ¬ P % e = 0) → (tb = false → ¬ isPr P) → (2 ^ 20 + 2 ≤ n + d) →  ∀ (H : Heap) (locs : List Loc) (ls : Array Slot), va_P D vwCl [] H → va_D A [] → va_S A s.heap H locs → lv_has ls 5 [(3, .long (lN d)), (2, .int (bI tb)), (0, .long (lN P))] → W p l e ({ frames := 0, cells := 0, slots := 0, locals := 0 }) s m ([.long (lN P)] : List Value).toArray below meth c H locs 0 0 (MQ below (qI D (fun (r : Int32) (u : Bool) => r = bI u ∧ (u = true ↔ isPr (lN P).toInt)) (fun u => []) (fun u H => True) A) ([.long (lN P)] : List Value).toArray s 0 0 A) (F0 m 16 ls []) := by
  intro n
  induction n with
  | zero =>
    intro d tb hd hd2 hT hF hfuel H locs ls hP hD hS hl 
    exact absurd hfuel (by omega)
  | succ n ih =>
    intro d tb hd hd2 hT hF hfuel H locs ls hP hD hS hl 
    refine lv_lload_n hx hb dX5_isPrime_16 rfl (lv_at hl 0 rfl) ?_
    refine lv_lload_n hx hb dX5_isPrime_17 rfl (lv_at hl 0 rfl) ?_
    refine lv_lmul hx hb dX5_isPrime_18 ?_
    refine lv_lload_n hx hb dX5_isPrime_19 rfl (lv_at hl 2 rfl) ?_
    refine k_lc_gt (tgt := 49) hx hb dX5_isPrime_20 dX5_isPrime_21 (by decide) (fun c_1 => ?_) (fun c_1 => ?_)
    · have c_1 := (lN_sqlt (by omega) (by omega)).mp c_1
      refine lv_iload_n hx hb dX5_isPrime_49 rfl (lv_at hl 1 rfl) ?_
      exact k_zret tb hx hb hr hlocks (bI_nar _) (⟨rfl, by rw [pk_lT (by omega)]; exact ⟨fun z => isPr_n.mpr ⟨hP1, fun e he hl => hT z e he (Nat.lt_of_not_le fun q => by have := sq_lt q; omega)⟩, fun z => by cases htb : tb with
          | false => exact absurd z (hF htb)
          | true => rfl⟩⟩) hP hD trivial hS (Nat.le_of_ble_eq_true rfl) (Nat.le_of_ble_eq_true rfl) dX5_isPrime_50
    · have c_1 : d * d ≤ P := Nat.le_of_not_lt fun z => c_1 ((lN_sqlt (by omega) (by omega)).mpr z)
      have hd3 : d ≤ 2 ^ 20 := root_le (b := 2 ^ 20) c_1 (by omega)
      refine lv_iload_n hx hb dX5_isPrime_24 rfl (lv_at hl 1 rfl) ?_
      refine lv_if_eq (tgt := 49) hx hb dX5_isPrime_25 (by decide) (fun c_2 => ?_) (fun c_2 => ?_)
      · have c_2 := bI_z0 c_2
        refine lv_iload_n hx hb dX5_isPrime_49 rfl (lv_at hl 1 rfl) ?_
        exact k_zret tb hx hb hr hlocks (bI_nar _) (⟨rfl, by rw [pk_lT (by omega)]; exact ⟨fun z => absurd (z.symm.trans c_2) (by decide), fun z => absurd z (hF c_2)⟩⟩) hP hD trivial hS (Nat.le_of_ble_eq_true rfl) (Nat.le_of_ble_eq_true rfl) dX5_isPrime_50
      · have c_2 := bI_z1 c_2
        refine lv_lload_n hx hb dX5_isPrime_28 rfl (lv_at hl 2 rfl) ?_
        refine lv_lload_n hx hb dX5_isPrime_29 rfl (lv_at hl 0 rfl) ?_
        refine lv_lrem hx hb dX5_isPrime_30 (by intro z; have := lN_z (by omega) z; omega) ?_
        refine lv_topl (fun z_3 ez_3 => ?_)
        obtain rfl : z_3 = lN (P % d) := ez_3.trans (pk_lRem (by omega) (by omega) (by omega))
        refine lv_lconst (v := 0) hx hb dX5_isPrime_31 (by decide) ?_
        refine k_lc_eq (tgt := 40) hx hb dX5_isPrime_32 dX5_isPrime_33 (by decide) (fun c_4 => ?_) (fun c_4 => ?_)
        · refine lv_iconst (v := 0) hx hb dX5_isPrime_40 (by decide) ?_
          refine lv_istore_n (lv' := [(2, .int 0), (3, .long (lN d)), (0, .long (lN P))]) hx hb dX5_isPrime_41 rfl hl (by decide) rfl (fun ls hl => ?_)
          refine lv_lload_n hx hb dX5_isPrime_42 rfl (lv_at hl 1 rfl) ?_
          refine lv_lconst (v := 1) hx hb dX5_isPrime_43 (by decide) ?_
          refine lv_ladd hx hb dX5_isPrime_44 ?_
          refine lv_topl (fun z_5 ez_5 => ?_)
          obtain rfl : z_5 = lN (d + 1) := ez_5.trans (lN_1 d)
          refine lv_lstore_n (lv' := [(3, .long (lN (d + 1))), (2, .int 0), (0, .long (lN P))]) hx hb dX5_isPrime_45 rfl hl (by decide) rfl (fun ls hl => ?_)
          refine lv_goto (tgt := 16) hx hb dX5_isPrime_46 (by decide) ?_
          exact ih (d + 1) false (by omega) (by omega) (fun z => absurd z (by decide)) (fun _ z => (isPr_n.mp z).2 d hd c_1 (lN_z (by have := Nat.mod_lt P (show 0 < d by omega); omega) c_4)) (by omega) _ _ _ hP hD hS (lv_sub hl [0, 1, 2] rfl) 
        · refine lv_iconst (v := 1) hx hb dX5_isPrime_36 (by decide) ?_
          refine lv_goto (tgt := 41) hx hb dX5_isPrime_37 (by decide) ?_
          refine lv_istore_n (lv' := [(2, .int 1), (3, .long (lN d)), (0, .long (lN P))]) hx hb dX5_isPrime_41 rfl hl (by decide) rfl (fun ls hl => ?_)
          refine lv_lload_n hx hb dX5_isPrime_42 rfl (lv_at hl 1 rfl) ?_
          refine lv_lconst (v := 1) hx hb dX5_isPrime_43 (by decide) ?_
          refine lv_ladd hx hb dX5_isPrime_44 ?_
          refine lv_topl (fun z_6 ez_6 => ?_)
          obtain rfl : z_6 = lN (d + 1) := ez_6.trans (lN_1 d)
          refine lv_lstore_n (lv' := [(3, .long (lN (d + 1))), (2, .int 1), (0, .long (lN P))]) hx hb dX5_isPrime_45 rfl hl (by decide) rfl (fun ls hl => ?_)
          refine lv_goto (tgt := 16) hx hb dX5_isPrime_46 (by decide) ?_
          exact ih (d + 1) true (by omega) (by omega) (fun _ => pr_ext (hT c_2) (fun z => lN_nz c_4 z)) (fun z => absurd z (by decide)) (by omega) _ _ _ hP hD hS (lv_sub hl [0, 1, 2] rfl) 
set_option maxHeartbeats 4000000 in
set_option maxRecDepth 100000 in
theorem ct_X5_isPrime {KN : State → Prop} (hk : KNok KN) (l : Launch) (D : va_G) (ca : Nat → ClassId) (zH : Nat) (p0 : Int64) (hp0 : p0.toInt < 2 ^ 40) : Met l yX5_isPrime (ws_ yX5_isPrime cX5_isPrime 5 (some .boolean)) ({ frames := 0, cells := 0, slots := 0, locals := 0 }) (va_Pc [.long p0] (pr_ KN D ca [] zH (fun _ => True))) (qI D (fun (r : Int32) (u : Bool) => r = bI u ∧ (u = true ↔ isPr p0.toInt)) (fun u => []) (fun u H => True) (va_A [] zH)) 0 0 (va_A [] zH) := by
  refine k_ofW (Qc := qI D (fun (r : Int32) (u : Bool) => r = bI u ∧ (u = true ↔ isPr p0.toInt)) (fun u => []) (fun u H => True)) (by decide) (Nat.le_of_ble_eq_true rfl) ?_
  intro p e s m below meth c ls A H hH hx hb hr hts hown hlocks hnm hml hsz hP hD hK hN hA hAn hS hro hl
  have hl : lv_has ls 5 [(0, .long p0)] := hl
  refine lv_lload_n hx hb dX5_isPrime_0 rfl (lv_at hl 0 rfl) ?_
  refine lv_lconst (v := 1) hx hb dX5_isPrime_1 (by decide) ?_
  refine k_lc_le (tgt := 10) hx hb dX5_isPrime_2 dX5_isPrime_3 (by decide) (fun c_1 => ?_) (fun c_1 => ?_)
  · refine lv_iconst (v := 0) hx hb dX5_isPrime_10 (by decide) ?_
    refine lv_istore_n (lv' := [(2, .int 0), (0, .long p0)]) hx hb dX5_isPrime_11 rfl hl (by decide) rfl (fun ls hl => ?_)
    refine lv_ldc2 hx hb hown (hts _ q639) dX5_isPrime_12 ?_
    refine lv_lstore_n (lv' := [(3, .long 2), (2, .int 0), (0, .long p0)]) hx hb dX5_isPrime_15 rfl hl (by decide) rfl (fun ls hl => ?_)
    refine lv_lload_n hx hb dX5_isPrime_16 rfl (lv_at hl 0 rfl) ?_
    refine lv_lload_n hx hb dX5_isPrime_17 rfl (lv_at hl 0 rfl) ?_
    refine lv_lmul hx hb dX5_isPrime_18 ?_
    refine lv_topl (fun z_2 ez_2 => ?_)
    obtain rfl : z_2 = 4 := ez_2.trans (by decide)
    refine lv_lload_n hx hb dX5_isPrime_19 rfl (lv_at hl 2 rfl) ?_
    refine k_lc_gt (tgt := 49) hx hb dX5_isPrime_20 dX5_isPrime_21 (by decide) (fun c_3 => ?_) (fun c_3 => absurd (l_le1 c_1) c_3)
    refine lv_iload_n hx hb dX5_isPrime_49 rfl (lv_at hl 1 rfl) ?_
    exact k_zret false hx hb hr hlocks (by decide) (⟨rfl, by simp only [Bool.false_eq_true, false_iff]; exact pr_le1 c_1⟩) hP hD trivial hS (Nat.le_of_ble_eq_true rfl) (Nat.le_of_ble_eq_true rfl) dX5_isPrime_50
  · obtain ⟨P, hP0, hP1, rfl⟩ := l_gt1 c_1 hp0
    refine lv_iconst (v := 1) hx hb dX5_isPrime_6 (by decide) ?_
    refine lv_goto (tgt := 11) hx hb dX5_isPrime_7 (by decide) ?_
    refine lv_istore_n (lv' := [(2, .int 1), (0, .long (lN P))]) hx hb dX5_isPrime_11 rfl hl (by decide) rfl (fun ls hl => ?_)
    refine lv_ldc2 hx hb hown (hts _ q639) dX5_isPrime_12 ?_
    refine lv_lstore_n (lv' := [(3, .long 2), (2, .int 1), (0, .long (lN P))]) hx hb dX5_isPrime_15 rfl hl (by decide) rfl (fun ls hl => ?_)
    exact lp_X5_isPrime hk P hP0 hP1  hx hb hr hts hown hlocks hnm hml hK hN hA  (2 ^ 20) 2 true (by omega) (by omega) (fun _ e h1 h2 => by omega) (fun z => absurd z (by decide)) (by omega) _ _ _ hP hD hS (lv_sub hl [0, 1, 2] rfl) 
